/-! RubberStamps -/
set_option maxRecDepth 100000
def RX1 : String := "RubberStamps"
def TX1 : u_T := fun k => match k with
  | 0 => ("RubberStamps", "state", "LRubberStamps$State;", false)
  | 1 => ("RubberStamps", "saved", "Ljava/util/ArrayDeque;", true)
  | 2 => ("RubberStamps", "plans", "LRubberStamps$Plans;", true)
  | 3 => ("RubberStamps", "orders", "LRubberStamps$Orders;", true)
  | 4 => ("RubberStamps", "trial", "LRubberStamps$Inks;", true)
  | 5 => ("RubberStamps", "text", "[B", true)
  | _ => ("RubberStamps", "textLength", "I", false)
def tyX1 : Nat → FieldType := fun k => match k with
  | 0 => .object "RubberStamps$State"
  | 1 => .object "java/util/ArrayDeque"
  | 2 => .object "RubberStamps$Plans"
  | 3 => .object "RubberStamps$Orders"
  | 4 => .object "RubberStamps$Inks"
  | 5 => .array .byte
  | _ => .int
abbrev wsX10 : List Cond := u_ws RX1 TX1 7
theorem nmX1 : ∀ a, a < 7 → ∀ b, b < 7 → a ≠ b → (TX1 a).2.1 ≠ (TX1 b).2.1 := by decide +kernel
theorem tyX1_ok : ∀ k, k < 7 → parseFieldDescriptor (TX1 k).2.2.1 = some (tyX1 k) := by decide +kernel
abbrev cX1_init : ByteArray := prog_1_method_7_code
def yX1_init : MethodName := ⟨RX1, "<init>", "()V"⟩
def dkwX1_init_2 : List UInt8 := [181, 0, 75, 42, 187, 0, 79, 89, 183, 0, 81, 181, 0, 82, 42, 17, 0, 150, 188, 8, 181, 0, 86, 177]
abbrev dktX1_init_2 : List UInt8 := dkwX1_init_2 ++ []
def dkwX1_init_1 : List UInt8 := [181, 0, 61, 42, 187, 0, 65, 89, 183, 0, 67, 181, 0, 68, 42, 187, 0, 72, 89, 183, 0, 74]
abbrev dktX1_init_1 : List UInt8 := dkwX1_init_1 ++ dktX1_init_2
def dkwX1_init_0 : List UInt8 := [42, 183, 0, 48, 42, 187, 0, 51, 89, 183, 0, 53, 181, 0, 54, 42, 187, 0, 58, 89, 183, 0, 60]
abbrev dktX1_init_0 : List UInt8 := dkwX1_init_0 ++ dktX1_init_1
theorem dksX1_init_0 : cX1_init.data.toList.drop 0 = dktX1_init_0 := by decide +kernel
theorem dksX1_init_1 : cX1_init.data.toList.drop 23 = dktX1_init_1 := dk_seg dksX1_init_0 23 rfl rfl
theorem dksX1_init_2 : cX1_init.data.toList.drop 45 = dktX1_init_2 := dk_seg dksX1_init_1 22 rfl rfl
theorem dX1_init_0 : decode cX1_init 0 = .ok (.aload_n 0, 1) := dk_42 (dk_at dksX1_init_0 0 rfl rfl)
theorem dX1_init_1 : decode cX1_init 1 = .ok (.invokespecial 48, 3) := dk_183 0 48 (dk_at dksX1_init_0 1 rfl rfl)
theorem dX1_init_4 : decode cX1_init 4 = .ok (.aload_n 0, 1) := dk_42 (dk_at dksX1_init_0 4 rfl rfl)
theorem dX1_init_5 : decode cX1_init 5 = .ok (.new 51, 3) := dk_187 0 51 (dk_at dksX1_init_0 5 rfl rfl)
theorem dX1_init_8 : decode cX1_init 8 = .ok (.dup, 1) := dk_89 (dk_at dksX1_init_0 8 rfl rfl)
theorem dX1_init_9 : decode cX1_init 9 = .ok (.invokespecial 53, 3) := dk_183 0 53 (dk_at dksX1_init_0 9 rfl rfl)
theorem dX1_init_12 : decode cX1_init 12 = .ok (.putfield 54, 3) := dk_181 0 54 (dk_at dksX1_init_0 12 rfl rfl)
theorem dX1_init_15 : decode cX1_init 15 = .ok (.aload_n 0, 1) := dk_42 (dk_at dksX1_init_0 15 rfl rfl)
theorem dX1_init_16 : decode cX1_init 16 = .ok (.new 58, 3) := dk_187 0 58 (dk_at dksX1_init_0 16 rfl rfl)
theorem dX1_init_19 : decode cX1_init 19 = .ok (.dup, 1) := dk_89 (dk_at dksX1_init_0 19 rfl rfl)
theorem dX1_init_20 : decode cX1_init 20 = .ok (.invokespecial 60, 3) := dk_183 0 60 (dk_at dksX1_init_0 20 rfl rfl)
theorem dX1_init_23 : decode cX1_init 23 = .ok (.putfield 61, 3) := dk_181 0 61 (dk_at dksX1_init_1 0 rfl rfl)
theorem dX1_init_26 : decode cX1_init 26 = .ok (.aload_n 0, 1) := dk_42 (dk_at dksX1_init_1 3 rfl rfl)
theorem dX1_init_27 : decode cX1_init 27 = .ok (.new 65, 3) := dk_187 0 65 (dk_at dksX1_init_1 4 rfl rfl)
theorem dX1_init_30 : decode cX1_init 30 = .ok (.dup, 1) := dk_89 (dk_at dksX1_init_1 7 rfl rfl)
theorem dX1_init_31 : decode cX1_init 31 = .ok (.invokespecial 67, 3) := dk_183 0 67 (dk_at dksX1_init_1 8 rfl rfl)
theorem dX1_init_34 : decode cX1_init 34 = .ok (.putfield 68, 3) := dk_181 0 68 (dk_at dksX1_init_1 11 rfl rfl)
theorem dX1_init_37 : decode cX1_init 37 = .ok (.aload_n 0, 1) := dk_42 (dk_at dksX1_init_1 14 rfl rfl)
theorem dX1_init_38 : decode cX1_init 38 = .ok (.new 72, 3) := dk_187 0 72 (dk_at dksX1_init_1 15 rfl rfl)
theorem dX1_init_41 : decode cX1_init 41 = .ok (.dup, 1) := dk_89 (dk_at dksX1_init_1 18 rfl rfl)
theorem dX1_init_42 : decode cX1_init 42 = .ok (.invokespecial 74, 3) := dk_183 0 74 (dk_at dksX1_init_1 19 rfl rfl)
theorem dX1_init_45 : decode cX1_init 45 = .ok (.putfield 75, 3) := dk_181 0 75 (dk_at dksX1_init_2 0 rfl rfl)
theorem dX1_init_48 : decode cX1_init 48 = .ok (.aload_n 0, 1) := dk_42 (dk_at dksX1_init_2 3 rfl rfl)
theorem dX1_init_49 : decode cX1_init 49 = .ok (.new 79, 3) := dk_187 0 79 (dk_at dksX1_init_2 4 rfl rfl)
theorem dX1_init_52 : decode cX1_init 52 = .ok (.dup, 1) := dk_89 (dk_at dksX1_init_2 7 rfl rfl)
theorem dX1_init_53 : decode cX1_init 53 = .ok (.invokespecial 81, 3) := dk_183 0 81 (dk_at dksX1_init_2 8 rfl rfl)
theorem dX1_init_56 : decode cX1_init 56 = .ok (.putfield 82, 3) := dk_181 0 82 (dk_at dksX1_init_2 11 rfl rfl)
theorem dX1_init_59 : decode cX1_init 59 = .ok (.aload_n 0, 1) := dk_42 (dk_at dksX1_init_2 14 rfl rfl)
theorem dX1_init_60 : decode cX1_init 60 = .ok (.sipush 150, 3) := dk_17 0 150 (dk_at dksX1_init_2 15 rfl rfl)
theorem dX1_init_63 : decode cX1_init 63 = .ok (.newarray .byte, 2) := dk_188_8 (dk_at dksX1_init_2 18 rfl rfl)
theorem dX1_init_65 : decode cX1_init 65 = .ok (.putfield 86, 3) := dk_181 0 86 (dk_at dksX1_init_2 20 rfl rfl)
theorem dX1_init_68 : decode cX1_init 68 = .ok (.return_, 1) := dk_177 (dk_at dksX1_init_2 23 rfl rfl)
abbrev cX1_clearText : ByteArray := prog_1_method_12_code
def yX1_clearText : MethodName := ⟨RX1, "clearText", "()I"⟩
def dkwX1_clearText_0 : List UInt8 := [42, 180, 0, 134, 60, 42, 3, 181, 0, 134, 27, 172]
abbrev dktX1_clearText_0 : List UInt8 := dkwX1_clearText_0 ++ []
theorem dksX1_clearText_0 : cX1_clearText.data.toList.drop 0 = dktX1_clearText_0 := by decide +kernel
theorem dX1_clearText_0 : decode cX1_clearText 0 = .ok (.aload_n 0, 1) := dk_42 (dk_at dksX1_clearText_0 0 rfl rfl)
theorem dX1_clearText_1 : decode cX1_clearText 1 = .ok (.getfield 134, 3) := dk_180 0 134 (dk_at dksX1_clearText_0 1 rfl rfl)
theorem dX1_clearText_4 : decode cX1_clearText 4 = .ok (.istore_n 1, 1) := dk_60 (dk_at dksX1_clearText_0 4 rfl rfl)
theorem dX1_clearText_5 : decode cX1_clearText 5 = .ok (.aload_n 0, 1) := dk_42 (dk_at dksX1_clearText_0 5 rfl rfl)
theorem dX1_clearText_6 : decode cX1_clearText 6 = .ok (.iconst 0, 1) := dk_3 (dk_at dksX1_clearText_0 6 rfl rfl)
theorem dX1_clearText_7 : decode cX1_clearText 7 = .ok (.putfield 134, 3) := dk_181 0 134 (dk_at dksX1_clearText_0 7 rfl rfl)
theorem dX1_clearText_10 : decode cX1_clearText 10 = .ok (.iload_n 1, 1) := dk_27 (dk_at dksX1_clearText_0 10 rfl rfl)
theorem dX1_clearText_11 : decode cX1_clearText 11 = .ok (.ireturn, 1) := dk_172 (dk_at dksX1_clearText_0 11 rfl rfl)
abbrev cX1_parse : ByteArray := prog_1_method_13_code
def yX1_parse : MethodName := ⟨RX1, "parse", "()I"⟩
def dkwX1_parse_4 : List UInt8 := [180, 0, 126, 182, 0, 109, 96, 172]
abbrev dktX1_parse_4 : List UInt8 := dkwX1_parse_4 ++ []
def dkwX1_parse_3 : List UInt8 := [44, 42, 180, 0, 54, 180, 0, 166, 181, 0, 166, 42, 44, 181, 0, 54, 44, 180, 0, 105, 182, 0, 109, 44]
abbrev dktX1_parse_3 : List UInt8 := dkwX1_parse_3 ++ dktX1_parse_4
def dkwX1_parse_2 : List UInt8 := [87, 44, 180, 0, 126, 43, 180, 0, 162, 182, 0, 158, 87, 44, 42, 180, 0, 54, 180, 0, 163, 181, 0, 163]
abbrev dktX1_parse_2 : List UInt8 := dkwX1_parse_2 ++ dktX1_parse_3
def dkwX1_parse_1 : List UInt8 := [172, 42, 182, 0, 154, 187, 0, 51, 89, 183, 0, 53, 77, 44, 180, 0, 105, 43, 180, 0, 157, 182, 0, 158]
abbrev dktX1_parse_1 : List UInt8 := dkwX1_parse_1 ++ dktX1_parse_2
def dkwX1_parse_0 : List UInt8 := [187, 0, 141, 89, 42, 183, 0, 143, 76, 43, 182, 0, 146, 167, 0, 12, 77, 16, 246, 44, 180, 0, 151, 100]
abbrev dktX1_parse_0 : List UInt8 := dkwX1_parse_0 ++ dktX1_parse_1
theorem dksX1_parse_0 : cX1_parse.data.toList.drop 0 = dktX1_parse_0 := by decide +kernel
theorem dksX1_parse_1 : cX1_parse.data.toList.drop 24 = dktX1_parse_1 := dk_seg dksX1_parse_0 24 rfl rfl
theorem dksX1_parse_2 : cX1_parse.data.toList.drop 48 = dktX1_parse_2 := dk_seg dksX1_parse_1 24 rfl rfl
theorem dksX1_parse_3 : cX1_parse.data.toList.drop 72 = dktX1_parse_3 := dk_seg dksX1_parse_2 24 rfl rfl
theorem dksX1_parse_4 : cX1_parse.data.toList.drop 96 = dktX1_parse_4 := dk_seg dksX1_parse_3 24 rfl rfl
theorem dX1_parse_0 : decode cX1_parse 0 = .ok (.new 141, 3) := dk_187 0 141 (dk_at dksX1_parse_0 0 rfl rfl)
theorem dX1_parse_3 : decode cX1_parse 3 = .ok (.dup, 1) := dk_89 (dk_at dksX1_parse_0 3 rfl rfl)
theorem dX1_parse_4 : decode cX1_parse 4 = .ok (.aload_n 0, 1) := dk_42 (dk_at dksX1_parse_0 4 rfl rfl)
theorem dX1_parse_5 : decode cX1_parse 5 = .ok (.invokespecial 143, 3) := dk_183 0 143 (dk_at dksX1_parse_0 5 rfl rfl)
theorem dX1_parse_8 : decode cX1_parse 8 = .ok (.astore_n 1, 1) := dk_76 (dk_at dksX1_parse_0 8 rfl rfl)
theorem dX1_parse_9 : decode cX1_parse 9 = .ok (.aload_n 1, 1) := dk_43 (dk_at dksX1_parse_0 9 rfl rfl)
theorem dX1_parse_10 : decode cX1_parse 10 = .ok (.invokevirtual 146, 3) := dk_182 0 146 (dk_at dksX1_parse_0 10 rfl rfl)
theorem dX1_parse_13 : decode cX1_parse 13 = .ok (.goto 12, 3) := dk_167 0 12 (dk_at dksX1_parse_0 13 rfl rfl)
theorem dX1_parse_16 : decode cX1_parse 16 = .ok (.astore_n 2, 1) := dk_77 (dk_at dksX1_parse_0 16 rfl rfl)
theorem dX1_parse_17 : decode cX1_parse 17 = .ok (.bipush (-10), 2) := dk_16 246 (dk_at dksX1_parse_0 17 rfl rfl)
theorem dX1_parse_19 : decode cX1_parse 19 = .ok (.aload_n 2, 1) := dk_44 (dk_at dksX1_parse_0 19 rfl rfl)
theorem dX1_parse_20 : decode cX1_parse 20 = .ok (.getfield 151, 3) := dk_180 0 151 (dk_at dksX1_parse_0 20 rfl rfl)
theorem dX1_parse_23 : decode cX1_parse 23 = .ok (.isub, 1) := dk_100 (dk_at dksX1_parse_0 23 rfl rfl)
theorem dX1_parse_24 : decode cX1_parse 24 = .ok (.ireturn, 1) := dk_172 (dk_at dksX1_parse_1 0 rfl rfl)
theorem dX1_parse_25 : decode cX1_parse 25 = .ok (.aload_n 0, 1) := dk_42 (dk_at dksX1_parse_1 1 rfl rfl)
theorem dX1_parse_26 : decode cX1_parse 26 = .ok (.invokevirtual 154, 3) := dk_182 0 154 (dk_at dksX1_parse_1 2 rfl rfl)
theorem dX1_parse_29 : decode cX1_parse 29 = .ok (.new 51, 3) := dk_187 0 51 (dk_at dksX1_parse_1 5 rfl rfl)
theorem dX1_parse_32 : decode cX1_parse 32 = .ok (.dup, 1) := dk_89 (dk_at dksX1_parse_1 8 rfl rfl)
theorem dX1_parse_33 : decode cX1_parse 33 = .ok (.invokespecial 53, 3) := dk_183 0 53 (dk_at dksX1_parse_1 9 rfl rfl)
theorem dX1_parse_36 : decode cX1_parse 36 = .ok (.astore_n 2, 1) := dk_77 (dk_at dksX1_parse_1 12 rfl rfl)
theorem dX1_parse_37 : decode cX1_parse 37 = .ok (.aload_n 2, 1) := dk_44 (dk_at dksX1_parse_1 13 rfl rfl)
theorem dX1_parse_38 : decode cX1_parse 38 = .ok (.getfield 105, 3) := dk_180 0 105 (dk_at dksX1_parse_1 14 rfl rfl)
theorem dX1_parse_41 : decode cX1_parse 41 = .ok (.aload_n 1, 1) := dk_43 (dk_at dksX1_parse_1 17 rfl rfl)
theorem dX1_parse_42 : decode cX1_parse 42 = .ok (.getfield 157, 3) := dk_180 0 157 (dk_at dksX1_parse_1 18 rfl rfl)
theorem dX1_parse_45 : decode cX1_parse 45 = .ok (.invokevirtual 158, 3) := dk_182 0 158 (dk_at dksX1_parse_1 21 rfl rfl)
theorem dX1_parse_48 : decode cX1_parse 48 = .ok (.pop, 1) := dk_87 (dk_at dksX1_parse_2 0 rfl rfl)
theorem dX1_parse_49 : decode cX1_parse 49 = .ok (.aload_n 2, 1) := dk_44 (dk_at dksX1_parse_2 1 rfl rfl)
theorem dX1_parse_50 : decode cX1_parse 50 = .ok (.getfield 126, 3) := dk_180 0 126 (dk_at dksX1_parse_2 2 rfl rfl)
theorem dX1_parse_53 : decode cX1_parse 53 = .ok (.aload_n 1, 1) := dk_43 (dk_at dksX1_parse_2 5 rfl rfl)
theorem dX1_parse_54 : decode cX1_parse 54 = .ok (.getfield 162, 3) := dk_180 0 162 (dk_at dksX1_parse_2 6 rfl rfl)
theorem dX1_parse_57 : decode cX1_parse 57 = .ok (.invokevirtual 158, 3) := dk_182 0 158 (dk_at dksX1_parse_2 9 rfl rfl)
theorem dX1_parse_60 : decode cX1_parse 60 = .ok (.pop, 1) := dk_87 (dk_at dksX1_parse_2 12 rfl rfl)
theorem dX1_parse_61 : decode cX1_parse 61 = .ok (.aload_n 2, 1) := dk_44 (dk_at dksX1_parse_2 13 rfl rfl)
theorem dX1_parse_62 : decode cX1_parse 62 = .ok (.aload_n 0, 1) := dk_42 (dk_at dksX1_parse_2 14 rfl rfl)
theorem dX1_parse_63 : decode cX1_parse 63 = .ok (.getfield 54, 3) := dk_180 0 54 (dk_at dksX1_parse_2 15 rfl rfl)
theorem dX1_parse_66 : decode cX1_parse 66 = .ok (.getfield 163, 3) := dk_180 0 163 (dk_at dksX1_parse_2 18 rfl rfl)
theorem dX1_parse_69 : decode cX1_parse 69 = .ok (.putfield 163, 3) := dk_181 0 163 (dk_at dksX1_parse_2 21 rfl rfl)
theorem dX1_parse_72 : decode cX1_parse 72 = .ok (.aload_n 2, 1) := dk_44 (dk_at dksX1_parse_3 0 rfl rfl)
theorem dX1_parse_73 : decode cX1_parse 73 = .ok (.aload_n 0, 1) := dk_42 (dk_at dksX1_parse_3 1 rfl rfl)
theorem dX1_parse_74 : decode cX1_parse 74 = .ok (.getfield 54, 3) := dk_180 0 54 (dk_at dksX1_parse_3 2 rfl rfl)
theorem dX1_parse_77 : decode cX1_parse 77 = .ok (.getfield 166, 3) := dk_180 0 166 (dk_at dksX1_parse_3 5 rfl rfl)
theorem dX1_parse_80 : decode cX1_parse 80 = .ok (.putfield 166, 3) := dk_181 0 166 (dk_at dksX1_parse_3 8 rfl rfl)
theorem dX1_parse_83 : decode cX1_parse 83 = .ok (.aload_n 0, 1) := dk_42 (dk_at dksX1_parse_3 11 rfl rfl)
theorem dX1_parse_84 : decode cX1_parse 84 = .ok (.aload_n 2, 1) := dk_44 (dk_at dksX1_parse_3 12 rfl rfl)
theorem dX1_parse_85 : decode cX1_parse 85 = .ok (.putfield 54, 3) := dk_181 0 54 (dk_at dksX1_parse_3 13 rfl rfl)
theorem dX1_parse_88 : decode cX1_parse 88 = .ok (.aload_n 2, 1) := dk_44 (dk_at dksX1_parse_3 16 rfl rfl)
theorem dX1_parse_89 : decode cX1_parse 89 = .ok (.getfield 105, 3) := dk_180 0 105 (dk_at dksX1_parse_3 17 rfl rfl)
theorem dX1_parse_92 : decode cX1_parse 92 = .ok (.invokevirtual 109, 3) := dk_182 0 109 (dk_at dksX1_parse_3 20 rfl rfl)
theorem dX1_parse_95 : decode cX1_parse 95 = .ok (.aload_n 2, 1) := dk_44 (dk_at dksX1_parse_3 23 rfl rfl)
theorem dX1_parse_96 : decode cX1_parse 96 = .ok (.getfield 126, 3) := dk_180 0 126 (dk_at dksX1_parse_4 0 rfl rfl)
theorem dX1_parse_99 : decode cX1_parse 99 = .ok (.invokevirtual 109, 3) := dk_182 0 109 (dk_at dksX1_parse_4 3 rfl rfl)
theorem dX1_parse_102 : decode cX1_parse 102 = .ok (.iadd, 1) := dk_96 (dk_at dksX1_parse_4 6 rfl rfl)
theorem dX1_parse_103 : decode cX1_parse 103 = .ok (.ireturn, 1) := dk_172 (dk_at dksX1_parse_4 7 rfl rfl)
abbrev cX1_turned : ByteArray := prog_1_method_6_code
def yX1_turned : MethodName := ⟨RX1, "turned", "(Ljava/lang/String;)Ljava/lang/String;"⟩
def dkwX1_turned_2 : List UInt8 := [182, 0, 40, 87, 132, 3, 255, 167, 255, 219, 28, 153, 0, 10, 43, 182, 0, 44, 167, 0, 4, 1, 176]
abbrev dktX1_turned_2 : List UInt8 := dkwX1_turned_2 ++ []
def dkwX1_turned_1 : List UInt8 := [182, 0, 30, 184, 0, 34, 54, 4, 28, 21, 4, 153, 0, 7, 4, 167, 0, 4, 3, 126, 61, 43, 21, 4]
abbrev dktX1_turned_1 : List UInt8 := dkwX1_turned_1 ++ dktX1_turned_2
def dkwX1_turned_0 : List UInt8 := [187, 0, 19, 89, 183, 0, 21, 76, 4, 61, 42, 182, 0, 24, 4, 100, 62, 29, 155, 0, 39, 42, 29]
abbrev dktX1_turned_0 : List UInt8 := dkwX1_turned_0 ++ dktX1_turned_1
theorem dksX1_turned_0 : cX1_turned.data.toList.drop 0 = dktX1_turned_0 := by decide +kernel
theorem dksX1_turned_1 : cX1_turned.data.toList.drop 23 = dktX1_turned_1 := dk_seg dksX1_turned_0 23 rfl rfl
theorem dksX1_turned_2 : cX1_turned.data.toList.drop 47 = dktX1_turned_2 := dk_seg dksX1_turned_1 24 rfl rfl
theorem dX1_turned_0 : decode cX1_turned 0 = .ok (.new 19, 3) := dk_187 0 19 (dk_at dksX1_turned_0 0 rfl rfl)
theorem dX1_turned_3 : decode cX1_turned 3 = .ok (.dup, 1) := dk_89 (dk_at dksX1_turned_0 3 rfl rfl)
theorem dX1_turned_4 : decode cX1_turned 4 = .ok (.invokespecial 21, 3) := dk_183 0 21 (dk_at dksX1_turned_0 4 rfl rfl)
theorem dX1_turned_7 : decode cX1_turned 7 = .ok (.astore_n 1, 1) := dk_76 (dk_at dksX1_turned_0 7 rfl rfl)
theorem dX1_turned_8 : decode cX1_turned 8 = .ok (.iconst 1, 1) := dk_4 (dk_at dksX1_turned_0 8 rfl rfl)
theorem dX1_turned_9 : decode cX1_turned 9 = .ok (.istore_n 2, 1) := dk_61 (dk_at dksX1_turned_0 9 rfl rfl)
theorem dX1_turned_10 : decode cX1_turned 10 = .ok (.aload_n 0, 1) := dk_42 (dk_at dksX1_turned_0 10 rfl rfl)
theorem dX1_turned_11 : decode cX1_turned 11 = .ok (.invokevirtual 24, 3) := dk_182 0 24 (dk_at dksX1_turned_0 11 rfl rfl)
theorem dX1_turned_14 : decode cX1_turned 14 = .ok (.iconst 1, 1) := dk_4 (dk_at dksX1_turned_0 14 rfl rfl)
theorem dX1_turned_15 : decode cX1_turned 15 = .ok (.isub, 1) := dk_100 (dk_at dksX1_turned_0 15 rfl rfl)
theorem dX1_turned_16 : decode cX1_turned 16 = .ok (.istore_n 3, 1) := dk_62 (dk_at dksX1_turned_0 16 rfl rfl)
theorem dX1_turned_17 : decode cX1_turned 17 = .ok (.iload_n 3, 1) := dk_29 (dk_at dksX1_turned_0 17 rfl rfl)
theorem dX1_turned_18 : decode cX1_turned 18 = .ok (.ifCond .lt 39, 3) := dk_155 0 39 (dk_at dksX1_turned_0 18 rfl rfl)
theorem dX1_turned_21 : decode cX1_turned 21 = .ok (.aload_n 0, 1) := dk_42 (dk_at dksX1_turned_0 21 rfl rfl)
theorem dX1_turned_22 : decode cX1_turned 22 = .ok (.iload_n 3, 1) := dk_29 (dk_at dksX1_turned_0 22 rfl rfl)
theorem dX1_turned_23 : decode cX1_turned 23 = .ok (.invokevirtual 30, 3) := dk_182 0 30 (dk_at dksX1_turned_1 0 rfl rfl)
theorem dX1_turned_26 : decode cX1_turned 26 = .ok (.invokestatic 34, 3) := dk_184 0 34 (dk_at dksX1_turned_1 3 rfl rfl)
theorem dX1_turned_29 : decode cX1_turned 29 = .ok (.istore 4, 2) := dk_54 4 (dk_at dksX1_turned_1 6 rfl rfl)
theorem dX1_turned_31 : decode cX1_turned 31 = .ok (.iload_n 2, 1) := dk_28 (dk_at dksX1_turned_1 8 rfl rfl)
theorem dX1_turned_32 : decode cX1_turned 32 = .ok (.iload 4, 2) := dk_21 4 (dk_at dksX1_turned_1 9 rfl rfl)
theorem dX1_turned_34 : decode cX1_turned 34 = .ok (.ifCond .eq 7, 3) := dk_153 0 7 (dk_at dksX1_turned_1 11 rfl rfl)
theorem dX1_turned_37 : decode cX1_turned 37 = .ok (.iconst 1, 1) := dk_4 (dk_at dksX1_turned_1 14 rfl rfl)
theorem dX1_turned_38 : decode cX1_turned 38 = .ok (.goto 4, 3) := dk_167 0 4 (dk_at dksX1_turned_1 15 rfl rfl)
theorem dX1_turned_41 : decode cX1_turned 41 = .ok (.iconst 0, 1) := dk_3 (dk_at dksX1_turned_1 18 rfl rfl)
theorem dX1_turned_42 : decode cX1_turned 42 = .ok (.iand, 1) := dk_126 (dk_at dksX1_turned_1 19 rfl rfl)
theorem dX1_turned_43 : decode cX1_turned 43 = .ok (.istore_n 2, 1) := dk_61 (dk_at dksX1_turned_1 20 rfl rfl)
theorem dX1_turned_44 : decode cX1_turned 44 = .ok (.aload_n 1, 1) := dk_43 (dk_at dksX1_turned_1 21 rfl rfl)
theorem dX1_turned_45 : decode cX1_turned 45 = .ok (.iload 4, 2) := dk_21 4 (dk_at dksX1_turned_1 22 rfl rfl)
theorem dX1_turned_47 : decode cX1_turned 47 = .ok (.invokevirtual 40, 3) := dk_182 0 40 (dk_at dksX1_turned_2 0 rfl rfl)
theorem dX1_turned_50 : decode cX1_turned 50 = .ok (.pop, 1) := dk_87 (dk_at dksX1_turned_2 3 rfl rfl)
theorem dX1_turned_51 : decode cX1_turned 51 = .ok (.iinc 3 (-1), 3) := dk_132 3 255 (dk_at dksX1_turned_2 4 rfl rfl)
theorem dX1_turned_54 : decode cX1_turned 54 = .ok (.goto (-37), 3) := dk_167 255 219 (dk_at dksX1_turned_2 7 rfl rfl)
theorem dX1_turned_57 : decode cX1_turned 57 = .ok (.iload_n 2, 1) := dk_28 (dk_at dksX1_turned_2 10 rfl rfl)
theorem dX1_turned_58 : decode cX1_turned 58 = .ok (.ifCond .eq 10, 3) := dk_153 0 10 (dk_at dksX1_turned_2 11 rfl rfl)
theorem dX1_turned_61 : decode cX1_turned 61 = .ok (.aload_n 1, 1) := dk_43 (dk_at dksX1_turned_2 14 rfl rfl)
theorem dX1_turned_62 : decode cX1_turned 62 = .ok (.invokevirtual 44, 3) := dk_182 0 44 (dk_at dksX1_turned_2 15 rfl rfl)
theorem dX1_turned_65 : decode cX1_turned 65 = .ok (.goto 4, 3) := dk_167 0 4 (dk_at dksX1_turned_2 18 rfl rfl)
theorem dX1_turned_68 : decode cX1_turned 68 = .ok (.aconst_null, 1) := dk_1 (dk_at dksX1_turned_2 21 rfl rfl)
theorem dX1_turned_69 : decode cX1_turned 69 = .ok (.areturn, 1) := dk_176 (dk_at dksX1_turned_2 22 rfl rfl)
abbrev cX1_turned_2 : ByteArray := prog_1_method_5_code
def yX1_turned_2 : MethodName := ⟨RX1, "turned", "(C)C"⟩
def dkwX1_turned_2_3 : List UInt8 := [167, 0, 23, 16, 109, 167, 0, 18, 16, 117, 167, 0, 13, 16, 110, 167, 0, 8, 26, 167, 0, 4, 3, 172]
abbrev dktX1_turned_2_3 : List UInt8 := dkwX1_turned_2_3 ++ []
def dkwX1_turned_2_2 : List UInt8 := [16, 113, 167, 0, 43, 16, 98, 167, 0, 38, 16, 112, 167, 0, 33, 16, 100, 167, 0, 28, 16, 119]
abbrev dktX1_turned_2_2 : List UInt8 := dkwX1_turned_2_2 ++ dktX1_turned_2_3
def dkwX1_turned_2_1 : List UInt8 := [170, 0, 0, 0, 0, 0, 159, 0, 0, 0, 98, 0, 0, 0, 122, 0, 0, 0, 115, 0, 0, 0, 159, 0, 0, 0, 125, 0, 0, 0, 159, 0, 0, 0, 159, 0, 0, 0, 159, 0, 0, 0, 159, 0, 0, 0, 159, 0, 0, 0, 159, 0, 0, 0, 159, 0, 0, 0, 155, 0, 0, 0, 135, 0, 0, 0, 145, 0, 0, 0, 155, 0, 0, 0, 130, 0, 0, 0, 120, 0, 0, 0, 159, 0, 0, 0, 155, 0, 0, 0, 159, 0, 0, 0, 150, 0, 0, 0, 159, 0, 0, 0, 140, 0, 0, 0, 155, 0, 0, 0, 159, 0, 0, 0, 155]
abbrev dktX1_turned_2_1 : List UInt8 := dkwX1_turned_2_1 ++ dktX1_turned_2_2
def dkwX1_turned_2_0 : List UInt8 := [26]
abbrev dktX1_turned_2_0 : List UInt8 := dkwX1_turned_2_0 ++ dktX1_turned_2_1
theorem dksX1_turned_2_0 : cX1_turned_2.data.toList.drop 0 = dktX1_turned_2_0 := by decide +kernel
theorem dksX1_turned_2_1 : cX1_turned_2.data.toList.drop 1 = dktX1_turned_2_1 := dk_seg dksX1_turned_2_0 1 rfl rfl
theorem dksX1_turned_2_2 : cX1_turned_2.data.toList.drop 116 = dktX1_turned_2_2 := dk_seg dksX1_turned_2_1 115 rfl rfl
theorem dksX1_turned_2_3 : cX1_turned_2.data.toList.drop 138 = dktX1_turned_2_3 := dk_seg dksX1_turned_2_2 22 rfl rfl
theorem dX1_turned_2_0 : decode cX1_turned_2 0 = .ok (.iload_n 0, 1) := dk_26 (dk_at dksX1_turned_2_0 0 rfl rfl)
theorem dX1_turned_2_1 : decode cX1_turned_2 1 = .ok (.tableswitch 159 98 122 #[115, 159, 125, 159, 159, 159, 159, 159, 159, 159, 155, 135, 145, 155, 130, 120, 159, 155, 159, 150, 159, 140, 155, 159, 155], 115) := by decide +kernel
theorem dX1_turned_2_116 : decode cX1_turned_2 116 = .ok (.bipush 113, 2) := dk_16 113 (dk_at dksX1_turned_2_2 0 rfl rfl)
theorem dX1_turned_2_118 : decode cX1_turned_2 118 = .ok (.goto 43, 3) := dk_167 0 43 (dk_at dksX1_turned_2_2 2 rfl rfl)
theorem dX1_turned_2_121 : decode cX1_turned_2 121 = .ok (.bipush 98, 2) := dk_16 98 (dk_at dksX1_turned_2_2 5 rfl rfl)
theorem dX1_turned_2_123 : decode cX1_turned_2 123 = .ok (.goto 38, 3) := dk_167 0 38 (dk_at dksX1_turned_2_2 7 rfl rfl)
theorem dX1_turned_2_126 : decode cX1_turned_2 126 = .ok (.bipush 112, 2) := dk_16 112 (dk_at dksX1_turned_2_2 10 rfl rfl)
theorem dX1_turned_2_128 : decode cX1_turned_2 128 = .ok (.goto 33, 3) := dk_167 0 33 (dk_at dksX1_turned_2_2 12 rfl rfl)
theorem dX1_turned_2_131 : decode cX1_turned_2 131 = .ok (.bipush 100, 2) := dk_16 100 (dk_at dksX1_turned_2_2 15 rfl rfl)
theorem dX1_turned_2_133 : decode cX1_turned_2 133 = .ok (.goto 28, 3) := dk_167 0 28 (dk_at dksX1_turned_2_2 17 rfl rfl)
theorem dX1_turned_2_136 : decode cX1_turned_2 136 = .ok (.bipush 119, 2) := dk_16 119 (dk_at dksX1_turned_2_2 20 rfl rfl)
theorem dX1_turned_2_138 : decode cX1_turned_2 138 = .ok (.goto 23, 3) := dk_167 0 23 (dk_at dksX1_turned_2_3 0 rfl rfl)
theorem dX1_turned_2_141 : decode cX1_turned_2 141 = .ok (.bipush 109, 2) := dk_16 109 (dk_at dksX1_turned_2_3 3 rfl rfl)
theorem dX1_turned_2_143 : decode cX1_turned_2 143 = .ok (.goto 18, 3) := dk_167 0 18 (dk_at dksX1_turned_2_3 5 rfl rfl)
theorem dX1_turned_2_146 : decode cX1_turned_2 146 = .ok (.bipush 117, 2) := dk_16 117 (dk_at dksX1_turned_2_3 8 rfl rfl)
theorem dX1_turned_2_148 : decode cX1_turned_2 148 = .ok (.goto 13, 3) := dk_167 0 13 (dk_at dksX1_turned_2_3 10 rfl rfl)
theorem dX1_turned_2_151 : decode cX1_turned_2 151 = .ok (.bipush 110, 2) := dk_16 110 (dk_at dksX1_turned_2_3 13 rfl rfl)
theorem dX1_turned_2_153 : decode cX1_turned_2 153 = .ok (.goto 8, 3) := dk_167 0 8 (dk_at dksX1_turned_2_3 15 rfl rfl)
theorem dX1_turned_2_156 : decode cX1_turned_2 156 = .ok (.iload_n 0, 1) := dk_26 (dk_at dksX1_turned_2_3 18 rfl rfl)
theorem dX1_turned_2_157 : decode cX1_turned_2 157 = .ok (.goto 4, 3) := dk_167 0 4 (dk_at dksX1_turned_2_3 19 rfl rfl)
theorem dX1_turned_2_160 : decode cX1_turned_2 160 = .ok (.iconst 0, 1) := dk_3 (dk_at dksX1_turned_2_3 22 rfl rfl)
theorem dX1_turned_2_161 : decode cX1_turned_2 161 = .ok (.ireturn, 1) := dk_172 (dk_at dksX1_turned_2_3 23 rfl rfl)
abbrev cX1_save : ByteArray := prog_1_method_8_code
def yX1_save : MethodName := ⟨RX1, "save", "()V"⟩
def dkwX1_save_1 : List UInt8 := [180, 0, 54, 182, 0, 97, 182, 0, 101, 177]
abbrev dktX1_save_1 : List UInt8 := dkwX1_save_1 ++ []
def dkwX1_save_0 : List UInt8 := [42, 180, 0, 61, 182, 0, 90, 7, 160, 0, 11, 42, 180, 0, 61, 182, 0, 93, 87, 42, 180, 0, 61, 42]
abbrev dktX1_save_0 : List UInt8 := dkwX1_save_0 ++ dktX1_save_1
theorem dksX1_save_0 : cX1_save.data.toList.drop 0 = dktX1_save_0 := by decide +kernel
theorem dksX1_save_1 : cX1_save.data.toList.drop 24 = dktX1_save_1 := dk_seg dksX1_save_0 24 rfl rfl
theorem dX1_save_0 : decode cX1_save 0 = .ok (.aload_n 0, 1) := dk_42 (dk_at dksX1_save_0 0 rfl rfl)
theorem dX1_save_1 : decode cX1_save 1 = .ok (.getfield 61, 3) := dk_180 0 61 (dk_at dksX1_save_0 1 rfl rfl)
theorem dX1_save_4 : decode cX1_save 4 = .ok (.invokevirtual 90, 3) := dk_182 0 90 (dk_at dksX1_save_0 4 rfl rfl)
theorem dX1_save_7 : decode cX1_save 7 = .ok (.iconst 4, 1) := dk_7 (dk_at dksX1_save_0 7 rfl rfl)
theorem dX1_save_8 : decode cX1_save 8 = .ok (.if_icmp .ne 11, 3) := dk_160 0 11 (dk_at dksX1_save_0 8 rfl rfl)
theorem dX1_save_11 : decode cX1_save 11 = .ok (.aload_n 0, 1) := dk_42 (dk_at dksX1_save_0 11 rfl rfl)
theorem dX1_save_12 : decode cX1_save 12 = .ok (.getfield 61, 3) := dk_180 0 61 (dk_at dksX1_save_0 12 rfl rfl)
theorem dX1_save_15 : decode cX1_save 15 = .ok (.invokevirtual 93, 3) := dk_182 0 93 (dk_at dksX1_save_0 15 rfl rfl)
theorem dX1_save_18 : decode cX1_save 18 = .ok (.pop, 1) := dk_87 (dk_at dksX1_save_0 18 rfl rfl)
theorem dX1_save_19 : decode cX1_save 19 = .ok (.aload_n 0, 1) := dk_42 (dk_at dksX1_save_0 19 rfl rfl)
theorem dX1_save_20 : decode cX1_save 20 = .ok (.getfield 61, 3) := dk_180 0 61 (dk_at dksX1_save_0 20 rfl rfl)
theorem dX1_save_23 : decode cX1_save 23 = .ok (.aload_n 0, 1) := dk_42 (dk_at dksX1_save_0 23 rfl rfl)
theorem dX1_save_24 : decode cX1_save 24 = .ok (.getfield 54, 3) := dk_180 0 54 (dk_at dksX1_save_1 0 rfl rfl)
theorem dX1_save_27 : decode cX1_save 27 = .ok (.invokevirtual 97, 3) := dk_182 0 97 (dk_at dksX1_save_1 3 rfl rfl)
theorem dX1_save_30 : decode cX1_save 30 = .ok (.invokevirtual 101, 3) := dk_182 0 101 (dk_at dksX1_save_1 6 rfl rfl)
theorem dX1_save_33 : decode cX1_save 33 = .ok (.return_, 1) := dk_177 (dk_at dksX1_save_1 9 rfl rfl)
abbrev cX1_writeAll : ByteArray := prog_1_method_30_code
def yX1_writeAll : MethodName := ⟨RX1, "writeAll", "()I"⟩
def dkwX1_writeAll_3 : List UInt8 := [132, 1, 1, 132, 2, 1, 167, 255, 202, 27, 172]
abbrev dktX1_writeAll_3 : List UInt8 := dkwX1_writeAll_3 ++ []
def dkwX1_writeAll_2 : List UInt8 := [182, 0, 243, 153, 0, 22, 42, 180, 0, 68, 28, 42, 180, 0, 54, 180, 0, 193, 182, 0, 251, 87]
abbrev dktX1_writeAll_2 : List UInt8 := dkwX1_writeAll_2 ++ dktX1_writeAll_3
def dkwX1_writeAll_1 : List UInt8 := [180, 0, 54, 180, 0, 126, 182, 0, 109, 162, 0, 46, 42, 180, 0, 68, 28, 42, 180, 0, 54, 180, 0, 193]
abbrev dktX1_writeAll_1 : List UInt8 := dkwX1_writeAll_1 ++ dktX1_writeAll_2
def dkwX1_writeAll_0 : List UInt8 := [42, 182, 0, 154, 42, 180, 0, 68, 42, 180, 0, 54, 182, 0, 206, 87, 3, 60, 3, 61, 28, 42]
abbrev dktX1_writeAll_0 : List UInt8 := dkwX1_writeAll_0 ++ dktX1_writeAll_1
theorem dksX1_writeAll_0 : cX1_writeAll.data.toList.drop 0 = dktX1_writeAll_0 := by decide +kernel
theorem dksX1_writeAll_1 : cX1_writeAll.data.toList.drop 22 = dktX1_writeAll_1 := dk_seg dksX1_writeAll_0 22 rfl rfl
theorem dksX1_writeAll_2 : cX1_writeAll.data.toList.drop 46 = dktX1_writeAll_2 := dk_seg dksX1_writeAll_1 24 rfl rfl
theorem dksX1_writeAll_3 : cX1_writeAll.data.toList.drop 68 = dktX1_writeAll_3 := dk_seg dksX1_writeAll_2 22 rfl rfl
theorem dX1_writeAll_0 : decode cX1_writeAll 0 = .ok (.aload_n 0, 1) := dk_42 (dk_at dksX1_writeAll_0 0 rfl rfl)
theorem dX1_writeAll_1 : decode cX1_writeAll 1 = .ok (.invokevirtual 154, 3) := dk_182 0 154 (dk_at dksX1_writeAll_0 1 rfl rfl)
theorem dX1_writeAll_4 : decode cX1_writeAll 4 = .ok (.aload_n 0, 1) := dk_42 (dk_at dksX1_writeAll_0 4 rfl rfl)
theorem dX1_writeAll_5 : decode cX1_writeAll 5 = .ok (.getfield 68, 3) := dk_180 0 68 (dk_at dksX1_writeAll_0 5 rfl rfl)
theorem dX1_writeAll_8 : decode cX1_writeAll 8 = .ok (.aload_n 0, 1) := dk_42 (dk_at dksX1_writeAll_0 8 rfl rfl)
theorem dX1_writeAll_9 : decode cX1_writeAll 9 = .ok (.getfield 54, 3) := dk_180 0 54 (dk_at dksX1_writeAll_0 9 rfl rfl)
theorem dX1_writeAll_12 : decode cX1_writeAll 12 = .ok (.invokevirtual 206, 3) := dk_182 0 206 (dk_at dksX1_writeAll_0 12 rfl rfl)
theorem dX1_writeAll_15 : decode cX1_writeAll 15 = .ok (.pop, 1) := dk_87 (dk_at dksX1_writeAll_0 15 rfl rfl)
theorem dX1_writeAll_16 : decode cX1_writeAll 16 = .ok (.iconst 0, 1) := dk_3 (dk_at dksX1_writeAll_0 16 rfl rfl)
theorem dX1_writeAll_17 : decode cX1_writeAll 17 = .ok (.istore_n 1, 1) := dk_60 (dk_at dksX1_writeAll_0 17 rfl rfl)
theorem dX1_writeAll_18 : decode cX1_writeAll 18 = .ok (.iconst 0, 1) := dk_3 (dk_at dksX1_writeAll_0 18 rfl rfl)
theorem dX1_writeAll_19 : decode cX1_writeAll 19 = .ok (.istore_n 2, 1) := dk_61 (dk_at dksX1_writeAll_0 19 rfl rfl)
theorem dX1_writeAll_20 : decode cX1_writeAll 20 = .ok (.iload_n 2, 1) := dk_28 (dk_at dksX1_writeAll_0 20 rfl rfl)
theorem dX1_writeAll_21 : decode cX1_writeAll 21 = .ok (.aload_n 0, 1) := dk_42 (dk_at dksX1_writeAll_0 21 rfl rfl)
theorem dX1_writeAll_22 : decode cX1_writeAll 22 = .ok (.getfield 54, 3) := dk_180 0 54 (dk_at dksX1_writeAll_1 0 rfl rfl)
theorem dX1_writeAll_25 : decode cX1_writeAll 25 = .ok (.getfield 126, 3) := dk_180 0 126 (dk_at dksX1_writeAll_1 3 rfl rfl)
theorem dX1_writeAll_28 : decode cX1_writeAll 28 = .ok (.invokevirtual 109, 3) := dk_182 0 109 (dk_at dksX1_writeAll_1 6 rfl rfl)
theorem dX1_writeAll_31 : decode cX1_writeAll 31 = .ok (.if_icmp .ge 46, 3) := dk_162 0 46 (dk_at dksX1_writeAll_1 9 rfl rfl)
theorem dX1_writeAll_34 : decode cX1_writeAll 34 = .ok (.aload_n 0, 1) := dk_42 (dk_at dksX1_writeAll_1 12 rfl rfl)
theorem dX1_writeAll_35 : decode cX1_writeAll 35 = .ok (.getfield 68, 3) := dk_180 0 68 (dk_at dksX1_writeAll_1 13 rfl rfl)
theorem dX1_writeAll_38 : decode cX1_writeAll 38 = .ok (.iload_n 2, 1) := dk_28 (dk_at dksX1_writeAll_1 16 rfl rfl)
theorem dX1_writeAll_39 : decode cX1_writeAll 39 = .ok (.aload_n 0, 1) := dk_42 (dk_at dksX1_writeAll_1 17 rfl rfl)
theorem dX1_writeAll_40 : decode cX1_writeAll 40 = .ok (.getfield 54, 3) := dk_180 0 54 (dk_at dksX1_writeAll_1 18 rfl rfl)
theorem dX1_writeAll_43 : decode cX1_writeAll 43 = .ok (.getfield 193, 3) := dk_180 0 193 (dk_at dksX1_writeAll_1 21 rfl rfl)
theorem dX1_writeAll_46 : decode cX1_writeAll 46 = .ok (.invokevirtual 243, 3) := dk_182 0 243 (dk_at dksX1_writeAll_2 0 rfl rfl)
theorem dX1_writeAll_49 : decode cX1_writeAll 49 = .ok (.ifCond .eq 22, 3) := dk_153 0 22 (dk_at dksX1_writeAll_2 3 rfl rfl)
theorem dX1_writeAll_52 : decode cX1_writeAll 52 = .ok (.aload_n 0, 1) := dk_42 (dk_at dksX1_writeAll_2 6 rfl rfl)
theorem dX1_writeAll_53 : decode cX1_writeAll 53 = .ok (.getfield 68, 3) := dk_180 0 68 (dk_at dksX1_writeAll_2 7 rfl rfl)
theorem dX1_writeAll_56 : decode cX1_writeAll 56 = .ok (.iload_n 2, 1) := dk_28 (dk_at dksX1_writeAll_2 10 rfl rfl)
theorem dX1_writeAll_57 : decode cX1_writeAll 57 = .ok (.aload_n 0, 1) := dk_42 (dk_at dksX1_writeAll_2 11 rfl rfl)
theorem dX1_writeAll_58 : decode cX1_writeAll 58 = .ok (.getfield 54, 3) := dk_180 0 54 (dk_at dksX1_writeAll_2 12 rfl rfl)
theorem dX1_writeAll_61 : decode cX1_writeAll 61 = .ok (.getfield 193, 3) := dk_180 0 193 (dk_at dksX1_writeAll_2 15 rfl rfl)
theorem dX1_writeAll_64 : decode cX1_writeAll 64 = .ok (.invokevirtual 251, 3) := dk_182 0 251 (dk_at dksX1_writeAll_2 18 rfl rfl)
theorem dX1_writeAll_67 : decode cX1_writeAll 67 = .ok (.pop, 1) := dk_87 (dk_at dksX1_writeAll_2 21 rfl rfl)
theorem dX1_writeAll_68 : decode cX1_writeAll 68 = .ok (.iinc 1 1, 3) := dk_132 1 1 (dk_at dksX1_writeAll_3 0 rfl rfl)
theorem dX1_writeAll_71 : decode cX1_writeAll 71 = .ok (.iinc 2 1, 3) := dk_132 2 1 (dk_at dksX1_writeAll_3 3 rfl rfl)
theorem dX1_writeAll_74 : decode cX1_writeAll 74 = .ok (.goto (-54), 3) := dk_167 255 202 (dk_at dksX1_writeAll_3 6 rfl rfl)
theorem dX1_writeAll_77 : decode cX1_writeAll 77 = .ok (.iload_n 1, 1) := dk_27 (dk_at dksX1_writeAll_3 9 rfl rfl)
theorem dX1_writeAll_78 : decode cX1_writeAll 78 = .ok (.ireturn, 1) := dk_172 (dk_at dksX1_writeAll_3 10 rfl rfl)
abbrev cX1_fewest : ByteArray := prog_1_method_32_code
def yX1_fewest : MethodName := ⟨RX1, "fewest", "()I"⟩
theorem dX1_fewest_0 : decode cX1_fewest 0 = .ok (.aload_n 0, 1) := by decide +kernel
theorem dX1_fewest_1 : decode cX1_fewest 1 = .ok (.invokevirtual 271, 3) := by decide +kernel
theorem dX1_fewest_4 : decode cX1_fewest 4 = .ok (.ireturn, 1) := by decide +kernel
abbrev cX1_fewestStamps : ByteArray := prog_1_method_31_code
def yX1_fewestStamps : MethodName := ⟨RX1, "fewestStamps", "()I"⟩
def dkwX1_fewestStamps_4 : List UInt8 := [132, 3, 1, 167, 255, 184, 28, 172]
abbrev dktX1_fewestStamps_4 : List UInt8 := dkwX1_fewestStamps_4 ++ []
def dkwX1_fewestStamps_3 : List UInt8 := [2, 130, 126, 154, 0, 18, 42, 180, 0, 68, 29, 182, 1, 11, 153, 0, 7, 29, 167, 0, 4, 28, 61]
abbrev dktX1_fewestStamps_3 : List UInt8 := dkwX1_fewestStamps_3 ++ dktX1_fewestStamps_4
def dkwX1_fewestStamps_2 : List UInt8 := [184, 0, 226, 28, 184, 0, 226, 162, 0, 7, 4, 167, 0, 4, 3, 54, 4, 21, 4, 153, 0, 26, 29, 27]
abbrev dktX1_fewestStamps_2 : List UInt8 := dkwX1_fewestStamps_2 ++ dktX1_fewestStamps_3
def dkwX1_fewestStamps_1 : List UInt8 := [29, 4, 42, 180, 0, 54, 180, 0, 105, 182, 0, 109, 120, 162, 0, 62, 28, 2, 159, 0, 14, 29]
abbrev dktX1_fewestStamps_1 : List UInt8 := dkwX1_fewestStamps_1 ++ dktX1_fewestStamps_2
def dkwX1_fewestStamps_0 : List UInt8 := [42, 180, 0, 68, 42, 180, 0, 54, 182, 0, 206, 87, 42, 180, 0, 54, 182, 0, 210, 60, 2, 61, 3, 62]
abbrev dktX1_fewestStamps_0 : List UInt8 := dkwX1_fewestStamps_0 ++ dktX1_fewestStamps_1
theorem dksX1_fewestStamps_0 : cX1_fewestStamps.data.toList.drop 0 = dktX1_fewestStamps_0 := by decide +kernel
theorem dksX1_fewestStamps_1 : cX1_fewestStamps.data.toList.drop 24 = dktX1_fewestStamps_1 := dk_seg dksX1_fewestStamps_0 24 rfl rfl
theorem dksX1_fewestStamps_2 : cX1_fewestStamps.data.toList.drop 46 = dktX1_fewestStamps_2 := dk_seg dksX1_fewestStamps_1 22 rfl rfl
theorem dksX1_fewestStamps_3 : cX1_fewestStamps.data.toList.drop 70 = dktX1_fewestStamps_3 := dk_seg dksX1_fewestStamps_2 24 rfl rfl
theorem dksX1_fewestStamps_4 : cX1_fewestStamps.data.toList.drop 93 = dktX1_fewestStamps_4 := dk_seg dksX1_fewestStamps_3 23 rfl rfl
theorem dX1_fewestStamps_0 : decode cX1_fewestStamps 0 = .ok (.aload_n 0, 1) := dk_42 (dk_at dksX1_fewestStamps_0 0 rfl rfl)
theorem dX1_fewestStamps_1 : decode cX1_fewestStamps 1 = .ok (.getfield 68, 3) := dk_180 0 68 (dk_at dksX1_fewestStamps_0 1 rfl rfl)
theorem dX1_fewestStamps_4 : decode cX1_fewestStamps 4 = .ok (.aload_n 0, 1) := dk_42 (dk_at dksX1_fewestStamps_0 4 rfl rfl)
theorem dX1_fewestStamps_5 : decode cX1_fewestStamps 5 = .ok (.getfield 54, 3) := dk_180 0 54 (dk_at dksX1_fewestStamps_0 5 rfl rfl)
theorem dX1_fewestStamps_8 : decode cX1_fewestStamps 8 = .ok (.invokevirtual 206, 3) := dk_182 0 206 (dk_at dksX1_fewestStamps_0 8 rfl rfl)
theorem dX1_fewestStamps_11 : decode cX1_fewestStamps 11 = .ok (.pop, 1) := dk_87 (dk_at dksX1_fewestStamps_0 11 rfl rfl)
theorem dX1_fewestStamps_12 : decode cX1_fewestStamps 12 = .ok (.aload_n 0, 1) := dk_42 (dk_at dksX1_fewestStamps_0 12 rfl rfl)
theorem dX1_fewestStamps_13 : decode cX1_fewestStamps 13 = .ok (.getfield 54, 3) := dk_180 0 54 (dk_at dksX1_fewestStamps_0 13 rfl rfl)
theorem dX1_fewestStamps_16 : decode cX1_fewestStamps 16 = .ok (.invokevirtual 210, 3) := dk_182 0 210 (dk_at dksX1_fewestStamps_0 16 rfl rfl)
theorem dX1_fewestStamps_19 : decode cX1_fewestStamps 19 = .ok (.istore_n 1, 1) := dk_60 (dk_at dksX1_fewestStamps_0 19 rfl rfl)
theorem dX1_fewestStamps_20 : decode cX1_fewestStamps 20 = .ok (.iconst (-1), 1) := dk_2 (dk_at dksX1_fewestStamps_0 20 rfl rfl)
theorem dX1_fewestStamps_21 : decode cX1_fewestStamps 21 = .ok (.istore_n 2, 1) := dk_61 (dk_at dksX1_fewestStamps_0 21 rfl rfl)
theorem dX1_fewestStamps_22 : decode cX1_fewestStamps 22 = .ok (.iconst 0, 1) := dk_3 (dk_at dksX1_fewestStamps_0 22 rfl rfl)
theorem dX1_fewestStamps_23 : decode cX1_fewestStamps 23 = .ok (.istore_n 3, 1) := dk_62 (dk_at dksX1_fewestStamps_0 23 rfl rfl)
theorem dX1_fewestStamps_24 : decode cX1_fewestStamps 24 = .ok (.iload_n 3, 1) := dk_29 (dk_at dksX1_fewestStamps_1 0 rfl rfl)
theorem dX1_fewestStamps_25 : decode cX1_fewestStamps 25 = .ok (.iconst 1, 1) := dk_4 (dk_at dksX1_fewestStamps_1 1 rfl rfl)
theorem dX1_fewestStamps_26 : decode cX1_fewestStamps 26 = .ok (.aload_n 0, 1) := dk_42 (dk_at dksX1_fewestStamps_1 2 rfl rfl)
theorem dX1_fewestStamps_27 : decode cX1_fewestStamps 27 = .ok (.getfield 54, 3) := dk_180 0 54 (dk_at dksX1_fewestStamps_1 3 rfl rfl)
theorem dX1_fewestStamps_30 : decode cX1_fewestStamps 30 = .ok (.getfield 105, 3) := dk_180 0 105 (dk_at dksX1_fewestStamps_1 6 rfl rfl)
theorem dX1_fewestStamps_33 : decode cX1_fewestStamps 33 = .ok (.invokevirtual 109, 3) := dk_182 0 109 (dk_at dksX1_fewestStamps_1 9 rfl rfl)
theorem dX1_fewestStamps_36 : decode cX1_fewestStamps 36 = .ok (.ishl, 1) := dk_120 (dk_at dksX1_fewestStamps_1 12 rfl rfl)
theorem dX1_fewestStamps_37 : decode cX1_fewestStamps 37 = .ok (.if_icmp .ge 62, 3) := dk_162 0 62 (dk_at dksX1_fewestStamps_1 13 rfl rfl)
theorem dX1_fewestStamps_40 : decode cX1_fewestStamps 40 = .ok (.iload_n 2, 1) := dk_28 (dk_at dksX1_fewestStamps_1 16 rfl rfl)
theorem dX1_fewestStamps_41 : decode cX1_fewestStamps 41 = .ok (.iconst (-1), 1) := dk_2 (dk_at dksX1_fewestStamps_1 17 rfl rfl)
theorem dX1_fewestStamps_42 : decode cX1_fewestStamps 42 = .ok (.if_icmp .eq 14, 3) := dk_159 0 14 (dk_at dksX1_fewestStamps_1 18 rfl rfl)
theorem dX1_fewestStamps_45 : decode cX1_fewestStamps 45 = .ok (.iload_n 3, 1) := dk_29 (dk_at dksX1_fewestStamps_1 21 rfl rfl)
theorem dX1_fewestStamps_46 : decode cX1_fewestStamps 46 = .ok (.invokestatic 226, 3) := dk_184 0 226 (dk_at dksX1_fewestStamps_2 0 rfl rfl)
theorem dX1_fewestStamps_49 : decode cX1_fewestStamps 49 = .ok (.iload_n 2, 1) := dk_28 (dk_at dksX1_fewestStamps_2 3 rfl rfl)
theorem dX1_fewestStamps_50 : decode cX1_fewestStamps 50 = .ok (.invokestatic 226, 3) := dk_184 0 226 (dk_at dksX1_fewestStamps_2 4 rfl rfl)
theorem dX1_fewestStamps_53 : decode cX1_fewestStamps 53 = .ok (.if_icmp .ge 7, 3) := dk_162 0 7 (dk_at dksX1_fewestStamps_2 7 rfl rfl)
theorem dX1_fewestStamps_56 : decode cX1_fewestStamps 56 = .ok (.iconst 1, 1) := dk_4 (dk_at dksX1_fewestStamps_2 10 rfl rfl)
theorem dX1_fewestStamps_57 : decode cX1_fewestStamps 57 = .ok (.goto 4, 3) := dk_167 0 4 (dk_at dksX1_fewestStamps_2 11 rfl rfl)
theorem dX1_fewestStamps_60 : decode cX1_fewestStamps 60 = .ok (.iconst 0, 1) := dk_3 (dk_at dksX1_fewestStamps_2 14 rfl rfl)
theorem dX1_fewestStamps_61 : decode cX1_fewestStamps 61 = .ok (.istore 4, 2) := dk_54 4 (dk_at dksX1_fewestStamps_2 15 rfl rfl)
theorem dX1_fewestStamps_63 : decode cX1_fewestStamps 63 = .ok (.iload 4, 2) := dk_21 4 (dk_at dksX1_fewestStamps_2 17 rfl rfl)
theorem dX1_fewestStamps_65 : decode cX1_fewestStamps 65 = .ok (.ifCond .eq 26, 3) := dk_153 0 26 (dk_at dksX1_fewestStamps_2 19 rfl rfl)
theorem dX1_fewestStamps_68 : decode cX1_fewestStamps 68 = .ok (.iload_n 3, 1) := dk_29 (dk_at dksX1_fewestStamps_2 22 rfl rfl)
theorem dX1_fewestStamps_69 : decode cX1_fewestStamps 69 = .ok (.iload_n 1, 1) := dk_27 (dk_at dksX1_fewestStamps_2 23 rfl rfl)
theorem dX1_fewestStamps_70 : decode cX1_fewestStamps 70 = .ok (.iconst (-1), 1) := dk_2 (dk_at dksX1_fewestStamps_3 0 rfl rfl)
theorem dX1_fewestStamps_71 : decode cX1_fewestStamps 71 = .ok (.ixor, 1) := dk_130 (dk_at dksX1_fewestStamps_3 1 rfl rfl)
theorem dX1_fewestStamps_72 : decode cX1_fewestStamps 72 = .ok (.iand, 1) := dk_126 (dk_at dksX1_fewestStamps_3 2 rfl rfl)
theorem dX1_fewestStamps_73 : decode cX1_fewestStamps 73 = .ok (.ifCond .ne 18, 3) := dk_154 0 18 (dk_at dksX1_fewestStamps_3 3 rfl rfl)
theorem dX1_fewestStamps_76 : decode cX1_fewestStamps 76 = .ok (.aload_n 0, 1) := dk_42 (dk_at dksX1_fewestStamps_3 6 rfl rfl)
theorem dX1_fewestStamps_77 : decode cX1_fewestStamps 77 = .ok (.getfield 68, 3) := dk_180 0 68 (dk_at dksX1_fewestStamps_3 7 rfl rfl)
theorem dX1_fewestStamps_80 : decode cX1_fewestStamps 80 = .ok (.iload_n 3, 1) := dk_29 (dk_at dksX1_fewestStamps_3 10 rfl rfl)
theorem dX1_fewestStamps_81 : decode cX1_fewestStamps 81 = .ok (.invokevirtual 267, 3) := dk_182 1 11 (dk_at dksX1_fewestStamps_3 11 rfl rfl)
theorem dX1_fewestStamps_84 : decode cX1_fewestStamps 84 = .ok (.ifCond .eq 7, 3) := dk_153 0 7 (dk_at dksX1_fewestStamps_3 14 rfl rfl)
theorem dX1_fewestStamps_87 : decode cX1_fewestStamps 87 = .ok (.iload_n 3, 1) := dk_29 (dk_at dksX1_fewestStamps_3 17 rfl rfl)
theorem dX1_fewestStamps_88 : decode cX1_fewestStamps 88 = .ok (.goto 4, 3) := dk_167 0 4 (dk_at dksX1_fewestStamps_3 18 rfl rfl)
theorem dX1_fewestStamps_91 : decode cX1_fewestStamps 91 = .ok (.iload_n 2, 1) := dk_28 (dk_at dksX1_fewestStamps_3 21 rfl rfl)
theorem dX1_fewestStamps_92 : decode cX1_fewestStamps 92 = .ok (.istore_n 2, 1) := dk_61 (dk_at dksX1_fewestStamps_3 22 rfl rfl)
theorem dX1_fewestStamps_93 : decode cX1_fewestStamps 93 = .ok (.iinc 3 1, 3) := dk_132 3 1 (dk_at dksX1_fewestStamps_4 0 rfl rfl)
theorem dX1_fewestStamps_96 : decode cX1_fewestStamps 96 = .ok (.goto (-72), 3) := dk_167 255 184 (dk_at dksX1_fewestStamps_4 3 rfl rfl)
theorem dX1_fewestStamps_99 : decode cX1_fewestStamps 99 = .ok (.iload_n 2, 1) := dk_28 (dk_at dksX1_fewestStamps_4 6 rfl rfl)
theorem dX1_fewestStamps_100 : decode cX1_fewestStamps 100 = .ok (.ireturn, 1) := dk_172 (dk_at dksX1_fewestStamps_4 7 rfl rfl)
abbrev cX1_leastCleanings : ByteArray := prog_1_method_35_code
def yX1_leastCleanings : MethodName := ⟨RX1, "leastCleanings", "()I"⟩
def dkwX1_leastCleanings_1 : List UInt8 := [180, 0, 54, 180, 0, 193, 180, 0, 223, 100, 167, 0, 4, 2, 172]
abbrev dktX1_leastCleanings_1 : List UInt8 := dkwX1_leastCleanings_1 ++ []
def dkwX1_leastCleanings_0 : List UInt8 := [42, 180, 0, 75, 42, 180, 0, 54, 182, 1, 18, 153, 0, 24, 42, 180, 0, 75, 180, 1, 25, 42]
abbrev dktX1_leastCleanings_0 : List UInt8 := dkwX1_leastCleanings_0 ++ dktX1_leastCleanings_1
theorem dksX1_leastCleanings_0 : cX1_leastCleanings.data.toList.drop 0 = dktX1_leastCleanings_0 := by decide +kernel
theorem dksX1_leastCleanings_1 : cX1_leastCleanings.data.toList.drop 22 = dktX1_leastCleanings_1 := dk_seg dksX1_leastCleanings_0 22 rfl rfl
theorem dX1_leastCleanings_0 : decode cX1_leastCleanings 0 = .ok (.aload_n 0, 1) := dk_42 (dk_at dksX1_leastCleanings_0 0 rfl rfl)
theorem dX1_leastCleanings_1 : decode cX1_leastCleanings 1 = .ok (.getfield 75, 3) := dk_180 0 75 (dk_at dksX1_leastCleanings_0 1 rfl rfl)
theorem dX1_leastCleanings_4 : decode cX1_leastCleanings 4 = .ok (.aload_n 0, 1) := dk_42 (dk_at dksX1_leastCleanings_0 4 rfl rfl)
theorem dX1_leastCleanings_5 : decode cX1_leastCleanings 5 = .ok (.getfield 54, 3) := dk_180 0 54 (dk_at dksX1_leastCleanings_0 5 rfl rfl)
theorem dX1_leastCleanings_8 : decode cX1_leastCleanings 8 = .ok (.invokevirtual 274, 3) := dk_182 1 18 (dk_at dksX1_leastCleanings_0 8 rfl rfl)
theorem dX1_leastCleanings_11 : decode cX1_leastCleanings 11 = .ok (.ifCond .eq 24, 3) := dk_153 0 24 (dk_at dksX1_leastCleanings_0 11 rfl rfl)
theorem dX1_leastCleanings_14 : decode cX1_leastCleanings 14 = .ok (.aload_n 0, 1) := dk_42 (dk_at dksX1_leastCleanings_0 14 rfl rfl)
theorem dX1_leastCleanings_15 : decode cX1_leastCleanings 15 = .ok (.getfield 75, 3) := dk_180 0 75 (dk_at dksX1_leastCleanings_0 15 rfl rfl)
theorem dX1_leastCleanings_18 : decode cX1_leastCleanings 18 = .ok (.getfield 281, 3) := dk_180 1 25 (dk_at dksX1_leastCleanings_0 18 rfl rfl)
theorem dX1_leastCleanings_21 : decode cX1_leastCleanings 21 = .ok (.aload_n 0, 1) := dk_42 (dk_at dksX1_leastCleanings_0 21 rfl rfl)
theorem dX1_leastCleanings_22 : decode cX1_leastCleanings 22 = .ok (.getfield 54, 3) := dk_180 0 54 (dk_at dksX1_leastCleanings_1 0 rfl rfl)
theorem dX1_leastCleanings_25 : decode cX1_leastCleanings 25 = .ok (.getfield 193, 3) := dk_180 0 193 (dk_at dksX1_leastCleanings_1 3 rfl rfl)
theorem dX1_leastCleanings_28 : decode cX1_leastCleanings 28 = .ok (.getfield 223, 3) := dk_180 0 223 (dk_at dksX1_leastCleanings_1 6 rfl rfl)
theorem dX1_leastCleanings_31 : decode cX1_leastCleanings 31 = .ok (.isub, 1) := dk_100 (dk_at dksX1_leastCleanings_1 9 rfl rfl)
theorem dX1_leastCleanings_32 : decode cX1_leastCleanings 32 = .ok (.goto 4, 3) := dk_167 0 4 (dk_at dksX1_leastCleanings_1 10 rfl rfl)
theorem dX1_leastCleanings_35 : decode cX1_leastCleanings 35 = .ok (.iconst (-1), 1) := dk_2 (dk_at dksX1_leastCleanings_1 13 rfl rfl)
theorem dX1_leastCleanings_36 : decode cX1_leastCleanings 36 = .ok (.ireturn, 1) := dk_172 (dk_at dksX1_leastCleanings_1 14 rfl rfl)
abbrev cX1_lettersPerPress : ByteArray := prog_1_method_37_code
def yX1_lettersPerPress : MethodName := ⟨RX1, "lettersPerPress", "()D"⟩
def dkwX1_lettersPerPress_5 : List UInt8 := [135, 111, 175]
abbrev dktX1_lettersPerPress_5 : List UInt8 := dkwX1_lettersPerPress_5 ++ []
def dkwX1_lettersPerPress_4 : List UInt8 := [167, 0, 5, 21, 4, 96, 61, 132, 3, 1, 167, 255, 172, 28, 154, 0, 7, 14, 167, 0, 8, 27, 135, 28]
abbrev dktX1_lettersPerPress_4 : List UInt8 := dkwX1_lettersPerPress_4 ++ dktX1_lettersPerPress_5
def dkwX1_lettersPerPress_3 : List UInt8 := [182, 0, 120, 192, 0, 129, 180, 0, 173, 182, 0, 24, 96, 60, 28, 21, 4, 16, 100, 160, 0, 7, 3]
abbrev dktX1_lettersPerPress_3 : List UInt8 := dkwX1_lettersPerPress_3 ++ dktX1_lettersPerPress_4
def dkwX1_lettersPerPress_2 : List UInt8 := [54, 4, 27, 21, 4, 16, 100, 160, 0, 7, 3, 167, 0, 23, 42, 180, 0, 54, 180, 0, 126, 29]
abbrev dktX1_lettersPerPress_2 : List UInt8 := dkwX1_lettersPerPress_2 ++ dktX1_lettersPerPress_3
def dkwX1_lettersPerPress_1 : List UInt8 := [180, 0, 126, 182, 0, 109, 162, 0, 76, 42, 180, 0, 68, 29, 42, 180, 0, 54, 182, 0, 210, 182, 0, 213]
abbrev dktX1_lettersPerPress_1 : List UInt8 := dkwX1_lettersPerPress_1 ++ dktX1_lettersPerPress_2
def dkwX1_lettersPerPress_0 : List UInt8 := [42, 180, 0, 68, 42, 180, 0, 54, 182, 0, 206, 87, 3, 60, 3, 61, 3, 62, 29, 42, 180, 0, 54]
abbrev dktX1_lettersPerPress_0 : List UInt8 := dkwX1_lettersPerPress_0 ++ dktX1_lettersPerPress_1
theorem dksX1_lettersPerPress_0 : cX1_lettersPerPress.data.toList.drop 0 = dktX1_lettersPerPress_0 := by decide +kernel
theorem dksX1_lettersPerPress_1 : cX1_lettersPerPress.data.toList.drop 23 = dktX1_lettersPerPress_1 := dk_seg dksX1_lettersPerPress_0 23 rfl rfl
theorem dksX1_lettersPerPress_2 : cX1_lettersPerPress.data.toList.drop 47 = dktX1_lettersPerPress_2 := dk_seg dksX1_lettersPerPress_1 24 rfl rfl
theorem dksX1_lettersPerPress_3 : cX1_lettersPerPress.data.toList.drop 69 = dktX1_lettersPerPress_3 := dk_seg dksX1_lettersPerPress_2 22 rfl rfl
theorem dksX1_lettersPerPress_4 : cX1_lettersPerPress.data.toList.drop 92 = dktX1_lettersPerPress_4 := dk_seg dksX1_lettersPerPress_3 23 rfl rfl
theorem dksX1_lettersPerPress_5 : cX1_lettersPerPress.data.toList.drop 116 = dktX1_lettersPerPress_5 := dk_seg dksX1_lettersPerPress_4 24 rfl rfl
theorem dX1_lettersPerPress_0 : decode cX1_lettersPerPress 0 = .ok (.aload_n 0, 1) := dk_42 (dk_at dksX1_lettersPerPress_0 0 rfl rfl)
theorem dX1_lettersPerPress_1 : decode cX1_lettersPerPress 1 = .ok (.getfield 68, 3) := dk_180 0 68 (dk_at dksX1_lettersPerPress_0 1 rfl rfl)
theorem dX1_lettersPerPress_4 : decode cX1_lettersPerPress 4 = .ok (.aload_n 0, 1) := dk_42 (dk_at dksX1_lettersPerPress_0 4 rfl rfl)
theorem dX1_lettersPerPress_5 : decode cX1_lettersPerPress 5 = .ok (.getfield 54, 3) := dk_180 0 54 (dk_at dksX1_lettersPerPress_0 5 rfl rfl)
theorem dX1_lettersPerPress_8 : decode cX1_lettersPerPress 8 = .ok (.invokevirtual 206, 3) := dk_182 0 206 (dk_at dksX1_lettersPerPress_0 8 rfl rfl)
theorem dX1_lettersPerPress_11 : decode cX1_lettersPerPress 11 = .ok (.pop, 1) := dk_87 (dk_at dksX1_lettersPerPress_0 11 rfl rfl)
theorem dX1_lettersPerPress_12 : decode cX1_lettersPerPress 12 = .ok (.iconst 0, 1) := dk_3 (dk_at dksX1_lettersPerPress_0 12 rfl rfl)
theorem dX1_lettersPerPress_13 : decode cX1_lettersPerPress 13 = .ok (.istore_n 1, 1) := dk_60 (dk_at dksX1_lettersPerPress_0 13 rfl rfl)
theorem dX1_lettersPerPress_14 : decode cX1_lettersPerPress 14 = .ok (.iconst 0, 1) := dk_3 (dk_at dksX1_lettersPerPress_0 14 rfl rfl)
theorem dX1_lettersPerPress_15 : decode cX1_lettersPerPress 15 = .ok (.istore_n 2, 1) := dk_61 (dk_at dksX1_lettersPerPress_0 15 rfl rfl)
theorem dX1_lettersPerPress_16 : decode cX1_lettersPerPress 16 = .ok (.iconst 0, 1) := dk_3 (dk_at dksX1_lettersPerPress_0 16 rfl rfl)
theorem dX1_lettersPerPress_17 : decode cX1_lettersPerPress 17 = .ok (.istore_n 3, 1) := dk_62 (dk_at dksX1_lettersPerPress_0 17 rfl rfl)
theorem dX1_lettersPerPress_18 : decode cX1_lettersPerPress 18 = .ok (.iload_n 3, 1) := dk_29 (dk_at dksX1_lettersPerPress_0 18 rfl rfl)
theorem dX1_lettersPerPress_19 : decode cX1_lettersPerPress 19 = .ok (.aload_n 0, 1) := dk_42 (dk_at dksX1_lettersPerPress_0 19 rfl rfl)
theorem dX1_lettersPerPress_20 : decode cX1_lettersPerPress 20 = .ok (.getfield 54, 3) := dk_180 0 54 (dk_at dksX1_lettersPerPress_0 20 rfl rfl)
theorem dX1_lettersPerPress_23 : decode cX1_lettersPerPress 23 = .ok (.getfield 126, 3) := dk_180 0 126 (dk_at dksX1_lettersPerPress_1 0 rfl rfl)
theorem dX1_lettersPerPress_26 : decode cX1_lettersPerPress 26 = .ok (.invokevirtual 109, 3) := dk_182 0 109 (dk_at dksX1_lettersPerPress_1 3 rfl rfl)
theorem dX1_lettersPerPress_29 : decode cX1_lettersPerPress 29 = .ok (.if_icmp .ge 76, 3) := dk_162 0 76 (dk_at dksX1_lettersPerPress_1 6 rfl rfl)
theorem dX1_lettersPerPress_32 : decode cX1_lettersPerPress 32 = .ok (.aload_n 0, 1) := dk_42 (dk_at dksX1_lettersPerPress_1 9 rfl rfl)
theorem dX1_lettersPerPress_33 : decode cX1_lettersPerPress 33 = .ok (.getfield 68, 3) := dk_180 0 68 (dk_at dksX1_lettersPerPress_1 10 rfl rfl)
theorem dX1_lettersPerPress_36 : decode cX1_lettersPerPress 36 = .ok (.iload_n 3, 1) := dk_29 (dk_at dksX1_lettersPerPress_1 13 rfl rfl)
theorem dX1_lettersPerPress_37 : decode cX1_lettersPerPress 37 = .ok (.aload_n 0, 1) := dk_42 (dk_at dksX1_lettersPerPress_1 14 rfl rfl)
theorem dX1_lettersPerPress_38 : decode cX1_lettersPerPress 38 = .ok (.getfield 54, 3) := dk_180 0 54 (dk_at dksX1_lettersPerPress_1 15 rfl rfl)
theorem dX1_lettersPerPress_41 : decode cX1_lettersPerPress 41 = .ok (.invokevirtual 210, 3) := dk_182 0 210 (dk_at dksX1_lettersPerPress_1 18 rfl rfl)
theorem dX1_lettersPerPress_44 : decode cX1_lettersPerPress 44 = .ok (.invokevirtual 213, 3) := dk_182 0 213 (dk_at dksX1_lettersPerPress_1 21 rfl rfl)
theorem dX1_lettersPerPress_47 : decode cX1_lettersPerPress 47 = .ok (.istore 4, 2) := dk_54 4 (dk_at dksX1_lettersPerPress_2 0 rfl rfl)
theorem dX1_lettersPerPress_49 : decode cX1_lettersPerPress 49 = .ok (.iload_n 1, 1) := dk_27 (dk_at dksX1_lettersPerPress_2 2 rfl rfl)
theorem dX1_lettersPerPress_50 : decode cX1_lettersPerPress 50 = .ok (.iload 4, 2) := dk_21 4 (dk_at dksX1_lettersPerPress_2 3 rfl rfl)
theorem dX1_lettersPerPress_52 : decode cX1_lettersPerPress 52 = .ok (.bipush 100, 2) := dk_16 100 (dk_at dksX1_lettersPerPress_2 5 rfl rfl)
theorem dX1_lettersPerPress_54 : decode cX1_lettersPerPress 54 = .ok (.if_icmp .ne 7, 3) := dk_160 0 7 (dk_at dksX1_lettersPerPress_2 7 rfl rfl)
theorem dX1_lettersPerPress_57 : decode cX1_lettersPerPress 57 = .ok (.iconst 0, 1) := dk_3 (dk_at dksX1_lettersPerPress_2 10 rfl rfl)
theorem dX1_lettersPerPress_58 : decode cX1_lettersPerPress 58 = .ok (.goto 23, 3) := dk_167 0 23 (dk_at dksX1_lettersPerPress_2 11 rfl rfl)
theorem dX1_lettersPerPress_61 : decode cX1_lettersPerPress 61 = .ok (.aload_n 0, 1) := dk_42 (dk_at dksX1_lettersPerPress_2 14 rfl rfl)
theorem dX1_lettersPerPress_62 : decode cX1_lettersPerPress 62 = .ok (.getfield 54, 3) := dk_180 0 54 (dk_at dksX1_lettersPerPress_2 15 rfl rfl)
theorem dX1_lettersPerPress_65 : decode cX1_lettersPerPress 65 = .ok (.getfield 126, 3) := dk_180 0 126 (dk_at dksX1_lettersPerPress_2 18 rfl rfl)
theorem dX1_lettersPerPress_68 : decode cX1_lettersPerPress 68 = .ok (.iload_n 3, 1) := dk_29 (dk_at dksX1_lettersPerPress_2 21 rfl rfl)
theorem dX1_lettersPerPress_69 : decode cX1_lettersPerPress 69 = .ok (.invokevirtual 120, 3) := dk_182 0 120 (dk_at dksX1_lettersPerPress_3 0 rfl rfl)
theorem dX1_lettersPerPress_72 : decode cX1_lettersPerPress 72 = .ok (.checkcast 129, 3) := dk_192 0 129 (dk_at dksX1_lettersPerPress_3 3 rfl rfl)
theorem dX1_lettersPerPress_75 : decode cX1_lettersPerPress 75 = .ok (.getfield 173, 3) := dk_180 0 173 (dk_at dksX1_lettersPerPress_3 6 rfl rfl)
theorem dX1_lettersPerPress_78 : decode cX1_lettersPerPress 78 = .ok (.invokevirtual 24, 3) := dk_182 0 24 (dk_at dksX1_lettersPerPress_3 9 rfl rfl)
theorem dX1_lettersPerPress_81 : decode cX1_lettersPerPress 81 = .ok (.iadd, 1) := dk_96 (dk_at dksX1_lettersPerPress_3 12 rfl rfl)
theorem dX1_lettersPerPress_82 : decode cX1_lettersPerPress 82 = .ok (.istore_n 1, 1) := dk_60 (dk_at dksX1_lettersPerPress_3 13 rfl rfl)
theorem dX1_lettersPerPress_83 : decode cX1_lettersPerPress 83 = .ok (.iload_n 2, 1) := dk_28 (dk_at dksX1_lettersPerPress_3 14 rfl rfl)
theorem dX1_lettersPerPress_84 : decode cX1_lettersPerPress 84 = .ok (.iload 4, 2) := dk_21 4 (dk_at dksX1_lettersPerPress_3 15 rfl rfl)
theorem dX1_lettersPerPress_86 : decode cX1_lettersPerPress 86 = .ok (.bipush 100, 2) := dk_16 100 (dk_at dksX1_lettersPerPress_3 17 rfl rfl)
theorem dX1_lettersPerPress_88 : decode cX1_lettersPerPress 88 = .ok (.if_icmp .ne 7, 3) := dk_160 0 7 (dk_at dksX1_lettersPerPress_3 19 rfl rfl)
theorem dX1_lettersPerPress_91 : decode cX1_lettersPerPress 91 = .ok (.iconst 0, 1) := dk_3 (dk_at dksX1_lettersPerPress_3 22 rfl rfl)
theorem dX1_lettersPerPress_92 : decode cX1_lettersPerPress 92 = .ok (.goto 5, 3) := dk_167 0 5 (dk_at dksX1_lettersPerPress_4 0 rfl rfl)
theorem dX1_lettersPerPress_95 : decode cX1_lettersPerPress 95 = .ok (.iload 4, 2) := dk_21 4 (dk_at dksX1_lettersPerPress_4 3 rfl rfl)
theorem dX1_lettersPerPress_97 : decode cX1_lettersPerPress 97 = .ok (.iadd, 1) := dk_96 (dk_at dksX1_lettersPerPress_4 5 rfl rfl)
theorem dX1_lettersPerPress_98 : decode cX1_lettersPerPress 98 = .ok (.istore_n 2, 1) := dk_61 (dk_at dksX1_lettersPerPress_4 6 rfl rfl)
theorem dX1_lettersPerPress_99 : decode cX1_lettersPerPress 99 = .ok (.iinc 3 1, 3) := dk_132 3 1 (dk_at dksX1_lettersPerPress_4 7 rfl rfl)
theorem dX1_lettersPerPress_102 : decode cX1_lettersPerPress 102 = .ok (.goto (-84), 3) := dk_167 255 172 (dk_at dksX1_lettersPerPress_4 10 rfl rfl)
theorem dX1_lettersPerPress_105 : decode cX1_lettersPerPress 105 = .ok (.iload_n 2, 1) := dk_28 (dk_at dksX1_lettersPerPress_4 13 rfl rfl)
theorem dX1_lettersPerPress_106 : decode cX1_lettersPerPress 106 = .ok (.ifCond .ne 7, 3) := dk_154 0 7 (dk_at dksX1_lettersPerPress_4 14 rfl rfl)
theorem dX1_lettersPerPress_109 : decode cX1_lettersPerPress 109 = .ok (.dconst 0, 1) := dk_14 (dk_at dksX1_lettersPerPress_4 17 rfl rfl)
theorem dX1_lettersPerPress_110 : decode cX1_lettersPerPress 110 = .ok (.goto 8, 3) := dk_167 0 8 (dk_at dksX1_lettersPerPress_4 18 rfl rfl)
theorem dX1_lettersPerPress_113 : decode cX1_lettersPerPress 113 = .ok (.iload_n 1, 1) := dk_27 (dk_at dksX1_lettersPerPress_4 21 rfl rfl)
theorem dX1_lettersPerPress_114 : decode cX1_lettersPerPress 114 = .ok (.i2d, 1) := dk_135 (dk_at dksX1_lettersPerPress_4 22 rfl rfl)
theorem dX1_lettersPerPress_115 : decode cX1_lettersPerPress 115 = .ok (.iload_n 2, 1) := dk_28 (dk_at dksX1_lettersPerPress_4 23 rfl rfl)
theorem dX1_lettersPerPress_116 : decode cX1_lettersPerPress 116 = .ok (.i2d, 1) := dk_135 (dk_at dksX1_lettersPerPress_5 0 rfl rfl)
theorem dX1_lettersPerPress_117 : decode cX1_lettersPerPress 117 = .ok (.ddiv, 1) := dk_111 (dk_at dksX1_lettersPerPress_5 1 rfl rfl)
theorem dX1_lettersPerPress_118 : decode cX1_lettersPerPress 118 = .ok (.dreturn, 1) := dk_175 (dk_at dksX1_lettersPerPress_5 2 rfl rfl)
abbrev cX1_digest : ByteArray := prog_1_method_40_code
def yX1_digest : MethodName := ⟨RX1, "digest", "()J"⟩
def dkwX1_digest_11 : List UInt8 := [20, 1, 52, 31, 105, 42, 182, 1, 15, 133, 97, 105, 42, 180, 0, 61, 182, 0, 90, 133, 97, 173]
abbrev dktX1_digest_11 : List UInt8 := dkwX1_digest_11 ++ []
def dkwX1_digest_10 : List UInt8 := [180, 1, 7, 21, 4, 46, 133, 97, 64, 132, 4, 1, 167, 255, 223, 132, 3, 1, 167, 255, 124, 20, 1, 52]
abbrev dktX1_digest_10 : List UInt8 := dkwX1_digest_10 ++ dktX1_digest_11
def dkwX1_digest_9 : List UInt8 := [54, 4, 21, 4, 42, 180, 0, 68, 180, 1, 6, 162, 0, 27, 20, 1, 52, 31, 105, 42, 180, 0, 68]
abbrev dktX1_digest_9 : List UInt8 := dkwX1_digest_9 ++ dktX1_digest_10
def dkwX1_digest_8 : List UInt8 := [180, 0, 68, 42, 180, 0, 54, 182, 0, 206, 29, 42, 180, 0, 54, 182, 0, 210, 182, 1, 2, 87, 3]
abbrev dktX1_digest_8 : List UInt8 := dkwX1_digest_8 ++ dktX1_digest_9
def dkwX1_digest_7 : List UInt8 := [31, 42, 180, 0, 54, 180, 0, 126, 29, 182, 0, 120, 192, 0, 129, 180, 0, 173, 184, 1, 58, 64, 42]
abbrev dktX1_digest_7 : List UInt8 := dkwX1_digest_7 ++ dktX1_digest_8
def dkwX1_digest_6 : List UInt8 := [162, 0, 24, 20, 1, 52, 31, 105, 42, 29, 21, 4, 182, 0, 255, 133, 97, 64, 132, 4, 1, 167, 255, 231]
abbrev dktX1_digest_6 : List UInt8 := dkwX1_digest_6 ++ dktX1_digest_7
def dkwX1_digest_5 : List UInt8 := [62, 29, 42, 180, 0, 54, 180, 0, 126, 182, 0, 109, 162, 0, 124, 3, 54, 4, 21, 4, 16, 6]
abbrev dktX1_digest_5 : List UInt8 := dkwX1_digest_5 ++ dktX1_digest_6
def dkwX1_digest_4 : List UInt8 := [180, 0, 105, 29, 182, 0, 120, 192, 0, 124, 180, 0, 240, 184, 1, 58, 64, 132, 3, 1, 167, 255, 183, 3]
abbrev dktX1_digest_4 : List UInt8 := dkwX1_digest_4 ++ dktX1_digest_5
def dkwX1_digest_3 : List UInt8 := [180, 0, 54, 29, 21, 4, 182, 0, 237, 133, 97, 64, 132, 4, 1, 167, 255, 228, 31, 42, 180, 0, 54]
abbrev dktX1_digest_3 : List UInt8 := dkwX1_digest_3 ++ dktX1_digest_4
def dkwX1_digest_2 : List UInt8 := [182, 0, 109, 162, 0, 65, 3, 54, 4, 21, 4, 16, 6, 162, 0, 27, 20, 1, 52, 31, 105, 42]
abbrev dktX1_digest_2 : List UInt8 := dkwX1_digest_2 ++ dktX1_digest_3
def dkwX1_digest_1 : List UInt8 := [29, 182, 0, 234, 133, 97, 64, 132, 3, 1, 167, 255, 234, 3, 62, 29, 42, 180, 0, 54, 180, 0, 105]
abbrev dktX1_digest_1 : List UInt8 := dkwX1_digest_1 ++ dktX1_digest_2
def dkwX1_digest_0 : List UInt8 := [20, 1, 56, 42, 180, 0, 134, 133, 97, 64, 3, 62, 29, 16, 9, 162, 0, 22, 20, 1, 52, 31, 105, 42]
abbrev dktX1_digest_0 : List UInt8 := dkwX1_digest_0 ++ dktX1_digest_1
theorem dksX1_digest_0 : cX1_digest.data.toList.drop 0 = dktX1_digest_0 := by decide +kernel
theorem dksX1_digest_1 : cX1_digest.data.toList.drop 24 = dktX1_digest_1 := dk_seg dksX1_digest_0 24 rfl rfl
theorem dksX1_digest_2 : cX1_digest.data.toList.drop 47 = dktX1_digest_2 := dk_seg dksX1_digest_1 23 rfl rfl
theorem dksX1_digest_3 : cX1_digest.data.toList.drop 69 = dktX1_digest_3 := dk_seg dksX1_digest_2 22 rfl rfl
theorem dksX1_digest_4 : cX1_digest.data.toList.drop 92 = dktX1_digest_4 := dk_seg dksX1_digest_3 23 rfl rfl
theorem dksX1_digest_5 : cX1_digest.data.toList.drop 116 = dktX1_digest_5 := dk_seg dksX1_digest_4 24 rfl rfl
theorem dksX1_digest_6 : cX1_digest.data.toList.drop 138 = dktX1_digest_6 := dk_seg dksX1_digest_5 22 rfl rfl
theorem dksX1_digest_7 : cX1_digest.data.toList.drop 162 = dktX1_digest_7 := dk_seg dksX1_digest_6 24 rfl rfl
theorem dksX1_digest_8 : cX1_digest.data.toList.drop 185 = dktX1_digest_8 := dk_seg dksX1_digest_7 23 rfl rfl
theorem dksX1_digest_9 : cX1_digest.data.toList.drop 208 = dktX1_digest_9 := dk_seg dksX1_digest_8 23 rfl rfl
theorem dksX1_digest_10 : cX1_digest.data.toList.drop 231 = dktX1_digest_10 := dk_seg dksX1_digest_9 23 rfl rfl
theorem dksX1_digest_11 : cX1_digest.data.toList.drop 255 = dktX1_digest_11 := dk_seg dksX1_digest_10 24 rfl rfl
theorem dX1_digest_0 : decode cX1_digest 0 = .ok (.ldc2_w 312, 3) := dk_20 1 56 (dk_at dksX1_digest_0 0 rfl rfl)
theorem dX1_digest_3 : decode cX1_digest 3 = .ok (.aload_n 0, 1) := dk_42 (dk_at dksX1_digest_0 3 rfl rfl)
theorem dX1_digest_4 : decode cX1_digest 4 = .ok (.getfield 134, 3) := dk_180 0 134 (dk_at dksX1_digest_0 4 rfl rfl)
theorem dX1_digest_7 : decode cX1_digest 7 = .ok (.i2l, 1) := dk_133 (dk_at dksX1_digest_0 7 rfl rfl)
theorem dX1_digest_8 : decode cX1_digest 8 = .ok (.ladd, 1) := dk_97 (dk_at dksX1_digest_0 8 rfl rfl)
theorem dX1_digest_9 : decode cX1_digest 9 = .ok (.lstore_n 1, 1) := dk_64 (dk_at dksX1_digest_0 9 rfl rfl)
theorem dX1_digest_10 : decode cX1_digest 10 = .ok (.iconst 0, 1) := dk_3 (dk_at dksX1_digest_0 10 rfl rfl)
theorem dX1_digest_11 : decode cX1_digest 11 = .ok (.istore_n 3, 1) := dk_62 (dk_at dksX1_digest_0 11 rfl rfl)
theorem dX1_digest_12 : decode cX1_digest 12 = .ok (.iload_n 3, 1) := dk_29 (dk_at dksX1_digest_0 12 rfl rfl)
theorem dX1_digest_13 : decode cX1_digest 13 = .ok (.bipush 9, 2) := dk_16 9 (dk_at dksX1_digest_0 13 rfl rfl)
theorem dX1_digest_15 : decode cX1_digest 15 = .ok (.if_icmp .ge 22, 3) := dk_162 0 22 (dk_at dksX1_digest_0 15 rfl rfl)
theorem dX1_digest_18 : decode cX1_digest 18 = .ok (.ldc2_w 308, 3) := dk_20 1 52 (dk_at dksX1_digest_0 18 rfl rfl)
theorem dX1_digest_21 : decode cX1_digest 21 = .ok (.lload_n 1, 1) := dk_31 (dk_at dksX1_digest_0 21 rfl rfl)
theorem dX1_digest_22 : decode cX1_digest 22 = .ok (.lmul, 1) := dk_105 (dk_at dksX1_digest_0 22 rfl rfl)
theorem dX1_digest_23 : decode cX1_digest 23 = .ok (.aload_n 0, 1) := dk_42 (dk_at dksX1_digest_0 23 rfl rfl)
theorem dX1_digest_24 : decode cX1_digest 24 = .ok (.iload_n 3, 1) := dk_29 (dk_at dksX1_digest_1 0 rfl rfl)
theorem dX1_digest_25 : decode cX1_digest 25 = .ok (.invokevirtual 234, 3) := dk_182 0 234 (dk_at dksX1_digest_1 1 rfl rfl)
theorem dX1_digest_28 : decode cX1_digest 28 = .ok (.i2l, 1) := dk_133 (dk_at dksX1_digest_1 4 rfl rfl)
theorem dX1_digest_29 : decode cX1_digest 29 = .ok (.ladd, 1) := dk_97 (dk_at dksX1_digest_1 5 rfl rfl)
theorem dX1_digest_30 : decode cX1_digest 30 = .ok (.lstore_n 1, 1) := dk_64 (dk_at dksX1_digest_1 6 rfl rfl)
theorem dX1_digest_31 : decode cX1_digest 31 = .ok (.iinc 3 1, 3) := dk_132 3 1 (dk_at dksX1_digest_1 7 rfl rfl)
theorem dX1_digest_34 : decode cX1_digest 34 = .ok (.goto (-22), 3) := dk_167 255 234 (dk_at dksX1_digest_1 10 rfl rfl)
theorem dX1_digest_37 : decode cX1_digest 37 = .ok (.iconst 0, 1) := dk_3 (dk_at dksX1_digest_1 13 rfl rfl)
theorem dX1_digest_38 : decode cX1_digest 38 = .ok (.istore_n 3, 1) := dk_62 (dk_at dksX1_digest_1 14 rfl rfl)
theorem dX1_digest_39 : decode cX1_digest 39 = .ok (.iload_n 3, 1) := dk_29 (dk_at dksX1_digest_1 15 rfl rfl)
theorem dX1_digest_40 : decode cX1_digest 40 = .ok (.aload_n 0, 1) := dk_42 (dk_at dksX1_digest_1 16 rfl rfl)
theorem dX1_digest_41 : decode cX1_digest 41 = .ok (.getfield 54, 3) := dk_180 0 54 (dk_at dksX1_digest_1 17 rfl rfl)
theorem dX1_digest_44 : decode cX1_digest 44 = .ok (.getfield 105, 3) := dk_180 0 105 (dk_at dksX1_digest_1 20 rfl rfl)
theorem dX1_digest_47 : decode cX1_digest 47 = .ok (.invokevirtual 109, 3) := dk_182 0 109 (dk_at dksX1_digest_2 0 rfl rfl)
theorem dX1_digest_50 : decode cX1_digest 50 = .ok (.if_icmp .ge 65, 3) := dk_162 0 65 (dk_at dksX1_digest_2 3 rfl rfl)
theorem dX1_digest_53 : decode cX1_digest 53 = .ok (.iconst 0, 1) := dk_3 (dk_at dksX1_digest_2 6 rfl rfl)
theorem dX1_digest_54 : decode cX1_digest 54 = .ok (.istore 4, 2) := dk_54 4 (dk_at dksX1_digest_2 7 rfl rfl)
theorem dX1_digest_56 : decode cX1_digest 56 = .ok (.iload 4, 2) := dk_21 4 (dk_at dksX1_digest_2 9 rfl rfl)
theorem dX1_digest_58 : decode cX1_digest 58 = .ok (.bipush 6, 2) := dk_16 6 (dk_at dksX1_digest_2 11 rfl rfl)
theorem dX1_digest_60 : decode cX1_digest 60 = .ok (.if_icmp .ge 27, 3) := dk_162 0 27 (dk_at dksX1_digest_2 13 rfl rfl)
theorem dX1_digest_63 : decode cX1_digest 63 = .ok (.ldc2_w 308, 3) := dk_20 1 52 (dk_at dksX1_digest_2 16 rfl rfl)
theorem dX1_digest_66 : decode cX1_digest 66 = .ok (.lload_n 1, 1) := dk_31 (dk_at dksX1_digest_2 19 rfl rfl)
theorem dX1_digest_67 : decode cX1_digest 67 = .ok (.lmul, 1) := dk_105 (dk_at dksX1_digest_2 20 rfl rfl)
theorem dX1_digest_68 : decode cX1_digest 68 = .ok (.aload_n 0, 1) := dk_42 (dk_at dksX1_digest_2 21 rfl rfl)
theorem dX1_digest_69 : decode cX1_digest 69 = .ok (.getfield 54, 3) := dk_180 0 54 (dk_at dksX1_digest_3 0 rfl rfl)
theorem dX1_digest_72 : decode cX1_digest 72 = .ok (.iload_n 3, 1) := dk_29 (dk_at dksX1_digest_3 3 rfl rfl)
theorem dX1_digest_73 : decode cX1_digest 73 = .ok (.iload 4, 2) := dk_21 4 (dk_at dksX1_digest_3 4 rfl rfl)
theorem dX1_digest_75 : decode cX1_digest 75 = .ok (.invokevirtual 237, 3) := dk_182 0 237 (dk_at dksX1_digest_3 6 rfl rfl)
theorem dX1_digest_78 : decode cX1_digest 78 = .ok (.i2l, 1) := dk_133 (dk_at dksX1_digest_3 9 rfl rfl)
theorem dX1_digest_79 : decode cX1_digest 79 = .ok (.ladd, 1) := dk_97 (dk_at dksX1_digest_3 10 rfl rfl)
theorem dX1_digest_80 : decode cX1_digest 80 = .ok (.lstore_n 1, 1) := dk_64 (dk_at dksX1_digest_3 11 rfl rfl)
theorem dX1_digest_81 : decode cX1_digest 81 = .ok (.iinc 4 1, 3) := dk_132 4 1 (dk_at dksX1_digest_3 12 rfl rfl)
theorem dX1_digest_84 : decode cX1_digest 84 = .ok (.goto (-28), 3) := dk_167 255 228 (dk_at dksX1_digest_3 15 rfl rfl)
theorem dX1_digest_87 : decode cX1_digest 87 = .ok (.lload_n 1, 1) := dk_31 (dk_at dksX1_digest_3 18 rfl rfl)
theorem dX1_digest_88 : decode cX1_digest 88 = .ok (.aload_n 0, 1) := dk_42 (dk_at dksX1_digest_3 19 rfl rfl)
theorem dX1_digest_89 : decode cX1_digest 89 = .ok (.getfield 54, 3) := dk_180 0 54 (dk_at dksX1_digest_3 20 rfl rfl)
theorem dX1_digest_92 : decode cX1_digest 92 = .ok (.getfield 105, 3) := dk_180 0 105 (dk_at dksX1_digest_4 0 rfl rfl)
theorem dX1_digest_95 : decode cX1_digest 95 = .ok (.iload_n 3, 1) := dk_29 (dk_at dksX1_digest_4 3 rfl rfl)
theorem dX1_digest_96 : decode cX1_digest 96 = .ok (.invokevirtual 120, 3) := dk_182 0 120 (dk_at dksX1_digest_4 4 rfl rfl)
theorem dX1_digest_99 : decode cX1_digest 99 = .ok (.checkcast 124, 3) := dk_192 0 124 (dk_at dksX1_digest_4 7 rfl rfl)
theorem dX1_digest_102 : decode cX1_digest 102 = .ok (.getfield 240, 3) := dk_180 0 240 (dk_at dksX1_digest_4 10 rfl rfl)
theorem dX1_digest_105 : decode cX1_digest 105 = .ok (.invokestatic 314, 3) := dk_184 1 58 (dk_at dksX1_digest_4 13 rfl rfl)
theorem dX1_digest_108 : decode cX1_digest 108 = .ok (.lstore_n 1, 1) := dk_64 (dk_at dksX1_digest_4 16 rfl rfl)
theorem dX1_digest_109 : decode cX1_digest 109 = .ok (.iinc 3 1, 3) := dk_132 3 1 (dk_at dksX1_digest_4 17 rfl rfl)
theorem dX1_digest_112 : decode cX1_digest 112 = .ok (.goto (-73), 3) := dk_167 255 183 (dk_at dksX1_digest_4 20 rfl rfl)
theorem dX1_digest_115 : decode cX1_digest 115 = .ok (.iconst 0, 1) := dk_3 (dk_at dksX1_digest_4 23 rfl rfl)
theorem dX1_digest_116 : decode cX1_digest 116 = .ok (.istore_n 3, 1) := dk_62 (dk_at dksX1_digest_5 0 rfl rfl)
theorem dX1_digest_117 : decode cX1_digest 117 = .ok (.iload_n 3, 1) := dk_29 (dk_at dksX1_digest_5 1 rfl rfl)
theorem dX1_digest_118 : decode cX1_digest 118 = .ok (.aload_n 0, 1) := dk_42 (dk_at dksX1_digest_5 2 rfl rfl)
theorem dX1_digest_119 : decode cX1_digest 119 = .ok (.getfield 54, 3) := dk_180 0 54 (dk_at dksX1_digest_5 3 rfl rfl)
theorem dX1_digest_122 : decode cX1_digest 122 = .ok (.getfield 126, 3) := dk_180 0 126 (dk_at dksX1_digest_5 6 rfl rfl)
theorem dX1_digest_125 : decode cX1_digest 125 = .ok (.invokevirtual 109, 3) := dk_182 0 109 (dk_at dksX1_digest_5 9 rfl rfl)
theorem dX1_digest_128 : decode cX1_digest 128 = .ok (.if_icmp .ge 124, 3) := dk_162 0 124 (dk_at dksX1_digest_5 12 rfl rfl)
theorem dX1_digest_131 : decode cX1_digest 131 = .ok (.iconst 0, 1) := dk_3 (dk_at dksX1_digest_5 15 rfl rfl)
theorem dX1_digest_132 : decode cX1_digest 132 = .ok (.istore 4, 2) := dk_54 4 (dk_at dksX1_digest_5 16 rfl rfl)
theorem dX1_digest_134 : decode cX1_digest 134 = .ok (.iload 4, 2) := dk_21 4 (dk_at dksX1_digest_5 18 rfl rfl)
theorem dX1_digest_136 : decode cX1_digest 136 = .ok (.bipush 6, 2) := dk_16 6 (dk_at dksX1_digest_5 20 rfl rfl)
theorem dX1_digest_138 : decode cX1_digest 138 = .ok (.if_icmp .ge 24, 3) := dk_162 0 24 (dk_at dksX1_digest_6 0 rfl rfl)
theorem dX1_digest_141 : decode cX1_digest 141 = .ok (.ldc2_w 308, 3) := dk_20 1 52 (dk_at dksX1_digest_6 3 rfl rfl)
theorem dX1_digest_144 : decode cX1_digest 144 = .ok (.lload_n 1, 1) := dk_31 (dk_at dksX1_digest_6 6 rfl rfl)
theorem dX1_digest_145 : decode cX1_digest 145 = .ok (.lmul, 1) := dk_105 (dk_at dksX1_digest_6 7 rfl rfl)
theorem dX1_digest_146 : decode cX1_digest 146 = .ok (.aload_n 0, 1) := dk_42 (dk_at dksX1_digest_6 8 rfl rfl)
theorem dX1_digest_147 : decode cX1_digest 147 = .ok (.iload_n 3, 1) := dk_29 (dk_at dksX1_digest_6 9 rfl rfl)
theorem dX1_digest_148 : decode cX1_digest 148 = .ok (.iload 4, 2) := dk_21 4 (dk_at dksX1_digest_6 10 rfl rfl)
theorem dX1_digest_150 : decode cX1_digest 150 = .ok (.invokevirtual 255, 3) := dk_182 0 255 (dk_at dksX1_digest_6 12 rfl rfl)
theorem dX1_digest_153 : decode cX1_digest 153 = .ok (.i2l, 1) := dk_133 (dk_at dksX1_digest_6 15 rfl rfl)
theorem dX1_digest_154 : decode cX1_digest 154 = .ok (.ladd, 1) := dk_97 (dk_at dksX1_digest_6 16 rfl rfl)
theorem dX1_digest_155 : decode cX1_digest 155 = .ok (.lstore_n 1, 1) := dk_64 (dk_at dksX1_digest_6 17 rfl rfl)
theorem dX1_digest_156 : decode cX1_digest 156 = .ok (.iinc 4 1, 3) := dk_132 4 1 (dk_at dksX1_digest_6 18 rfl rfl)
theorem dX1_digest_159 : decode cX1_digest 159 = .ok (.goto (-25), 3) := dk_167 255 231 (dk_at dksX1_digest_6 21 rfl rfl)
theorem dX1_digest_162 : decode cX1_digest 162 = .ok (.lload_n 1, 1) := dk_31 (dk_at dksX1_digest_7 0 rfl rfl)
theorem dX1_digest_163 : decode cX1_digest 163 = .ok (.aload_n 0, 1) := dk_42 (dk_at dksX1_digest_7 1 rfl rfl)
theorem dX1_digest_164 : decode cX1_digest 164 = .ok (.getfield 54, 3) := dk_180 0 54 (dk_at dksX1_digest_7 2 rfl rfl)
theorem dX1_digest_167 : decode cX1_digest 167 = .ok (.getfield 126, 3) := dk_180 0 126 (dk_at dksX1_digest_7 5 rfl rfl)
theorem dX1_digest_170 : decode cX1_digest 170 = .ok (.iload_n 3, 1) := dk_29 (dk_at dksX1_digest_7 8 rfl rfl)
theorem dX1_digest_171 : decode cX1_digest 171 = .ok (.invokevirtual 120, 3) := dk_182 0 120 (dk_at dksX1_digest_7 9 rfl rfl)
theorem dX1_digest_174 : decode cX1_digest 174 = .ok (.checkcast 129, 3) := dk_192 0 129 (dk_at dksX1_digest_7 12 rfl rfl)
theorem dX1_digest_177 : decode cX1_digest 177 = .ok (.getfield 173, 3) := dk_180 0 173 (dk_at dksX1_digest_7 15 rfl rfl)
theorem dX1_digest_180 : decode cX1_digest 180 = .ok (.invokestatic 314, 3) := dk_184 1 58 (dk_at dksX1_digest_7 18 rfl rfl)
theorem dX1_digest_183 : decode cX1_digest 183 = .ok (.lstore_n 1, 1) := dk_64 (dk_at dksX1_digest_7 21 rfl rfl)
theorem dX1_digest_184 : decode cX1_digest 184 = .ok (.aload_n 0, 1) := dk_42 (dk_at dksX1_digest_7 22 rfl rfl)
theorem dX1_digest_185 : decode cX1_digest 185 = .ok (.getfield 68, 3) := dk_180 0 68 (dk_at dksX1_digest_8 0 rfl rfl)
theorem dX1_digest_188 : decode cX1_digest 188 = .ok (.aload_n 0, 1) := dk_42 (dk_at dksX1_digest_8 3 rfl rfl)
theorem dX1_digest_189 : decode cX1_digest 189 = .ok (.getfield 54, 3) := dk_180 0 54 (dk_at dksX1_digest_8 4 rfl rfl)
theorem dX1_digest_192 : decode cX1_digest 192 = .ok (.invokevirtual 206, 3) := dk_182 0 206 (dk_at dksX1_digest_8 7 rfl rfl)
theorem dX1_digest_195 : decode cX1_digest 195 = .ok (.iload_n 3, 1) := dk_29 (dk_at dksX1_digest_8 10 rfl rfl)
theorem dX1_digest_196 : decode cX1_digest 196 = .ok (.aload_n 0, 1) := dk_42 (dk_at dksX1_digest_8 11 rfl rfl)
theorem dX1_digest_197 : decode cX1_digest 197 = .ok (.getfield 54, 3) := dk_180 0 54 (dk_at dksX1_digest_8 12 rfl rfl)
theorem dX1_digest_200 : decode cX1_digest 200 = .ok (.invokevirtual 210, 3) := dk_182 0 210 (dk_at dksX1_digest_8 15 rfl rfl)
theorem dX1_digest_203 : decode cX1_digest 203 = .ok (.invokevirtual 258, 3) := dk_182 1 2 (dk_at dksX1_digest_8 18 rfl rfl)
theorem dX1_digest_206 : decode cX1_digest 206 = .ok (.pop, 1) := dk_87 (dk_at dksX1_digest_8 21 rfl rfl)
theorem dX1_digest_207 : decode cX1_digest 207 = .ok (.iconst 0, 1) := dk_3 (dk_at dksX1_digest_8 22 rfl rfl)
theorem dX1_digest_208 : decode cX1_digest 208 = .ok (.istore 4, 2) := dk_54 4 (dk_at dksX1_digest_9 0 rfl rfl)
theorem dX1_digest_210 : decode cX1_digest 210 = .ok (.iload 4, 2) := dk_21 4 (dk_at dksX1_digest_9 2 rfl rfl)
theorem dX1_digest_212 : decode cX1_digest 212 = .ok (.aload_n 0, 1) := dk_42 (dk_at dksX1_digest_9 4 rfl rfl)
theorem dX1_digest_213 : decode cX1_digest 213 = .ok (.getfield 68, 3) := dk_180 0 68 (dk_at dksX1_digest_9 5 rfl rfl)
theorem dX1_digest_216 : decode cX1_digest 216 = .ok (.getfield 262, 3) := dk_180 1 6 (dk_at dksX1_digest_9 8 rfl rfl)
theorem dX1_digest_219 : decode cX1_digest 219 = .ok (.if_icmp .ge 27, 3) := dk_162 0 27 (dk_at dksX1_digest_9 11 rfl rfl)
theorem dX1_digest_222 : decode cX1_digest 222 = .ok (.ldc2_w 308, 3) := dk_20 1 52 (dk_at dksX1_digest_9 14 rfl rfl)
theorem dX1_digest_225 : decode cX1_digest 225 = .ok (.lload_n 1, 1) := dk_31 (dk_at dksX1_digest_9 17 rfl rfl)
theorem dX1_digest_226 : decode cX1_digest 226 = .ok (.lmul, 1) := dk_105 (dk_at dksX1_digest_9 18 rfl rfl)
theorem dX1_digest_227 : decode cX1_digest 227 = .ok (.aload_n 0, 1) := dk_42 (dk_at dksX1_digest_9 19 rfl rfl)
theorem dX1_digest_228 : decode cX1_digest 228 = .ok (.getfield 68, 3) := dk_180 0 68 (dk_at dksX1_digest_9 20 rfl rfl)
theorem dX1_digest_231 : decode cX1_digest 231 = .ok (.getfield 263, 3) := dk_180 1 7 (dk_at dksX1_digest_10 0 rfl rfl)
theorem dX1_digest_234 : decode cX1_digest 234 = .ok (.iload 4, 2) := dk_21 4 (dk_at dksX1_digest_10 3 rfl rfl)
theorem dX1_digest_236 : decode cX1_digest 236 = .ok (.iaload, 1) := dk_46 (dk_at dksX1_digest_10 5 rfl rfl)
theorem dX1_digest_237 : decode cX1_digest 237 = .ok (.i2l, 1) := dk_133 (dk_at dksX1_digest_10 6 rfl rfl)
theorem dX1_digest_238 : decode cX1_digest 238 = .ok (.ladd, 1) := dk_97 (dk_at dksX1_digest_10 7 rfl rfl)
theorem dX1_digest_239 : decode cX1_digest 239 = .ok (.lstore_n 1, 1) := dk_64 (dk_at dksX1_digest_10 8 rfl rfl)
theorem dX1_digest_240 : decode cX1_digest 240 = .ok (.iinc 4 1, 3) := dk_132 4 1 (dk_at dksX1_digest_10 9 rfl rfl)
theorem dX1_digest_243 : decode cX1_digest 243 = .ok (.goto (-33), 3) := dk_167 255 223 (dk_at dksX1_digest_10 12 rfl rfl)
theorem dX1_digest_246 : decode cX1_digest 246 = .ok (.iinc 3 1, 3) := dk_132 3 1 (dk_at dksX1_digest_10 15 rfl rfl)
theorem dX1_digest_249 : decode cX1_digest 249 = .ok (.goto (-132), 3) := dk_167 255 124 (dk_at dksX1_digest_10 18 rfl rfl)
theorem dX1_digest_252 : decode cX1_digest 252 = .ok (.ldc2_w 308, 3) := dk_20 1 52 (dk_at dksX1_digest_10 21 rfl rfl)
theorem dX1_digest_255 : decode cX1_digest 255 = .ok (.ldc2_w 308, 3) := dk_20 1 52 (dk_at dksX1_digest_11 0 rfl rfl)
theorem dX1_digest_258 : decode cX1_digest 258 = .ok (.lload_n 1, 1) := dk_31 (dk_at dksX1_digest_11 3 rfl rfl)
theorem dX1_digest_259 : decode cX1_digest 259 = .ok (.lmul, 1) := dk_105 (dk_at dksX1_digest_11 4 rfl rfl)
theorem dX1_digest_260 : decode cX1_digest 260 = .ok (.aload_n 0, 1) := dk_42 (dk_at dksX1_digest_11 5 rfl rfl)
theorem dX1_digest_261 : decode cX1_digest 261 = .ok (.invokevirtual 271, 3) := dk_182 1 15 (dk_at dksX1_digest_11 6 rfl rfl)
theorem dX1_digest_264 : decode cX1_digest 264 = .ok (.i2l, 1) := dk_133 (dk_at dksX1_digest_11 9 rfl rfl)
theorem dX1_digest_265 : decode cX1_digest 265 = .ok (.ladd, 1) := dk_97 (dk_at dksX1_digest_11 10 rfl rfl)
theorem dX1_digest_266 : decode cX1_digest 266 = .ok (.lmul, 1) := dk_105 (dk_at dksX1_digest_11 11 rfl rfl)
theorem dX1_digest_267 : decode cX1_digest 267 = .ok (.aload_n 0, 1) := dk_42 (dk_at dksX1_digest_11 12 rfl rfl)
theorem dX1_digest_268 : decode cX1_digest 268 = .ok (.getfield 61, 3) := dk_180 0 61 (dk_at dksX1_digest_11 13 rfl rfl)
theorem dX1_digest_271 : decode cX1_digest 271 = .ok (.invokevirtual 90, 3) := dk_182 0 90 (dk_at dksX1_digest_11 16 rfl rfl)
theorem dX1_digest_274 : decode cX1_digest 274 = .ok (.i2l, 1) := dk_133 (dk_at dksX1_digest_11 19 rfl rfl)
theorem dX1_digest_275 : decode cX1_digest 275 = .ok (.ladd, 1) := dk_97 (dk_at dksX1_digest_11 20 rfl rfl)
theorem dX1_digest_276 : decode cX1_digest 276 = .ok (.lreturn, 1) := dk_173 (dk_at dksX1_digest_11 21 rfl rfl)
abbrev cX1_valueOf : ByteArray := prog_1_method_21_code
def yX1_valueOf : MethodName := ⟨RX1, "valueOf", "(I)I"⟩
def dkwX1_valueOf_6 : List UInt8 := [182, 0, 109, 42, 180, 0, 54, 182, 0, 210, 184, 0, 226, 100, 167, 0, 7, 42, 182, 0, 231, 172]
abbrev dktX1_valueOf_6 : List UInt8 := dkwX1_valueOf_6 ++ []
def dkwX1_valueOf_5 : List UInt8 := [167, 0, 44, 42, 180, 0, 54, 180, 0, 193, 180, 0, 223, 167, 0, 31, 42, 180, 0, 54, 180, 0, 105]
abbrev dktX1_valueOf_5 : List UInt8 := dkwX1_valueOf_5 ++ dktX1_valueOf_6
def dkwX1_valueOf_4 : List UInt8 := [180, 0, 54, 180, 0, 193, 180, 0, 217, 167, 0, 57, 42, 180, 0, 54, 180, 0, 193, 180, 0, 220]
abbrev dktX1_valueOf_4 : List UInt8 := dkwX1_valueOf_4 ++ dktX1_valueOf_5
def dkwX1_valueOf_3 : List UInt8 := [167, 0, 90, 42, 180, 0, 54, 180, 0, 163, 167, 0, 80, 42, 180, 0, 54, 180, 0, 166, 167, 0, 70, 42]
abbrev dktX1_valueOf_3 : List UInt8 := dkwX1_valueOf_3 ++ dktX1_valueOf_4
def dkwX1_valueOf_2 : List UInt8 := [42, 180, 0, 54, 180, 0, 105, 182, 0, 109, 167, 0, 103, 42, 180, 0, 54, 180, 0, 126, 182, 0, 109]
abbrev dktX1_valueOf_2 : List UInt8 := dkwX1_valueOf_2 ++ dktX1_valueOf_3
def dkwX1_valueOf_1 : List UInt8 := [170, 0, 0, 0, 0, 0, 156, 0, 0, 0, 0, 0, 0, 0, 7, 0, 0, 0, 47, 0, 0, 0, 60, 0, 0, 0, 73, 0, 0, 0, 83, 0, 0, 0, 93, 0, 0, 0, 106, 0, 0, 0, 119, 0, 0, 0, 132]
abbrev dktX1_valueOf_1 : List UInt8 := dkwX1_valueOf_1 ++ dktX1_valueOf_2
def dkwX1_valueOf_0 : List UInt8 := [27]
abbrev dktX1_valueOf_0 : List UInt8 := dkwX1_valueOf_0 ++ dktX1_valueOf_1
theorem dksX1_valueOf_0 : cX1_valueOf.data.toList.drop 0 = dktX1_valueOf_0 := by decide +kernel
theorem dksX1_valueOf_1 : cX1_valueOf.data.toList.drop 1 = dktX1_valueOf_1 := dk_seg dksX1_valueOf_0 1 rfl rfl
theorem dksX1_valueOf_2 : cX1_valueOf.data.toList.drop 48 = dktX1_valueOf_2 := dk_seg dksX1_valueOf_1 47 rfl rfl
theorem dksX1_valueOf_3 : cX1_valueOf.data.toList.drop 71 = dktX1_valueOf_3 := dk_seg dksX1_valueOf_2 23 rfl rfl
theorem dksX1_valueOf_4 : cX1_valueOf.data.toList.drop 95 = dktX1_valueOf_4 := dk_seg dksX1_valueOf_3 24 rfl rfl
theorem dksX1_valueOf_5 : cX1_valueOf.data.toList.drop 117 = dktX1_valueOf_5 := dk_seg dksX1_valueOf_4 22 rfl rfl
theorem dksX1_valueOf_6 : cX1_valueOf.data.toList.drop 140 = dktX1_valueOf_6 := dk_seg dksX1_valueOf_5 23 rfl rfl
theorem dX1_valueOf_0 : decode cX1_valueOf 0 = .ok (.iload_n 1, 1) := dk_27 (dk_at dksX1_valueOf_0 0 rfl rfl)
theorem dX1_valueOf_1 : decode cX1_valueOf 1 = .ok (.tableswitch 156 0 7 #[47, 60, 73, 83, 93, 106, 119, 132], 47) := by decide +kernel
theorem dX1_valueOf_48 : decode cX1_valueOf 48 = .ok (.aload_n 0, 1) := dk_42 (dk_at dksX1_valueOf_2 0 rfl rfl)
theorem dX1_valueOf_49 : decode cX1_valueOf 49 = .ok (.getfield 54, 3) := dk_180 0 54 (dk_at dksX1_valueOf_2 1 rfl rfl)
theorem dX1_valueOf_52 : decode cX1_valueOf 52 = .ok (.getfield 105, 3) := dk_180 0 105 (dk_at dksX1_valueOf_2 4 rfl rfl)
theorem dX1_valueOf_55 : decode cX1_valueOf 55 = .ok (.invokevirtual 109, 3) := dk_182 0 109 (dk_at dksX1_valueOf_2 7 rfl rfl)
theorem dX1_valueOf_58 : decode cX1_valueOf 58 = .ok (.goto 103, 3) := dk_167 0 103 (dk_at dksX1_valueOf_2 10 rfl rfl)
theorem dX1_valueOf_61 : decode cX1_valueOf 61 = .ok (.aload_n 0, 1) := dk_42 (dk_at dksX1_valueOf_2 13 rfl rfl)
theorem dX1_valueOf_62 : decode cX1_valueOf 62 = .ok (.getfield 54, 3) := dk_180 0 54 (dk_at dksX1_valueOf_2 14 rfl rfl)
theorem dX1_valueOf_65 : decode cX1_valueOf 65 = .ok (.getfield 126, 3) := dk_180 0 126 (dk_at dksX1_valueOf_2 17 rfl rfl)
theorem dX1_valueOf_68 : decode cX1_valueOf 68 = .ok (.invokevirtual 109, 3) := dk_182 0 109 (dk_at dksX1_valueOf_2 20 rfl rfl)
theorem dX1_valueOf_71 : decode cX1_valueOf 71 = .ok (.goto 90, 3) := dk_167 0 90 (dk_at dksX1_valueOf_3 0 rfl rfl)
theorem dX1_valueOf_74 : decode cX1_valueOf 74 = .ok (.aload_n 0, 1) := dk_42 (dk_at dksX1_valueOf_3 3 rfl rfl)
theorem dX1_valueOf_75 : decode cX1_valueOf 75 = .ok (.getfield 54, 3) := dk_180 0 54 (dk_at dksX1_valueOf_3 4 rfl rfl)
theorem dX1_valueOf_78 : decode cX1_valueOf 78 = .ok (.getfield 163, 3) := dk_180 0 163 (dk_at dksX1_valueOf_3 7 rfl rfl)
theorem dX1_valueOf_81 : decode cX1_valueOf 81 = .ok (.goto 80, 3) := dk_167 0 80 (dk_at dksX1_valueOf_3 10 rfl rfl)
theorem dX1_valueOf_84 : decode cX1_valueOf 84 = .ok (.aload_n 0, 1) := dk_42 (dk_at dksX1_valueOf_3 13 rfl rfl)
theorem dX1_valueOf_85 : decode cX1_valueOf 85 = .ok (.getfield 54, 3) := dk_180 0 54 (dk_at dksX1_valueOf_3 14 rfl rfl)
theorem dX1_valueOf_88 : decode cX1_valueOf 88 = .ok (.getfield 166, 3) := dk_180 0 166 (dk_at dksX1_valueOf_3 17 rfl rfl)
theorem dX1_valueOf_91 : decode cX1_valueOf 91 = .ok (.goto 70, 3) := dk_167 0 70 (dk_at dksX1_valueOf_3 20 rfl rfl)
theorem dX1_valueOf_94 : decode cX1_valueOf 94 = .ok (.aload_n 0, 1) := dk_42 (dk_at dksX1_valueOf_3 23 rfl rfl)
theorem dX1_valueOf_95 : decode cX1_valueOf 95 = .ok (.getfield 54, 3) := dk_180 0 54 (dk_at dksX1_valueOf_4 0 rfl rfl)
theorem dX1_valueOf_98 : decode cX1_valueOf 98 = .ok (.getfield 193, 3) := dk_180 0 193 (dk_at dksX1_valueOf_4 3 rfl rfl)
theorem dX1_valueOf_101 : decode cX1_valueOf 101 = .ok (.getfield 217, 3) := dk_180 0 217 (dk_at dksX1_valueOf_4 6 rfl rfl)
theorem dX1_valueOf_104 : decode cX1_valueOf 104 = .ok (.goto 57, 3) := dk_167 0 57 (dk_at dksX1_valueOf_4 9 rfl rfl)
theorem dX1_valueOf_107 : decode cX1_valueOf 107 = .ok (.aload_n 0, 1) := dk_42 (dk_at dksX1_valueOf_4 12 rfl rfl)
theorem dX1_valueOf_108 : decode cX1_valueOf 108 = .ok (.getfield 54, 3) := dk_180 0 54 (dk_at dksX1_valueOf_4 13 rfl rfl)
theorem dX1_valueOf_111 : decode cX1_valueOf 111 = .ok (.getfield 193, 3) := dk_180 0 193 (dk_at dksX1_valueOf_4 16 rfl rfl)
theorem dX1_valueOf_114 : decode cX1_valueOf 114 = .ok (.getfield 220, 3) := dk_180 0 220 (dk_at dksX1_valueOf_4 19 rfl rfl)
theorem dX1_valueOf_117 : decode cX1_valueOf 117 = .ok (.goto 44, 3) := dk_167 0 44 (dk_at dksX1_valueOf_5 0 rfl rfl)
theorem dX1_valueOf_120 : decode cX1_valueOf 120 = .ok (.aload_n 0, 1) := dk_42 (dk_at dksX1_valueOf_5 3 rfl rfl)
theorem dX1_valueOf_121 : decode cX1_valueOf 121 = .ok (.getfield 54, 3) := dk_180 0 54 (dk_at dksX1_valueOf_5 4 rfl rfl)
theorem dX1_valueOf_124 : decode cX1_valueOf 124 = .ok (.getfield 193, 3) := dk_180 0 193 (dk_at dksX1_valueOf_5 7 rfl rfl)
theorem dX1_valueOf_127 : decode cX1_valueOf 127 = .ok (.getfield 223, 3) := dk_180 0 223 (dk_at dksX1_valueOf_5 10 rfl rfl)
theorem dX1_valueOf_130 : decode cX1_valueOf 130 = .ok (.goto 31, 3) := dk_167 0 31 (dk_at dksX1_valueOf_5 13 rfl rfl)
theorem dX1_valueOf_133 : decode cX1_valueOf 133 = .ok (.aload_n 0, 1) := dk_42 (dk_at dksX1_valueOf_5 16 rfl rfl)
theorem dX1_valueOf_134 : decode cX1_valueOf 134 = .ok (.getfield 54, 3) := dk_180 0 54 (dk_at dksX1_valueOf_5 17 rfl rfl)
theorem dX1_valueOf_137 : decode cX1_valueOf 137 = .ok (.getfield 105, 3) := dk_180 0 105 (dk_at dksX1_valueOf_5 20 rfl rfl)
theorem dX1_valueOf_140 : decode cX1_valueOf 140 = .ok (.invokevirtual 109, 3) := dk_182 0 109 (dk_at dksX1_valueOf_6 0 rfl rfl)
theorem dX1_valueOf_143 : decode cX1_valueOf 143 = .ok (.aload_n 0, 1) := dk_42 (dk_at dksX1_valueOf_6 3 rfl rfl)
theorem dX1_valueOf_144 : decode cX1_valueOf 144 = .ok (.getfield 54, 3) := dk_180 0 54 (dk_at dksX1_valueOf_6 4 rfl rfl)
theorem dX1_valueOf_147 : decode cX1_valueOf 147 = .ok (.invokevirtual 210, 3) := dk_182 0 210 (dk_at dksX1_valueOf_6 7 rfl rfl)
theorem dX1_valueOf_150 : decode cX1_valueOf 150 = .ok (.invokestatic 226, 3) := dk_184 0 226 (dk_at dksX1_valueOf_6 10 rfl rfl)
theorem dX1_valueOf_153 : decode cX1_valueOf 153 = .ok (.isub, 1) := dk_100 (dk_at dksX1_valueOf_6 13 rfl rfl)
theorem dX1_valueOf_154 : decode cX1_valueOf 154 = .ok (.goto 7, 3) := dk_167 0 7 (dk_at dksX1_valueOf_6 14 rfl rfl)
theorem dX1_valueOf_157 : decode cX1_valueOf 157 = .ok (.aload_n 0, 1) := dk_42 (dk_at dksX1_valueOf_6 17 rfl rfl)
theorem dX1_valueOf_158 : decode cX1_valueOf 158 = .ok (.invokevirtual 231, 3) := dk_182 0 231 (dk_at dksX1_valueOf_6 18 rfl rfl)
theorem dX1_valueOf_161 : decode cX1_valueOf 161 = .ok (.ireturn, 1) := dk_172 (dk_at dksX1_valueOf_6 21 rfl rfl)
abbrev cX1_withPlan : ByteArray := prog_1_method_20_code
def yX1_withPlan : MethodName := ⟨RX1, "withPlan", "()I"⟩
def dkwX1_withPlan_2 : List UInt8 := [162, 0, 7, 4, 167, 0, 4, 3, 96, 60, 132, 2, 1, 167, 255, 211, 27, 172]
abbrev dktX1_withPlan_2 : List UInt8 := dkwX1_withPlan_2 ++ []
def dkwX1_withPlan_1 : List UInt8 := [182, 0, 109, 162, 0, 37, 27, 42, 180, 0, 68, 28, 42, 180, 0, 54, 182, 0, 210, 182, 0, 213, 16, 100]
abbrev dktX1_withPlan_1 : List UInt8 := dkwX1_withPlan_1 ++ dktX1_withPlan_2
def dkwX1_withPlan_0 : List UInt8 := [42, 180, 0, 68, 42, 180, 0, 54, 182, 0, 206, 87, 3, 60, 3, 61, 28, 42, 180, 0, 54, 180, 0, 126]
abbrev dktX1_withPlan_0 : List UInt8 := dkwX1_withPlan_0 ++ dktX1_withPlan_1
theorem dksX1_withPlan_0 : cX1_withPlan.data.toList.drop 0 = dktX1_withPlan_0 := by decide +kernel
theorem dksX1_withPlan_1 : cX1_withPlan.data.toList.drop 24 = dktX1_withPlan_1 := dk_seg dksX1_withPlan_0 24 rfl rfl
theorem dksX1_withPlan_2 : cX1_withPlan.data.toList.drop 48 = dktX1_withPlan_2 := dk_seg dksX1_withPlan_1 24 rfl rfl
theorem dX1_withPlan_0 : decode cX1_withPlan 0 = .ok (.aload_n 0, 1) := dk_42 (dk_at dksX1_withPlan_0 0 rfl rfl)
theorem dX1_withPlan_1 : decode cX1_withPlan 1 = .ok (.getfield 68, 3) := dk_180 0 68 (dk_at dksX1_withPlan_0 1 rfl rfl)
theorem dX1_withPlan_4 : decode cX1_withPlan 4 = .ok (.aload_n 0, 1) := dk_42 (dk_at dksX1_withPlan_0 4 rfl rfl)
theorem dX1_withPlan_5 : decode cX1_withPlan 5 = .ok (.getfield 54, 3) := dk_180 0 54 (dk_at dksX1_withPlan_0 5 rfl rfl)
theorem dX1_withPlan_8 : decode cX1_withPlan 8 = .ok (.invokevirtual 206, 3) := dk_182 0 206 (dk_at dksX1_withPlan_0 8 rfl rfl)
theorem dX1_withPlan_11 : decode cX1_withPlan 11 = .ok (.pop, 1) := dk_87 (dk_at dksX1_withPlan_0 11 rfl rfl)
theorem dX1_withPlan_12 : decode cX1_withPlan 12 = .ok (.iconst 0, 1) := dk_3 (dk_at dksX1_withPlan_0 12 rfl rfl)
theorem dX1_withPlan_13 : decode cX1_withPlan 13 = .ok (.istore_n 1, 1) := dk_60 (dk_at dksX1_withPlan_0 13 rfl rfl)
theorem dX1_withPlan_14 : decode cX1_withPlan 14 = .ok (.iconst 0, 1) := dk_3 (dk_at dksX1_withPlan_0 14 rfl rfl)
theorem dX1_withPlan_15 : decode cX1_withPlan 15 = .ok (.istore_n 2, 1) := dk_61 (dk_at dksX1_withPlan_0 15 rfl rfl)
theorem dX1_withPlan_16 : decode cX1_withPlan 16 = .ok (.iload_n 2, 1) := dk_28 (dk_at dksX1_withPlan_0 16 rfl rfl)
theorem dX1_withPlan_17 : decode cX1_withPlan 17 = .ok (.aload_n 0, 1) := dk_42 (dk_at dksX1_withPlan_0 17 rfl rfl)
theorem dX1_withPlan_18 : decode cX1_withPlan 18 = .ok (.getfield 54, 3) := dk_180 0 54 (dk_at dksX1_withPlan_0 18 rfl rfl)
theorem dX1_withPlan_21 : decode cX1_withPlan 21 = .ok (.getfield 126, 3) := dk_180 0 126 (dk_at dksX1_withPlan_0 21 rfl rfl)
theorem dX1_withPlan_24 : decode cX1_withPlan 24 = .ok (.invokevirtual 109, 3) := dk_182 0 109 (dk_at dksX1_withPlan_1 0 rfl rfl)
theorem dX1_withPlan_27 : decode cX1_withPlan 27 = .ok (.if_icmp .ge 37, 3) := dk_162 0 37 (dk_at dksX1_withPlan_1 3 rfl rfl)
theorem dX1_withPlan_30 : decode cX1_withPlan 30 = .ok (.iload_n 1, 1) := dk_27 (dk_at dksX1_withPlan_1 6 rfl rfl)
theorem dX1_withPlan_31 : decode cX1_withPlan 31 = .ok (.aload_n 0, 1) := dk_42 (dk_at dksX1_withPlan_1 7 rfl rfl)
theorem dX1_withPlan_32 : decode cX1_withPlan 32 = .ok (.getfield 68, 3) := dk_180 0 68 (dk_at dksX1_withPlan_1 8 rfl rfl)
theorem dX1_withPlan_35 : decode cX1_withPlan 35 = .ok (.iload_n 2, 1) := dk_28 (dk_at dksX1_withPlan_1 11 rfl rfl)
theorem dX1_withPlan_36 : decode cX1_withPlan 36 = .ok (.aload_n 0, 1) := dk_42 (dk_at dksX1_withPlan_1 12 rfl rfl)
theorem dX1_withPlan_37 : decode cX1_withPlan 37 = .ok (.getfield 54, 3) := dk_180 0 54 (dk_at dksX1_withPlan_1 13 rfl rfl)
theorem dX1_withPlan_40 : decode cX1_withPlan 40 = .ok (.invokevirtual 210, 3) := dk_182 0 210 (dk_at dksX1_withPlan_1 16 rfl rfl)
theorem dX1_withPlan_43 : decode cX1_withPlan 43 = .ok (.invokevirtual 213, 3) := dk_182 0 213 (dk_at dksX1_withPlan_1 19 rfl rfl)
theorem dX1_withPlan_46 : decode cX1_withPlan 46 = .ok (.bipush 100, 2) := dk_16 100 (dk_at dksX1_withPlan_1 22 rfl rfl)
theorem dX1_withPlan_48 : decode cX1_withPlan 48 = .ok (.if_icmp .ge 7, 3) := dk_162 0 7 (dk_at dksX1_withPlan_2 0 rfl rfl)
theorem dX1_withPlan_51 : decode cX1_withPlan 51 = .ok (.iconst 1, 1) := dk_4 (dk_at dksX1_withPlan_2 3 rfl rfl)
theorem dX1_withPlan_52 : decode cX1_withPlan 52 = .ok (.goto 4, 3) := dk_167 0 4 (dk_at dksX1_withPlan_2 4 rfl rfl)
theorem dX1_withPlan_55 : decode cX1_withPlan 55 = .ok (.iconst 0, 1) := dk_3 (dk_at dksX1_withPlan_2 7 rfl rfl)
theorem dX1_withPlan_56 : decode cX1_withPlan 56 = .ok (.iadd, 1) := dk_96 (dk_at dksX1_withPlan_2 8 rfl rfl)
theorem dX1_withPlan_57 : decode cX1_withPlan 57 = .ok (.istore_n 1, 1) := dk_60 (dk_at dksX1_withPlan_2 9 rfl rfl)
theorem dX1_withPlan_58 : decode cX1_withPlan 58 = .ok (.iinc 2 1, 3) := dk_132 2 1 (dk_at dksX1_withPlan_2 10 rfl rfl)
theorem dX1_withPlan_61 : decode cX1_withPlan 61 = .ok (.goto (-45), 3) := dk_167 255 211 (dk_at dksX1_withPlan_2 13 rfl rfl)
theorem dX1_withPlan_64 : decode cX1_withPlan 64 = .ok (.iload_n 1, 1) := dk_27 (dk_at dksX1_withPlan_2 16 rfl rfl)
theorem dX1_withPlan_65 : decode cX1_withPlan 65 = .ok (.ireturn, 1) := dk_172 (dk_at dksX1_withPlan_2 17 rfl rfl)
abbrev cX1_mix : ByteArray := prog_1_method_39_code
def yX1_mix : MethodName := ⟨RX1, "mix", "(JLjava/lang/String;)J"⟩
def dkwX1_mix_1 : List UInt8 := [182, 0, 30, 133, 97, 20, 1, 54, 101, 66, 132, 5, 1, 167, 255, 226, 33, 173]
abbrev dktX1_mix_1 : List UInt8 := dkwX1_mix_1 ++ []
def dkwX1_mix_0 : List UInt8 := [30, 66, 3, 54, 5, 21, 5, 44, 182, 0, 24, 162, 0, 27, 20, 1, 52, 33, 105, 44, 21, 5]
abbrev dktX1_mix_0 : List UInt8 := dkwX1_mix_0 ++ dktX1_mix_1
theorem dksX1_mix_0 : cX1_mix.data.toList.drop 0 = dktX1_mix_0 := by decide +kernel
theorem dksX1_mix_1 : cX1_mix.data.toList.drop 22 = dktX1_mix_1 := dk_seg dksX1_mix_0 22 rfl rfl
theorem dX1_mix_0 : decode cX1_mix 0 = .ok (.lload_n 0, 1) := dk_30 (dk_at dksX1_mix_0 0 rfl rfl)
theorem dX1_mix_1 : decode cX1_mix 1 = .ok (.lstore_n 3, 1) := dk_66 (dk_at dksX1_mix_0 1 rfl rfl)
theorem dX1_mix_2 : decode cX1_mix 2 = .ok (.iconst 0, 1) := dk_3 (dk_at dksX1_mix_0 2 rfl rfl)
theorem dX1_mix_3 : decode cX1_mix 3 = .ok (.istore 5, 2) := dk_54 5 (dk_at dksX1_mix_0 3 rfl rfl)
theorem dX1_mix_5 : decode cX1_mix 5 = .ok (.iload 5, 2) := dk_21 5 (dk_at dksX1_mix_0 5 rfl rfl)
theorem dX1_mix_7 : decode cX1_mix 7 = .ok (.aload_n 2, 1) := dk_44 (dk_at dksX1_mix_0 7 rfl rfl)
theorem dX1_mix_8 : decode cX1_mix 8 = .ok (.invokevirtual 24, 3) := dk_182 0 24 (dk_at dksX1_mix_0 8 rfl rfl)
theorem dX1_mix_11 : decode cX1_mix 11 = .ok (.if_icmp .ge 27, 3) := dk_162 0 27 (dk_at dksX1_mix_0 11 rfl rfl)
theorem dX1_mix_14 : decode cX1_mix 14 = .ok (.ldc2_w 308, 3) := dk_20 1 52 (dk_at dksX1_mix_0 14 rfl rfl)
theorem dX1_mix_17 : decode cX1_mix 17 = .ok (.lload_n 3, 1) := dk_33 (dk_at dksX1_mix_0 17 rfl rfl)
theorem dX1_mix_18 : decode cX1_mix 18 = .ok (.lmul, 1) := dk_105 (dk_at dksX1_mix_0 18 rfl rfl)
theorem dX1_mix_19 : decode cX1_mix 19 = .ok (.aload_n 2, 1) := dk_44 (dk_at dksX1_mix_0 19 rfl rfl)
theorem dX1_mix_20 : decode cX1_mix 20 = .ok (.iload 5, 2) := dk_21 5 (dk_at dksX1_mix_0 20 rfl rfl)
theorem dX1_mix_22 : decode cX1_mix 22 = .ok (.invokevirtual 30, 3) := dk_182 0 30 (dk_at dksX1_mix_1 0 rfl rfl)
theorem dX1_mix_25 : decode cX1_mix 25 = .ok (.i2l, 1) := dk_133 (dk_at dksX1_mix_1 3 rfl rfl)
theorem dX1_mix_26 : decode cX1_mix 26 = .ok (.ladd, 1) := dk_97 (dk_at dksX1_mix_1 4 rfl rfl)
theorem dX1_mix_27 : decode cX1_mix 27 = .ok (.ldc2_w 310, 3) := dk_20 1 54 (dk_at dksX1_mix_1 5 rfl rfl)
theorem dX1_mix_30 : decode cX1_mix 30 = .ok (.lsub, 1) := dk_101 (dk_at dksX1_mix_1 8 rfl rfl)
theorem dX1_mix_31 : decode cX1_mix 31 = .ok (.lstore_n 3, 1) := dk_66 (dk_at dksX1_mix_1 9 rfl rfl)
theorem dX1_mix_32 : decode cX1_mix 32 = .ok (.iinc 5 1, 3) := dk_132 5 1 (dk_at dksX1_mix_1 10 rfl rfl)
theorem dX1_mix_35 : decode cX1_mix 35 = .ok (.goto (-30), 3) := dk_167 255 226 (dk_at dksX1_mix_1 13 rfl rfl)
theorem dX1_mix_38 : decode cX1_mix 38 = .ok (.lload_n 3, 1) := dk_33 (dk_at dksX1_mix_1 16 rfl rfl)
theorem dX1_mix_39 : decode cX1_mix 39 = .ok (.lreturn, 1) := dk_173 (dk_at dksX1_mix_1 17 rfl rfl)
abbrev cX1_wordPart : ByteArray := prog_1_method_25_code
def yX1_wordPart : MethodName := ⟨RX1, "wordPart", "(II)I"⟩
def dkwX1_wordPart_8 : List UInt8 := [180, 0, 223, 42, 180, 0, 54, 180, 0, 193, 180, 0, 223, 100, 172]
abbrev dktX1_wordPart_8 : List UInt8 := dkwX1_wordPart_8 ++ []
def dkwX1_wordPart_7 : List UInt8 := [180, 0, 82, 180, 0, 220, 42, 180, 0, 54, 180, 0, 193, 180, 0, 220, 100, 167, 0, 21, 42, 180, 0, 82]
abbrev dktX1_wordPart_7 : List UInt8 := dkwX1_wordPart_7 ++ dktX1_wordPart_8
def dkwX1_wordPart_6 : List UInt8 := [180, 0, 82, 42, 180, 0, 54, 180, 0, 193, 182, 0, 247, 182, 0, 251, 87, 28, 7, 160, 0, 24, 42]
abbrev dktX1_wordPart_6 : List UInt8 := dkwX1_wordPart_6 ++ dktX1_wordPart_7
def dkwX1_wordPart_5 : List UInt8 := [160, 0, 16, 21, 4, 153, 0, 7, 4, 167, 0, 8, 3, 167, 0, 4, 2, 172, 42, 180, 0, 68, 27, 42]
abbrev dktX1_wordPart_5 : List UInt8 := dkwX1_wordPart_5 ++ dktX1_wordPart_6
def dkwX1_wordPart_4 : List UInt8 := [180, 0, 54, 180, 0, 193, 182, 0, 243, 54, 4, 28, 6, 159, 0, 8, 21, 4, 154, 0, 23, 28, 6]
abbrev dktX1_wordPart_4 : List UInt8 := dkwX1_wordPart_4 ++ dktX1_wordPart_5
def dkwX1_wordPart_3 : List UInt8 := [160, 0, 7, 2, 167, 0, 5, 21, 4, 172, 42, 180, 0, 68, 42, 180, 0, 54, 182, 0, 206, 27, 42]
abbrev dktX1_wordPart_3 : List UInt8 := dkwX1_wordPart_3 ++ dktX1_wordPart_4
def dkwX1_wordPart_2 : List UInt8 := [42, 180, 0, 54, 182, 0, 206, 27, 42, 180, 0, 54, 182, 0, 210, 182, 0, 213, 54, 4, 21, 4, 16, 100]
abbrev dktX1_wordPart_2 : List UInt8 := dkwX1_wordPart_2 ++ dktX1_wordPart_3
def dkwX1_wordPart_1 : List UInt8 := [45, 180, 0, 173, 182, 0, 24, 167, 0, 7, 45, 180, 0, 199, 172, 28, 5, 160, 0, 41, 42, 180, 0, 68]
abbrev dktX1_wordPart_1 : List UInt8 := dkwX1_wordPart_1 ++ dktX1_wordPart_2
def dkwX1_wordPart_0 : List UInt8 := [42, 180, 0, 54, 180, 0, 126, 27, 182, 0, 120, 192, 0, 129, 78, 28, 5, 162, 0, 22, 28, 154, 0, 13]
abbrev dktX1_wordPart_0 : List UInt8 := dkwX1_wordPart_0 ++ dktX1_wordPart_1
theorem dksX1_wordPart_0 : cX1_wordPart.data.toList.drop 0 = dktX1_wordPart_0 := by decide +kernel
theorem dksX1_wordPart_1 : cX1_wordPart.data.toList.drop 24 = dktX1_wordPart_1 := dk_seg dksX1_wordPart_0 24 rfl rfl
theorem dksX1_wordPart_2 : cX1_wordPart.data.toList.drop 48 = dktX1_wordPart_2 := dk_seg dksX1_wordPart_1 24 rfl rfl
theorem dksX1_wordPart_3 : cX1_wordPart.data.toList.drop 72 = dktX1_wordPart_3 := dk_seg dksX1_wordPart_2 24 rfl rfl
theorem dksX1_wordPart_4 : cX1_wordPart.data.toList.drop 95 = dktX1_wordPart_4 := dk_seg dksX1_wordPart_3 23 rfl rfl
theorem dksX1_wordPart_5 : cX1_wordPart.data.toList.drop 118 = dktX1_wordPart_5 := dk_seg dksX1_wordPart_4 23 rfl rfl
theorem dksX1_wordPart_6 : cX1_wordPart.data.toList.drop 142 = dktX1_wordPart_6 := dk_seg dksX1_wordPart_5 24 rfl rfl
theorem dksX1_wordPart_7 : cX1_wordPart.data.toList.drop 165 = dktX1_wordPart_7 := dk_seg dksX1_wordPart_6 23 rfl rfl
theorem dksX1_wordPart_8 : cX1_wordPart.data.toList.drop 189 = dktX1_wordPart_8 := dk_seg dksX1_wordPart_7 24 rfl rfl
theorem dX1_wordPart_0 : decode cX1_wordPart 0 = .ok (.aload_n 0, 1) := dk_42 (dk_at dksX1_wordPart_0 0 rfl rfl)
theorem dX1_wordPart_1 : decode cX1_wordPart 1 = .ok (.getfield 54, 3) := dk_180 0 54 (dk_at dksX1_wordPart_0 1 rfl rfl)
theorem dX1_wordPart_4 : decode cX1_wordPart 4 = .ok (.getfield 126, 3) := dk_180 0 126 (dk_at dksX1_wordPart_0 4 rfl rfl)
theorem dX1_wordPart_7 : decode cX1_wordPart 7 = .ok (.iload_n 1, 1) := dk_27 (dk_at dksX1_wordPart_0 7 rfl rfl)
theorem dX1_wordPart_8 : decode cX1_wordPart 8 = .ok (.invokevirtual 120, 3) := dk_182 0 120 (dk_at dksX1_wordPart_0 8 rfl rfl)
theorem dX1_wordPart_11 : decode cX1_wordPart 11 = .ok (.checkcast 129, 3) := dk_192 0 129 (dk_at dksX1_wordPart_0 11 rfl rfl)
theorem dX1_wordPart_14 : decode cX1_wordPart 14 = .ok (.astore_n 3, 1) := dk_78 (dk_at dksX1_wordPart_0 14 rfl rfl)
theorem dX1_wordPart_15 : decode cX1_wordPart 15 = .ok (.iload_n 2, 1) := dk_28 (dk_at dksX1_wordPart_0 15 rfl rfl)
theorem dX1_wordPart_16 : decode cX1_wordPart 16 = .ok (.iconst 2, 1) := dk_5 (dk_at dksX1_wordPart_0 16 rfl rfl)
theorem dX1_wordPart_17 : decode cX1_wordPart 17 = .ok (.if_icmp .ge 22, 3) := dk_162 0 22 (dk_at dksX1_wordPart_0 17 rfl rfl)
theorem dX1_wordPart_20 : decode cX1_wordPart 20 = .ok (.iload_n 2, 1) := dk_28 (dk_at dksX1_wordPart_0 20 rfl rfl)
theorem dX1_wordPart_21 : decode cX1_wordPart 21 = .ok (.ifCond .ne 13, 3) := dk_154 0 13 (dk_at dksX1_wordPart_0 21 rfl rfl)
theorem dX1_wordPart_24 : decode cX1_wordPart 24 = .ok (.aload_n 3, 1) := dk_45 (dk_at dksX1_wordPart_1 0 rfl rfl)
theorem dX1_wordPart_25 : decode cX1_wordPart 25 = .ok (.getfield 173, 3) := dk_180 0 173 (dk_at dksX1_wordPart_1 1 rfl rfl)
theorem dX1_wordPart_28 : decode cX1_wordPart 28 = .ok (.invokevirtual 24, 3) := dk_182 0 24 (dk_at dksX1_wordPart_1 4 rfl rfl)
theorem dX1_wordPart_31 : decode cX1_wordPart 31 = .ok (.goto 7, 3) := dk_167 0 7 (dk_at dksX1_wordPart_1 7 rfl rfl)
theorem dX1_wordPart_34 : decode cX1_wordPart 34 = .ok (.aload_n 3, 1) := dk_45 (dk_at dksX1_wordPart_1 10 rfl rfl)
theorem dX1_wordPart_35 : decode cX1_wordPart 35 = .ok (.getfield 199, 3) := dk_180 0 199 (dk_at dksX1_wordPart_1 11 rfl rfl)
theorem dX1_wordPart_38 : decode cX1_wordPart 38 = .ok (.ireturn, 1) := dk_172 (dk_at dksX1_wordPart_1 14 rfl rfl)
theorem dX1_wordPart_39 : decode cX1_wordPart 39 = .ok (.iload_n 2, 1) := dk_28 (dk_at dksX1_wordPart_1 15 rfl rfl)
theorem dX1_wordPart_40 : decode cX1_wordPart 40 = .ok (.iconst 2, 1) := dk_5 (dk_at dksX1_wordPart_1 16 rfl rfl)
theorem dX1_wordPart_41 : decode cX1_wordPart 41 = .ok (.if_icmp .ne 41, 3) := dk_160 0 41 (dk_at dksX1_wordPart_1 17 rfl rfl)
theorem dX1_wordPart_44 : decode cX1_wordPart 44 = .ok (.aload_n 0, 1) := dk_42 (dk_at dksX1_wordPart_1 20 rfl rfl)
theorem dX1_wordPart_45 : decode cX1_wordPart 45 = .ok (.getfield 68, 3) := dk_180 0 68 (dk_at dksX1_wordPart_1 21 rfl rfl)
theorem dX1_wordPart_48 : decode cX1_wordPart 48 = .ok (.aload_n 0, 1) := dk_42 (dk_at dksX1_wordPart_2 0 rfl rfl)
theorem dX1_wordPart_49 : decode cX1_wordPart 49 = .ok (.getfield 54, 3) := dk_180 0 54 (dk_at dksX1_wordPart_2 1 rfl rfl)
theorem dX1_wordPart_52 : decode cX1_wordPart 52 = .ok (.invokevirtual 206, 3) := dk_182 0 206 (dk_at dksX1_wordPart_2 4 rfl rfl)
theorem dX1_wordPart_55 : decode cX1_wordPart 55 = .ok (.iload_n 1, 1) := dk_27 (dk_at dksX1_wordPart_2 7 rfl rfl)
theorem dX1_wordPart_56 : decode cX1_wordPart 56 = .ok (.aload_n 0, 1) := dk_42 (dk_at dksX1_wordPart_2 8 rfl rfl)
theorem dX1_wordPart_57 : decode cX1_wordPart 57 = .ok (.getfield 54, 3) := dk_180 0 54 (dk_at dksX1_wordPart_2 9 rfl rfl)
theorem dX1_wordPart_60 : decode cX1_wordPart 60 = .ok (.invokevirtual 210, 3) := dk_182 0 210 (dk_at dksX1_wordPart_2 12 rfl rfl)
theorem dX1_wordPart_63 : decode cX1_wordPart 63 = .ok (.invokevirtual 213, 3) := dk_182 0 213 (dk_at dksX1_wordPart_2 15 rfl rfl)
theorem dX1_wordPart_66 : decode cX1_wordPart 66 = .ok (.istore 4, 2) := dk_54 4 (dk_at dksX1_wordPart_2 18 rfl rfl)
theorem dX1_wordPart_68 : decode cX1_wordPart 68 = .ok (.iload 4, 2) := dk_21 4 (dk_at dksX1_wordPart_2 20 rfl rfl)
theorem dX1_wordPart_70 : decode cX1_wordPart 70 = .ok (.bipush 100, 2) := dk_16 100 (dk_at dksX1_wordPart_2 22 rfl rfl)
theorem dX1_wordPart_72 : decode cX1_wordPart 72 = .ok (.if_icmp .ne 7, 3) := dk_160 0 7 (dk_at dksX1_wordPart_3 0 rfl rfl)
theorem dX1_wordPart_75 : decode cX1_wordPart 75 = .ok (.iconst (-1), 1) := dk_2 (dk_at dksX1_wordPart_3 3 rfl rfl)
theorem dX1_wordPart_76 : decode cX1_wordPart 76 = .ok (.goto 5, 3) := dk_167 0 5 (dk_at dksX1_wordPart_3 4 rfl rfl)
theorem dX1_wordPart_79 : decode cX1_wordPart 79 = .ok (.iload 4, 2) := dk_21 4 (dk_at dksX1_wordPart_3 7 rfl rfl)
theorem dX1_wordPart_81 : decode cX1_wordPart 81 = .ok (.ireturn, 1) := dk_172 (dk_at dksX1_wordPart_3 9 rfl rfl)
theorem dX1_wordPart_82 : decode cX1_wordPart 82 = .ok (.aload_n 0, 1) := dk_42 (dk_at dksX1_wordPart_3 10 rfl rfl)
theorem dX1_wordPart_83 : decode cX1_wordPart 83 = .ok (.getfield 68, 3) := dk_180 0 68 (dk_at dksX1_wordPart_3 11 rfl rfl)
theorem dX1_wordPart_86 : decode cX1_wordPart 86 = .ok (.aload_n 0, 1) := dk_42 (dk_at dksX1_wordPart_3 14 rfl rfl)
theorem dX1_wordPart_87 : decode cX1_wordPart 87 = .ok (.getfield 54, 3) := dk_180 0 54 (dk_at dksX1_wordPart_3 15 rfl rfl)
theorem dX1_wordPart_90 : decode cX1_wordPart 90 = .ok (.invokevirtual 206, 3) := dk_182 0 206 (dk_at dksX1_wordPart_3 18 rfl rfl)
theorem dX1_wordPart_93 : decode cX1_wordPart 93 = .ok (.iload_n 1, 1) := dk_27 (dk_at dksX1_wordPart_3 21 rfl rfl)
theorem dX1_wordPart_94 : decode cX1_wordPart 94 = .ok (.aload_n 0, 1) := dk_42 (dk_at dksX1_wordPart_3 22 rfl rfl)
theorem dX1_wordPart_95 : decode cX1_wordPart 95 = .ok (.getfield 54, 3) := dk_180 0 54 (dk_at dksX1_wordPart_4 0 rfl rfl)
theorem dX1_wordPart_98 : decode cX1_wordPart 98 = .ok (.getfield 193, 3) := dk_180 0 193 (dk_at dksX1_wordPart_4 3 rfl rfl)
theorem dX1_wordPart_101 : decode cX1_wordPart 101 = .ok (.invokevirtual 243, 3) := dk_182 0 243 (dk_at dksX1_wordPart_4 6 rfl rfl)
theorem dX1_wordPart_104 : decode cX1_wordPart 104 = .ok (.istore 4, 2) := dk_54 4 (dk_at dksX1_wordPart_4 9 rfl rfl)
theorem dX1_wordPart_106 : decode cX1_wordPart 106 = .ok (.iload_n 2, 1) := dk_28 (dk_at dksX1_wordPart_4 11 rfl rfl)
theorem dX1_wordPart_107 : decode cX1_wordPart 107 = .ok (.iconst 3, 1) := dk_6 (dk_at dksX1_wordPart_4 12 rfl rfl)
theorem dX1_wordPart_108 : decode cX1_wordPart 108 = .ok (.if_icmp .eq 8, 3) := dk_159 0 8 (dk_at dksX1_wordPart_4 13 rfl rfl)
theorem dX1_wordPart_111 : decode cX1_wordPart 111 = .ok (.iload 4, 2) := dk_21 4 (dk_at dksX1_wordPart_4 16 rfl rfl)
theorem dX1_wordPart_113 : decode cX1_wordPart 113 = .ok (.ifCond .ne 23, 3) := dk_154 0 23 (dk_at dksX1_wordPart_4 18 rfl rfl)
theorem dX1_wordPart_116 : decode cX1_wordPart 116 = .ok (.iload_n 2, 1) := dk_28 (dk_at dksX1_wordPart_4 21 rfl rfl)
theorem dX1_wordPart_117 : decode cX1_wordPart 117 = .ok (.iconst 3, 1) := dk_6 (dk_at dksX1_wordPart_4 22 rfl rfl)
theorem dX1_wordPart_118 : decode cX1_wordPart 118 = .ok (.if_icmp .ne 16, 3) := dk_160 0 16 (dk_at dksX1_wordPart_5 0 rfl rfl)
theorem dX1_wordPart_121 : decode cX1_wordPart 121 = .ok (.iload 4, 2) := dk_21 4 (dk_at dksX1_wordPart_5 3 rfl rfl)
theorem dX1_wordPart_123 : decode cX1_wordPart 123 = .ok (.ifCond .eq 7, 3) := dk_153 0 7 (dk_at dksX1_wordPart_5 5 rfl rfl)
theorem dX1_wordPart_126 : decode cX1_wordPart 126 = .ok (.iconst 1, 1) := dk_4 (dk_at dksX1_wordPart_5 8 rfl rfl)
theorem dX1_wordPart_127 : decode cX1_wordPart 127 = .ok (.goto 8, 3) := dk_167 0 8 (dk_at dksX1_wordPart_5 9 rfl rfl)
theorem dX1_wordPart_130 : decode cX1_wordPart 130 = .ok (.iconst 0, 1) := dk_3 (dk_at dksX1_wordPart_5 12 rfl rfl)
theorem dX1_wordPart_131 : decode cX1_wordPart 131 = .ok (.goto 4, 3) := dk_167 0 4 (dk_at dksX1_wordPart_5 13 rfl rfl)
theorem dX1_wordPart_134 : decode cX1_wordPart 134 = .ok (.iconst (-1), 1) := dk_2 (dk_at dksX1_wordPart_5 16 rfl rfl)
theorem dX1_wordPart_135 : decode cX1_wordPart 135 = .ok (.ireturn, 1) := dk_172 (dk_at dksX1_wordPart_5 17 rfl rfl)
theorem dX1_wordPart_136 : decode cX1_wordPart 136 = .ok (.aload_n 0, 1) := dk_42 (dk_at dksX1_wordPart_5 18 rfl rfl)
theorem dX1_wordPart_137 : decode cX1_wordPart 137 = .ok (.getfield 68, 3) := dk_180 0 68 (dk_at dksX1_wordPart_5 19 rfl rfl)
theorem dX1_wordPart_140 : decode cX1_wordPart 140 = .ok (.iload_n 1, 1) := dk_27 (dk_at dksX1_wordPart_5 22 rfl rfl)
theorem dX1_wordPart_141 : decode cX1_wordPart 141 = .ok (.aload_n 0, 1) := dk_42 (dk_at dksX1_wordPart_5 23 rfl rfl)
theorem dX1_wordPart_142 : decode cX1_wordPart 142 = .ok (.getfield 82, 3) := dk_180 0 82 (dk_at dksX1_wordPart_6 0 rfl rfl)
theorem dX1_wordPart_145 : decode cX1_wordPart 145 = .ok (.aload_n 0, 1) := dk_42 (dk_at dksX1_wordPart_6 3 rfl rfl)
theorem dX1_wordPart_146 : decode cX1_wordPart 146 = .ok (.getfield 54, 3) := dk_180 0 54 (dk_at dksX1_wordPart_6 4 rfl rfl)
theorem dX1_wordPart_149 : decode cX1_wordPart 149 = .ok (.getfield 193, 3) := dk_180 0 193 (dk_at dksX1_wordPart_6 7 rfl rfl)
theorem dX1_wordPart_152 : decode cX1_wordPart 152 = .ok (.invokevirtual 247, 3) := dk_182 0 247 (dk_at dksX1_wordPart_6 10 rfl rfl)
theorem dX1_wordPart_155 : decode cX1_wordPart 155 = .ok (.invokevirtual 251, 3) := dk_182 0 251 (dk_at dksX1_wordPart_6 13 rfl rfl)
theorem dX1_wordPart_158 : decode cX1_wordPart 158 = .ok (.pop, 1) := dk_87 (dk_at dksX1_wordPart_6 16 rfl rfl)
theorem dX1_wordPart_159 : decode cX1_wordPart 159 = .ok (.iload_n 2, 1) := dk_28 (dk_at dksX1_wordPart_6 17 rfl rfl)
theorem dX1_wordPart_160 : decode cX1_wordPart 160 = .ok (.iconst 4, 1) := dk_7 (dk_at dksX1_wordPart_6 18 rfl rfl)
theorem dX1_wordPart_161 : decode cX1_wordPart 161 = .ok (.if_icmp .ne 24, 3) := dk_160 0 24 (dk_at dksX1_wordPart_6 19 rfl rfl)
theorem dX1_wordPart_164 : decode cX1_wordPart 164 = .ok (.aload_n 0, 1) := dk_42 (dk_at dksX1_wordPart_6 22 rfl rfl)
theorem dX1_wordPart_165 : decode cX1_wordPart 165 = .ok (.getfield 82, 3) := dk_180 0 82 (dk_at dksX1_wordPart_7 0 rfl rfl)
theorem dX1_wordPart_168 : decode cX1_wordPart 168 = .ok (.getfield 220, 3) := dk_180 0 220 (dk_at dksX1_wordPart_7 3 rfl rfl)
theorem dX1_wordPart_171 : decode cX1_wordPart 171 = .ok (.aload_n 0, 1) := dk_42 (dk_at dksX1_wordPart_7 6 rfl rfl)
theorem dX1_wordPart_172 : decode cX1_wordPart 172 = .ok (.getfield 54, 3) := dk_180 0 54 (dk_at dksX1_wordPart_7 7 rfl rfl)
theorem dX1_wordPart_175 : decode cX1_wordPart 175 = .ok (.getfield 193, 3) := dk_180 0 193 (dk_at dksX1_wordPart_7 10 rfl rfl)
theorem dX1_wordPart_178 : decode cX1_wordPart 178 = .ok (.getfield 220, 3) := dk_180 0 220 (dk_at dksX1_wordPart_7 13 rfl rfl)
theorem dX1_wordPart_181 : decode cX1_wordPart 181 = .ok (.isub, 1) := dk_100 (dk_at dksX1_wordPart_7 16 rfl rfl)
theorem dX1_wordPart_182 : decode cX1_wordPart 182 = .ok (.goto 21, 3) := dk_167 0 21 (dk_at dksX1_wordPart_7 17 rfl rfl)
theorem dX1_wordPart_185 : decode cX1_wordPart 185 = .ok (.aload_n 0, 1) := dk_42 (dk_at dksX1_wordPart_7 20 rfl rfl)
theorem dX1_wordPart_186 : decode cX1_wordPart 186 = .ok (.getfield 82, 3) := dk_180 0 82 (dk_at dksX1_wordPart_7 21 rfl rfl)
theorem dX1_wordPart_189 : decode cX1_wordPart 189 = .ok (.getfield 223, 3) := dk_180 0 223 (dk_at dksX1_wordPart_8 0 rfl rfl)
theorem dX1_wordPart_192 : decode cX1_wordPart 192 = .ok (.aload_n 0, 1) := dk_42 (dk_at dksX1_wordPart_8 3 rfl rfl)
theorem dX1_wordPart_193 : decode cX1_wordPart 193 = .ok (.getfield 54, 3) := dk_180 0 54 (dk_at dksX1_wordPart_8 4 rfl rfl)
theorem dX1_wordPart_196 : decode cX1_wordPart 196 = .ok (.getfield 193, 3) := dk_180 0 193 (dk_at dksX1_wordPart_8 7 rfl rfl)
theorem dX1_wordPart_199 : decode cX1_wordPart 199 = .ok (.getfield 223, 3) := dk_180 0 223 (dk_at dksX1_wordPart_8 10 rfl rfl)
theorem dX1_wordPart_202 : decode cX1_wordPart 202 = .ok (.isub, 1) := dk_100 (dk_at dksX1_wordPart_8 13 rfl rfl)
theorem dX1_wordPart_203 : decode cX1_wordPart 203 = .ok (.ireturn, 1) := dk_172 (dk_at dksX1_wordPart_8 14 rfl rfl)
abbrev cX1_append : ByteArray := prog_1_method_11_code
def yX1_append : MethodName := ⟨RX1, "append", "(I)I"⟩
def dkwX1_append_2 : List UInt8 := [181, 0, 134, 42, 180, 0, 134, 172]
abbrev dktX1_append_2 : List UInt8 := dkwX1_append_2 ++ []
def dkwX1_append_1 : List UInt8 := [3, 184, 0, 138, 42, 180, 0, 86, 42, 180, 0, 134, 27, 145, 84, 42, 89, 180, 0, 134, 4, 96]
abbrev dktX1_append_1 : List UInt8 := dkwX1_append_1 ++ dktX1_append_2
def dkwX1_append_0 : List UInt8 := [27, 3, 16, 127, 184, 0, 112, 184, 0, 131, 42, 180, 0, 134, 17, 0, 150, 162, 0, 7, 4, 167, 0, 4]
abbrev dktX1_append_0 : List UInt8 := dkwX1_append_0 ++ dktX1_append_1
theorem dksX1_append_0 : cX1_append.data.toList.drop 0 = dktX1_append_0 := by decide +kernel
theorem dksX1_append_1 : cX1_append.data.toList.drop 24 = dktX1_append_1 := dk_seg dksX1_append_0 24 rfl rfl
theorem dksX1_append_2 : cX1_append.data.toList.drop 46 = dktX1_append_2 := dk_seg dksX1_append_1 22 rfl rfl
theorem dX1_append_0 : decode cX1_append 0 = .ok (.iload_n 1, 1) := dk_27 (dk_at dksX1_append_0 0 rfl rfl)
theorem dX1_append_1 : decode cX1_append 1 = .ok (.iconst 0, 1) := dk_3 (dk_at dksX1_append_0 1 rfl rfl)
theorem dX1_append_2 : decode cX1_append 2 = .ok (.bipush 127, 2) := dk_16 127 (dk_at dksX1_append_0 2 rfl rfl)
theorem dX1_append_4 : decode cX1_append 4 = .ok (.invokestatic 112, 3) := dk_184 0 112 (dk_at dksX1_append_0 4 rfl rfl)
theorem dX1_append_7 : decode cX1_append 7 = .ok (.invokestatic 131, 3) := dk_184 0 131 (dk_at dksX1_append_0 7 rfl rfl)
theorem dX1_append_10 : decode cX1_append 10 = .ok (.aload_n 0, 1) := dk_42 (dk_at dksX1_append_0 10 rfl rfl)
theorem dX1_append_11 : decode cX1_append 11 = .ok (.getfield 134, 3) := dk_180 0 134 (dk_at dksX1_append_0 11 rfl rfl)
theorem dX1_append_14 : decode cX1_append 14 = .ok (.sipush 150, 3) := dk_17 0 150 (dk_at dksX1_append_0 14 rfl rfl)
theorem dX1_append_17 : decode cX1_append 17 = .ok (.if_icmp .ge 7, 3) := dk_162 0 7 (dk_at dksX1_append_0 17 rfl rfl)
theorem dX1_append_20 : decode cX1_append 20 = .ok (.iconst 1, 1) := dk_4 (dk_at dksX1_append_0 20 rfl rfl)
theorem dX1_append_21 : decode cX1_append 21 = .ok (.goto 4, 3) := dk_167 0 4 (dk_at dksX1_append_0 21 rfl rfl)
theorem dX1_append_24 : decode cX1_append 24 = .ok (.iconst 0, 1) := dk_3 (dk_at dksX1_append_1 0 rfl rfl)
theorem dX1_append_25 : decode cX1_append 25 = .ok (.invokestatic 138, 3) := dk_184 0 138 (dk_at dksX1_append_1 1 rfl rfl)
theorem dX1_append_28 : decode cX1_append 28 = .ok (.aload_n 0, 1) := dk_42 (dk_at dksX1_append_1 4 rfl rfl)
theorem dX1_append_29 : decode cX1_append 29 = .ok (.getfield 86, 3) := dk_180 0 86 (dk_at dksX1_append_1 5 rfl rfl)
theorem dX1_append_32 : decode cX1_append 32 = .ok (.aload_n 0, 1) := dk_42 (dk_at dksX1_append_1 8 rfl rfl)
theorem dX1_append_33 : decode cX1_append 33 = .ok (.getfield 134, 3) := dk_180 0 134 (dk_at dksX1_append_1 9 rfl rfl)
theorem dX1_append_36 : decode cX1_append 36 = .ok (.iload_n 1, 1) := dk_27 (dk_at dksX1_append_1 12 rfl rfl)
theorem dX1_append_37 : decode cX1_append 37 = .ok (.i2b, 1) := dk_145 (dk_at dksX1_append_1 13 rfl rfl)
theorem dX1_append_38 : decode cX1_append 38 = .ok (.bastore, 1) := dk_84 (dk_at dksX1_append_1 14 rfl rfl)
theorem dX1_append_39 : decode cX1_append 39 = .ok (.aload_n 0, 1) := dk_42 (dk_at dksX1_append_1 15 rfl rfl)
theorem dX1_append_40 : decode cX1_append 40 = .ok (.dup, 1) := dk_89 (dk_at dksX1_append_1 16 rfl rfl)
theorem dX1_append_41 : decode cX1_append 41 = .ok (.getfield 134, 3) := dk_180 0 134 (dk_at dksX1_append_1 17 rfl rfl)
theorem dX1_append_44 : decode cX1_append 44 = .ok (.iconst 1, 1) := dk_4 (dk_at dksX1_append_1 20 rfl rfl)
theorem dX1_append_45 : decode cX1_append 45 = .ok (.iadd, 1) := dk_96 (dk_at dksX1_append_1 21 rfl rfl)
theorem dX1_append_46 : decode cX1_append 46 = .ok (.putfield 134, 3) := dk_181 0 134 (dk_at dksX1_append_2 0 rfl rfl)
theorem dX1_append_49 : decode cX1_append 49 = .ok (.aload_n 0, 1) := dk_42 (dk_at dksX1_append_2 3 rfl rfl)
theorem dX1_append_50 : decode cX1_append 50 = .ok (.getfield 134, 3) := dk_180 0 134 (dk_at dksX1_append_2 4 rfl rfl)
theorem dX1_append_53 : decode cX1_append 53 = .ok (.ireturn, 1) := dk_172 (dk_at dksX1_append_2 7 rfl rfl)
abbrev cX1_inRange : ByteArray := prog_1_method_1_code
def yX1_inRange : MethodName := ⟨RX1, "inRange", "(III)Z"⟩
def dkwX1_inRange_0 : List UInt8 := [26, 27, 161, 0, 12, 26, 28, 163, 0, 7, 4, 167, 0, 4, 3, 172]
abbrev dktX1_inRange_0 : List UInt8 := dkwX1_inRange_0 ++ []
theorem dksX1_inRange_0 : cX1_inRange.data.toList.drop 0 = dktX1_inRange_0 := by decide +kernel
theorem dX1_inRange_0 : decode cX1_inRange 0 = .ok (.iload_n 0, 1) := dk_26 (dk_at dksX1_inRange_0 0 rfl rfl)
theorem dX1_inRange_1 : decode cX1_inRange 1 = .ok (.iload_n 1, 1) := dk_27 (dk_at dksX1_inRange_0 1 rfl rfl)
theorem dX1_inRange_2 : decode cX1_inRange 2 = .ok (.if_icmp .lt 12, 3) := dk_161 0 12 (dk_at dksX1_inRange_0 2 rfl rfl)
theorem dX1_inRange_5 : decode cX1_inRange 5 = .ok (.iload_n 0, 1) := dk_26 (dk_at dksX1_inRange_0 5 rfl rfl)
theorem dX1_inRange_6 : decode cX1_inRange 6 = .ok (.iload_n 2, 1) := dk_28 (dk_at dksX1_inRange_0 6 rfl rfl)
theorem dX1_inRange_7 : decode cX1_inRange 7 = .ok (.if_icmp .gt 7, 3) := dk_163 0 7 (dk_at dksX1_inRange_0 7 rfl rfl)
theorem dX1_inRange_10 : decode cX1_inRange 10 = .ok (.iconst 1, 1) := dk_4 (dk_at dksX1_inRange_0 10 rfl rfl)
theorem dX1_inRange_11 : decode cX1_inRange 11 = .ok (.goto 4, 3) := dk_167 0 4 (dk_at dksX1_inRange_0 11 rfl rfl)
theorem dX1_inRange_14 : decode cX1_inRange 14 = .ok (.iconst 0, 1) := dk_3 (dk_at dksX1_inRange_0 14 rfl rfl)
theorem dX1_inRange_15 : decode cX1_inRange 15 = .ok (.ireturn, 1) := dk_172 (dk_at dksX1_inRange_0 15 rfl rfl)
abbrev cX1_require : ByteArray := prog_1_method_2_code
def yX1_require : MethodName := ⟨RX1, "require", "(Z)V"⟩
def dkwX1_require_0 : List UInt8 := [26, 154, 0, 13, 187, 0, 1, 89, 18, 3, 183, 0, 5, 191, 177]
abbrev dktX1_require_0 : List UInt8 := dkwX1_require_0 ++ []
theorem dksX1_require_0 : cX1_require.data.toList.drop 0 = dktX1_require_0 := by decide +kernel
theorem dX1_require_0 : decode cX1_require 0 = .ok (.iload_n 0, 1) := dk_26 (dk_at dksX1_require_0 0 rfl rfl)
theorem dX1_require_1 : decode cX1_require 1 = .ok (.ifCond .ne 13, 3) := dk_154 0 13 (dk_at dksX1_require_0 1 rfl rfl)
theorem dX1_require_4 : decode cX1_require 4 = .ok (.new 1, 3) := dk_187 0 1 (dk_at dksX1_require_0 4 rfl rfl)
theorem dX1_require_7 : decode cX1_require 7 = .ok (.dup, 1) := dk_89 (dk_at dksX1_require_0 7 rfl rfl)
theorem dX1_require_8 : decode cX1_require 8 = .ok (.ldc 3, 2) := dk_18 3 (dk_at dksX1_require_0 8 rfl rfl)
theorem dX1_require_10 : decode cX1_require 10 = .ok (.invokespecial 5, 3) := dk_183 0 5 (dk_at dksX1_require_0 10 rfl rfl)
theorem dX1_require_13 : decode cX1_require 13 = .ok (.athrow, 1) := dk_191 (dk_at dksX1_require_0 13 rfl rfl)
theorem dX1_require_14 : decode cX1_require 14 = .ok (.return_, 1) := dk_177 (dk_at dksX1_require_0 14 rfl rfl)
abbrev cX1_requireState : ByteArray := prog_1_method_4_code
def yX1_requireState : MethodName := ⟨RX1, "requireState", "(Z)V"⟩
def dkwX1_requireState_0 : List UInt8 := [26, 154, 0, 13, 187, 0, 14, 89, 18, 16, 183, 0, 18, 191, 177]
abbrev dktX1_requireState_0 : List UInt8 := dkwX1_requireState_0 ++ []
theorem dksX1_requireState_0 : cX1_requireState.data.toList.drop 0 = dktX1_requireState_0 := by decide +kernel
theorem dX1_requireState_0 : decode cX1_requireState 0 = .ok (.iload_n 0, 1) := dk_26 (dk_at dksX1_requireState_0 0 rfl rfl)
theorem dX1_requireState_1 : decode cX1_requireState 1 = .ok (.ifCond .ne 13, 3) := dk_154 0 13 (dk_at dksX1_requireState_0 1 rfl rfl)
theorem dX1_requireState_4 : decode cX1_requireState 4 = .ok (.new 14, 3) := dk_187 0 14 (dk_at dksX1_requireState_0 4 rfl rfl)
theorem dX1_requireState_7 : decode cX1_requireState 7 = .ok (.dup, 1) := dk_89 (dk_at dksX1_requireState_0 7 rfl rfl)
theorem dX1_requireState_8 : decode cX1_requireState 8 = .ok (.ldc 16, 2) := dk_18 16 (dk_at dksX1_requireState_0 8 rfl rfl)
theorem dX1_requireState_10 : decode cX1_requireState 10 = .ok (.invokespecial 18, 3) := dk_183 0 18 (dk_at dksX1_requireState_0 10 rfl rfl)
theorem dX1_requireState_13 : decode cX1_requireState 13 = .ok (.athrow, 1) := dk_191 (dk_at dksX1_requireState_0 13 rfl rfl)
theorem dX1_requireState_14 : decode cX1_requireState 14 = .ok (.return_, 1) := dk_177 (dk_at dksX1_requireState_0 14 rfl rfl)
abbrev cX1_cut : ByteArray := prog_1_method_14_code
def yX1_cut : MethodName := ⟨RX1, "cut", "(III)I"⟩
def dkwX1_cut_5 : List UInt8 := [183, 0, 181, 182, 0, 182, 87, 42, 180, 0, 54, 180, 0, 105, 182, 0, 109, 4, 100, 172]
abbrev dktX1_cut_5 : List UInt8 := dkwX1_cut_5 ++ []
def dkwX1_cut_4 : List UInt8 := [180, 0, 54, 180, 0, 105, 187, 0, 124, 89, 25, 4, 180, 0, 173, 28, 28, 29, 96, 182, 0, 177]
abbrev dktX1_cut_4 : List UInt8 := dkwX1_cut_4 ++ dktX1_cut_5
def dkwX1_cut_3 : List UInt8 := [180, 0, 105, 182, 0, 109, 16, 10, 162, 0, 7, 4, 167, 0, 4, 3, 184, 0, 138, 42, 182, 0, 154, 42]
abbrev dktX1_cut_3 : List UInt8 := dkwX1_cut_3 ++ dktX1_cut_4
def dkwX1_cut_2 : List UInt8 := [25, 4, 180, 0, 173, 182, 0, 24, 163, 0, 7, 4, 167, 0, 4, 3, 184, 0, 131, 42, 180, 0, 54]
abbrev dktX1_cut_2 : List UInt8 := dkwX1_cut_2 ++ dktX1_cut_3
def dkwX1_cut_1 : List UInt8 := [153, 0, 16, 29, 4, 8, 184, 0, 112, 153, 0, 7, 4, 167, 0, 4, 3, 184, 0, 131, 28, 29, 96]
abbrev dktX1_cut_1 : List UInt8 := dkwX1_cut_1 ++ dktX1_cut_2
def dkwX1_cut_0 : List UInt8 := [42, 27, 182, 0, 169, 58, 4, 28, 3, 25, 4, 180, 0, 173, 182, 0, 24, 4, 100, 184, 0, 112]
abbrev dktX1_cut_0 : List UInt8 := dkwX1_cut_0 ++ dktX1_cut_1
theorem dksX1_cut_0 : cX1_cut.data.toList.drop 0 = dktX1_cut_0 := by decide +kernel
theorem dksX1_cut_1 : cX1_cut.data.toList.drop 22 = dktX1_cut_1 := dk_seg dksX1_cut_0 22 rfl rfl
theorem dksX1_cut_2 : cX1_cut.data.toList.drop 45 = dktX1_cut_2 := dk_seg dksX1_cut_1 23 rfl rfl
theorem dksX1_cut_3 : cX1_cut.data.toList.drop 68 = dktX1_cut_3 := dk_seg dksX1_cut_2 23 rfl rfl
theorem dksX1_cut_4 : cX1_cut.data.toList.drop 92 = dktX1_cut_4 := dk_seg dksX1_cut_3 24 rfl rfl
theorem dksX1_cut_5 : cX1_cut.data.toList.drop 114 = dktX1_cut_5 := dk_seg dksX1_cut_4 22 rfl rfl
theorem dX1_cut_0 : decode cX1_cut 0 = .ok (.aload_n 0, 1) := dk_42 (dk_at dksX1_cut_0 0 rfl rfl)
theorem dX1_cut_1 : decode cX1_cut 1 = .ok (.iload_n 1, 1) := dk_27 (dk_at dksX1_cut_0 1 rfl rfl)
theorem dX1_cut_2 : decode cX1_cut 2 = .ok (.invokevirtual 169, 3) := dk_182 0 169 (dk_at dksX1_cut_0 2 rfl rfl)
theorem dX1_cut_5 : decode cX1_cut 5 = .ok (.astore 4, 2) := dk_58 4 (dk_at dksX1_cut_0 5 rfl rfl)
theorem dX1_cut_7 : decode cX1_cut 7 = .ok (.iload_n 2, 1) := dk_28 (dk_at dksX1_cut_0 7 rfl rfl)
theorem dX1_cut_8 : decode cX1_cut 8 = .ok (.iconst 0, 1) := dk_3 (dk_at dksX1_cut_0 8 rfl rfl)
theorem dX1_cut_9 : decode cX1_cut 9 = .ok (.aload 4, 2) := dk_25 4 (dk_at dksX1_cut_0 9 rfl rfl)
theorem dX1_cut_11 : decode cX1_cut 11 = .ok (.getfield 173, 3) := dk_180 0 173 (dk_at dksX1_cut_0 11 rfl rfl)
theorem dX1_cut_14 : decode cX1_cut 14 = .ok (.invokevirtual 24, 3) := dk_182 0 24 (dk_at dksX1_cut_0 14 rfl rfl)
theorem dX1_cut_17 : decode cX1_cut 17 = .ok (.iconst 1, 1) := dk_4 (dk_at dksX1_cut_0 17 rfl rfl)
theorem dX1_cut_18 : decode cX1_cut 18 = .ok (.isub, 1) := dk_100 (dk_at dksX1_cut_0 18 rfl rfl)
theorem dX1_cut_19 : decode cX1_cut 19 = .ok (.invokestatic 112, 3) := dk_184 0 112 (dk_at dksX1_cut_0 19 rfl rfl)
theorem dX1_cut_22 : decode cX1_cut 22 = .ok (.ifCond .eq 16, 3) := dk_153 0 16 (dk_at dksX1_cut_1 0 rfl rfl)
theorem dX1_cut_25 : decode cX1_cut 25 = .ok (.iload_n 3, 1) := dk_29 (dk_at dksX1_cut_1 3 rfl rfl)
theorem dX1_cut_26 : decode cX1_cut 26 = .ok (.iconst 1, 1) := dk_4 (dk_at dksX1_cut_1 4 rfl rfl)
theorem dX1_cut_27 : decode cX1_cut 27 = .ok (.iconst 5, 1) := dk_8 (dk_at dksX1_cut_1 5 rfl rfl)
theorem dX1_cut_28 : decode cX1_cut 28 = .ok (.invokestatic 112, 3) := dk_184 0 112 (dk_at dksX1_cut_1 6 rfl rfl)
theorem dX1_cut_31 : decode cX1_cut 31 = .ok (.ifCond .eq 7, 3) := dk_153 0 7 (dk_at dksX1_cut_1 9 rfl rfl)
theorem dX1_cut_34 : decode cX1_cut 34 = .ok (.iconst 1, 1) := dk_4 (dk_at dksX1_cut_1 12 rfl rfl)
theorem dX1_cut_35 : decode cX1_cut 35 = .ok (.goto 4, 3) := dk_167 0 4 (dk_at dksX1_cut_1 13 rfl rfl)
theorem dX1_cut_38 : decode cX1_cut 38 = .ok (.iconst 0, 1) := dk_3 (dk_at dksX1_cut_1 16 rfl rfl)
theorem dX1_cut_39 : decode cX1_cut 39 = .ok (.invokestatic 131, 3) := dk_184 0 131 (dk_at dksX1_cut_1 17 rfl rfl)
theorem dX1_cut_42 : decode cX1_cut 42 = .ok (.iload_n 2, 1) := dk_28 (dk_at dksX1_cut_1 20 rfl rfl)
theorem dX1_cut_43 : decode cX1_cut 43 = .ok (.iload_n 3, 1) := dk_29 (dk_at dksX1_cut_1 21 rfl rfl)
theorem dX1_cut_44 : decode cX1_cut 44 = .ok (.iadd, 1) := dk_96 (dk_at dksX1_cut_1 22 rfl rfl)
theorem dX1_cut_45 : decode cX1_cut 45 = .ok (.aload 4, 2) := dk_25 4 (dk_at dksX1_cut_2 0 rfl rfl)
theorem dX1_cut_47 : decode cX1_cut 47 = .ok (.getfield 173, 3) := dk_180 0 173 (dk_at dksX1_cut_2 2 rfl rfl)
theorem dX1_cut_50 : decode cX1_cut 50 = .ok (.invokevirtual 24, 3) := dk_182 0 24 (dk_at dksX1_cut_2 5 rfl rfl)
theorem dX1_cut_53 : decode cX1_cut 53 = .ok (.if_icmp .gt 7, 3) := dk_163 0 7 (dk_at dksX1_cut_2 8 rfl rfl)
theorem dX1_cut_56 : decode cX1_cut 56 = .ok (.iconst 1, 1) := dk_4 (dk_at dksX1_cut_2 11 rfl rfl)
theorem dX1_cut_57 : decode cX1_cut 57 = .ok (.goto 4, 3) := dk_167 0 4 (dk_at dksX1_cut_2 12 rfl rfl)
theorem dX1_cut_60 : decode cX1_cut 60 = .ok (.iconst 0, 1) := dk_3 (dk_at dksX1_cut_2 15 rfl rfl)
theorem dX1_cut_61 : decode cX1_cut 61 = .ok (.invokestatic 131, 3) := dk_184 0 131 (dk_at dksX1_cut_2 16 rfl rfl)
theorem dX1_cut_64 : decode cX1_cut 64 = .ok (.aload_n 0, 1) := dk_42 (dk_at dksX1_cut_2 19 rfl rfl)
theorem dX1_cut_65 : decode cX1_cut 65 = .ok (.getfield 54, 3) := dk_180 0 54 (dk_at dksX1_cut_2 20 rfl rfl)
theorem dX1_cut_68 : decode cX1_cut 68 = .ok (.getfield 105, 3) := dk_180 0 105 (dk_at dksX1_cut_3 0 rfl rfl)
theorem dX1_cut_71 : decode cX1_cut 71 = .ok (.invokevirtual 109, 3) := dk_182 0 109 (dk_at dksX1_cut_3 3 rfl rfl)
theorem dX1_cut_74 : decode cX1_cut 74 = .ok (.bipush 10, 2) := dk_16 10 (dk_at dksX1_cut_3 6 rfl rfl)
theorem dX1_cut_76 : decode cX1_cut 76 = .ok (.if_icmp .ge 7, 3) := dk_162 0 7 (dk_at dksX1_cut_3 8 rfl rfl)
theorem dX1_cut_79 : decode cX1_cut 79 = .ok (.iconst 1, 1) := dk_4 (dk_at dksX1_cut_3 11 rfl rfl)
theorem dX1_cut_80 : decode cX1_cut 80 = .ok (.goto 4, 3) := dk_167 0 4 (dk_at dksX1_cut_3 12 rfl rfl)
theorem dX1_cut_83 : decode cX1_cut 83 = .ok (.iconst 0, 1) := dk_3 (dk_at dksX1_cut_3 15 rfl rfl)
theorem dX1_cut_84 : decode cX1_cut 84 = .ok (.invokestatic 138, 3) := dk_184 0 138 (dk_at dksX1_cut_3 16 rfl rfl)
theorem dX1_cut_87 : decode cX1_cut 87 = .ok (.aload_n 0, 1) := dk_42 (dk_at dksX1_cut_3 19 rfl rfl)
theorem dX1_cut_88 : decode cX1_cut 88 = .ok (.invokevirtual 154, 3) := dk_182 0 154 (dk_at dksX1_cut_3 20 rfl rfl)
theorem dX1_cut_91 : decode cX1_cut 91 = .ok (.aload_n 0, 1) := dk_42 (dk_at dksX1_cut_3 23 rfl rfl)
theorem dX1_cut_92 : decode cX1_cut 92 = .ok (.getfield 54, 3) := dk_180 0 54 (dk_at dksX1_cut_4 0 rfl rfl)
theorem dX1_cut_95 : decode cX1_cut 95 = .ok (.getfield 105, 3) := dk_180 0 105 (dk_at dksX1_cut_4 3 rfl rfl)
theorem dX1_cut_98 : decode cX1_cut 98 = .ok (.new 124, 3) := dk_187 0 124 (dk_at dksX1_cut_4 6 rfl rfl)
theorem dX1_cut_101 : decode cX1_cut 101 = .ok (.dup, 1) := dk_89 (dk_at dksX1_cut_4 9 rfl rfl)
theorem dX1_cut_102 : decode cX1_cut 102 = .ok (.aload 4, 2) := dk_25 4 (dk_at dksX1_cut_4 10 rfl rfl)
theorem dX1_cut_104 : decode cX1_cut 104 = .ok (.getfield 173, 3) := dk_180 0 173 (dk_at dksX1_cut_4 12 rfl rfl)
theorem dX1_cut_107 : decode cX1_cut 107 = .ok (.iload_n 2, 1) := dk_28 (dk_at dksX1_cut_4 15 rfl rfl)
theorem dX1_cut_108 : decode cX1_cut 108 = .ok (.iload_n 2, 1) := dk_28 (dk_at dksX1_cut_4 16 rfl rfl)
theorem dX1_cut_109 : decode cX1_cut 109 = .ok (.iload_n 3, 1) := dk_29 (dk_at dksX1_cut_4 17 rfl rfl)
theorem dX1_cut_110 : decode cX1_cut 110 = .ok (.iadd, 1) := dk_96 (dk_at dksX1_cut_4 18 rfl rfl)
theorem dX1_cut_111 : decode cX1_cut 111 = .ok (.invokevirtual 177, 3) := dk_182 0 177 (dk_at dksX1_cut_4 19 rfl rfl)
theorem dX1_cut_114 : decode cX1_cut 114 = .ok (.invokespecial 181, 3) := dk_183 0 181 (dk_at dksX1_cut_5 0 rfl rfl)
theorem dX1_cut_117 : decode cX1_cut 117 = .ok (.invokevirtual 182, 3) := dk_182 0 182 (dk_at dksX1_cut_5 3 rfl rfl)
theorem dX1_cut_120 : decode cX1_cut 120 = .ok (.pop, 1) := dk_87 (dk_at dksX1_cut_5 6 rfl rfl)
theorem dX1_cut_121 : decode cX1_cut 121 = .ok (.aload_n 0, 1) := dk_42 (dk_at dksX1_cut_5 7 rfl rfl)
theorem dX1_cut_122 : decode cX1_cut 122 = .ok (.getfield 54, 3) := dk_180 0 54 (dk_at dksX1_cut_5 8 rfl rfl)
theorem dX1_cut_125 : decode cX1_cut 125 = .ok (.getfield 105, 3) := dk_180 0 105 (dk_at dksX1_cut_5 11 rfl rfl)
theorem dX1_cut_128 : decode cX1_cut 128 = .ok (.invokevirtual 109, 3) := dk_182 0 109 (dk_at dksX1_cut_5 14 rfl rfl)
theorem dX1_cut_131 : decode cX1_cut 131 = .ok (.iconst 1, 1) := dk_4 (dk_at dksX1_cut_5 17 rfl rfl)
theorem dX1_cut_132 : decode cX1_cut 132 = .ok (.isub, 1) := dk_100 (dk_at dksX1_cut_5 18 rfl rfl)
theorem dX1_cut_133 : decode cX1_cut 133 = .ok (.ireturn, 1) := dk_172 (dk_at dksX1_cut_5 19 rfl rfl)
abbrev cX1_wordAt : ByteArray := prog_1_method_10_code
def yX1_wordAt : MethodName := ⟨RX1, "wordAt", "(I)LRubberStamps$Word;"⟩
def dkwX1_wordAt_1 : List UInt8 := [180, 0, 126, 27, 182, 0, 120, 192, 0, 129, 176]
abbrev dktX1_wordAt_1 : List UInt8 := dkwX1_wordAt_1 ++ []
def dkwX1_wordAt_0 : List UInt8 := [27, 3, 42, 180, 0, 54, 180, 0, 126, 182, 0, 109, 4, 100, 184, 0, 112, 184, 0, 116, 42, 180, 0, 54]
abbrev dktX1_wordAt_0 : List UInt8 := dkwX1_wordAt_0 ++ dktX1_wordAt_1
theorem dksX1_wordAt_0 : cX1_wordAt.data.toList.drop 0 = dktX1_wordAt_0 := by decide +kernel
theorem dksX1_wordAt_1 : cX1_wordAt.data.toList.drop 24 = dktX1_wordAt_1 := dk_seg dksX1_wordAt_0 24 rfl rfl
theorem dX1_wordAt_0 : decode cX1_wordAt 0 = .ok (.iload_n 1, 1) := dk_27 (dk_at dksX1_wordAt_0 0 rfl rfl)
theorem dX1_wordAt_1 : decode cX1_wordAt 1 = .ok (.iconst 0, 1) := dk_3 (dk_at dksX1_wordAt_0 1 rfl rfl)
theorem dX1_wordAt_2 : decode cX1_wordAt 2 = .ok (.aload_n 0, 1) := dk_42 (dk_at dksX1_wordAt_0 2 rfl rfl)
theorem dX1_wordAt_3 : decode cX1_wordAt 3 = .ok (.getfield 54, 3) := dk_180 0 54 (dk_at dksX1_wordAt_0 3 rfl rfl)
theorem dX1_wordAt_6 : decode cX1_wordAt 6 = .ok (.getfield 126, 3) := dk_180 0 126 (dk_at dksX1_wordAt_0 6 rfl rfl)
theorem dX1_wordAt_9 : decode cX1_wordAt 9 = .ok (.invokevirtual 109, 3) := dk_182 0 109 (dk_at dksX1_wordAt_0 9 rfl rfl)
theorem dX1_wordAt_12 : decode cX1_wordAt 12 = .ok (.iconst 1, 1) := dk_4 (dk_at dksX1_wordAt_0 12 rfl rfl)
theorem dX1_wordAt_13 : decode cX1_wordAt 13 = .ok (.isub, 1) := dk_100 (dk_at dksX1_wordAt_0 13 rfl rfl)
theorem dX1_wordAt_14 : decode cX1_wordAt 14 = .ok (.invokestatic 112, 3) := dk_184 0 112 (dk_at dksX1_wordAt_0 14 rfl rfl)
theorem dX1_wordAt_17 : decode cX1_wordAt 17 = .ok (.invokestatic 116, 3) := dk_184 0 116 (dk_at dksX1_wordAt_0 17 rfl rfl)
theorem dX1_wordAt_20 : decode cX1_wordAt 20 = .ok (.aload_n 0, 1) := dk_42 (dk_at dksX1_wordAt_0 20 rfl rfl)
theorem dX1_wordAt_21 : decode cX1_wordAt 21 = .ok (.getfield 54, 3) := dk_180 0 54 (dk_at dksX1_wordAt_0 21 rfl rfl)
theorem dX1_wordAt_24 : decode cX1_wordAt 24 = .ok (.getfield 126, 3) := dk_180 0 126 (dk_at dksX1_wordAt_1 0 rfl rfl)
theorem dX1_wordAt_27 : decode cX1_wordAt 27 = .ok (.iload_n 1, 1) := dk_27 (dk_at dksX1_wordAt_1 3 rfl rfl)
theorem dX1_wordAt_28 : decode cX1_wordAt 28 = .ok (.invokevirtual 120, 3) := dk_182 0 120 (dk_at dksX1_wordAt_1 4 rfl rfl)
theorem dX1_wordAt_31 : decode cX1_wordAt 31 = .ok (.checkcast 129, 3) := dk_192 0 129 (dk_at dksX1_wordAt_1 7 rfl rfl)
theorem dX1_wordAt_34 : decode cX1_wordAt 34 = .ok (.areturn, 1) := dk_176 (dk_at dksX1_wordAt_1 10 rfl rfl)
abbrev cX1_requireIndex : ByteArray := prog_1_method_3_code
def yX1_requireIndex : MethodName := ⟨RX1, "requireIndex", "(Z)V"⟩
def dkwX1_requireIndex_0 : List UInt8 := [26, 154, 0, 13, 187, 0, 9, 89, 18, 11, 183, 0, 13, 191, 177]
abbrev dktX1_requireIndex_0 : List UInt8 := dkwX1_requireIndex_0 ++ []
theorem dksX1_requireIndex_0 : cX1_requireIndex.data.toList.drop 0 = dktX1_requireIndex_0 := by decide +kernel
theorem dX1_requireIndex_0 : decode cX1_requireIndex 0 = .ok (.iload_n 0, 1) := dk_26 (dk_at dksX1_requireIndex_0 0 rfl rfl)
theorem dX1_requireIndex_1 : decode cX1_requireIndex 1 = .ok (.ifCond .ne 13, 3) := dk_154 0 13 (dk_at dksX1_requireIndex_0 1 rfl rfl)
theorem dX1_requireIndex_4 : decode cX1_requireIndex 4 = .ok (.new 9, 3) := dk_187 0 9 (dk_at dksX1_requireIndex_0 4 rfl rfl)
theorem dX1_requireIndex_7 : decode cX1_requireIndex 7 = .ok (.dup, 1) := dk_89 (dk_at dksX1_requireIndex_0 7 rfl rfl)
theorem dX1_requireIndex_8 : decode cX1_requireIndex 8 = .ok (.ldc 11, 2) := dk_18 11 (dk_at dksX1_requireIndex_0 8 rfl rfl)
theorem dX1_requireIndex_10 : decode cX1_requireIndex 10 = .ok (.invokespecial 13, 3) := dk_183 0 13 (dk_at dksX1_requireIndex_0 10 rfl rfl)
theorem dX1_requireIndex_13 : decode cX1_requireIndex 13 = .ok (.athrow, 1) := dk_191 (dk_at dksX1_requireIndex_0 13 rfl rfl)
theorem dX1_requireIndex_14 : decode cX1_requireIndex 14 = .ok (.return_, 1) := dk_177 (dk_at dksX1_requireIndex_0 14 rfl rfl)
abbrev cX1_remove : ByteArray := prog_1_method_15_code
def yX1_remove : MethodName := ⟨RX1, "remove", "(I)I"⟩
def dkwX1_remove_1 : List UInt8 := [180, 0, 54, 180, 0, 193, 27, 182, 0, 196, 42, 180, 0, 54, 180, 0, 105, 182, 0, 109, 172]
abbrev dktX1_remove_1 : List UInt8 := dkwX1_remove_1 ++ []
def dkwX1_remove_0 : List UInt8 := [42, 27, 182, 0, 186, 87, 42, 182, 0, 154, 42, 180, 0, 54, 180, 0, 105, 27, 182, 0, 190, 87, 42]
abbrev dktX1_remove_0 : List UInt8 := dkwX1_remove_0 ++ dktX1_remove_1
theorem dksX1_remove_0 : cX1_remove.data.toList.drop 0 = dktX1_remove_0 := by decide +kernel
theorem dksX1_remove_1 : cX1_remove.data.toList.drop 23 = dktX1_remove_1 := dk_seg dksX1_remove_0 23 rfl rfl
theorem dX1_remove_0 : decode cX1_remove 0 = .ok (.aload_n 0, 1) := dk_42 (dk_at dksX1_remove_0 0 rfl rfl)
theorem dX1_remove_1 : decode cX1_remove 1 = .ok (.iload_n 1, 1) := dk_27 (dk_at dksX1_remove_0 1 rfl rfl)
theorem dX1_remove_2 : decode cX1_remove 2 = .ok (.invokevirtual 186, 3) := dk_182 0 186 (dk_at dksX1_remove_0 2 rfl rfl)
theorem dX1_remove_5 : decode cX1_remove 5 = .ok (.pop, 1) := dk_87 (dk_at dksX1_remove_0 5 rfl rfl)
theorem dX1_remove_6 : decode cX1_remove 6 = .ok (.aload_n 0, 1) := dk_42 (dk_at dksX1_remove_0 6 rfl rfl)
theorem dX1_remove_7 : decode cX1_remove 7 = .ok (.invokevirtual 154, 3) := dk_182 0 154 (dk_at dksX1_remove_0 7 rfl rfl)
theorem dX1_remove_10 : decode cX1_remove 10 = .ok (.aload_n 0, 1) := dk_42 (dk_at dksX1_remove_0 10 rfl rfl)
theorem dX1_remove_11 : decode cX1_remove 11 = .ok (.getfield 54, 3) := dk_180 0 54 (dk_at dksX1_remove_0 11 rfl rfl)
theorem dX1_remove_14 : decode cX1_remove 14 = .ok (.getfield 105, 3) := dk_180 0 105 (dk_at dksX1_remove_0 14 rfl rfl)
theorem dX1_remove_17 : decode cX1_remove 17 = .ok (.iload_n 1, 1) := dk_27 (dk_at dksX1_remove_0 17 rfl rfl)
theorem dX1_remove_18 : decode cX1_remove 18 = .ok (.invokevirtual 190, 3) := dk_182 0 190 (dk_at dksX1_remove_0 18 rfl rfl)
theorem dX1_remove_21 : decode cX1_remove 21 = .ok (.pop, 1) := dk_87 (dk_at dksX1_remove_0 21 rfl rfl)
theorem dX1_remove_22 : decode cX1_remove 22 = .ok (.aload_n 0, 1) := dk_42 (dk_at dksX1_remove_0 22 rfl rfl)
theorem dX1_remove_23 : decode cX1_remove 23 = .ok (.getfield 54, 3) := dk_180 0 54 (dk_at dksX1_remove_1 0 rfl rfl)
theorem dX1_remove_26 : decode cX1_remove 26 = .ok (.getfield 193, 3) := dk_180 0 193 (dk_at dksX1_remove_1 3 rfl rfl)
theorem dX1_remove_29 : decode cX1_remove 29 = .ok (.iload_n 1, 1) := dk_27 (dk_at dksX1_remove_1 6 rfl rfl)
theorem dX1_remove_30 : decode cX1_remove 30 = .ok (.invokevirtual 196, 3) := dk_182 0 196 (dk_at dksX1_remove_1 7 rfl rfl)
theorem dX1_remove_33 : decode cX1_remove 33 = .ok (.aload_n 0, 1) := dk_42 (dk_at dksX1_remove_1 10 rfl rfl)
theorem dX1_remove_34 : decode cX1_remove 34 = .ok (.getfield 54, 3) := dk_180 0 54 (dk_at dksX1_remove_1 11 rfl rfl)
theorem dX1_remove_37 : decode cX1_remove 37 = .ok (.getfield 105, 3) := dk_180 0 105 (dk_at dksX1_remove_1 14 rfl rfl)
theorem dX1_remove_40 : decode cX1_remove 40 = .ok (.invokevirtual 109, 3) := dk_182 0 109 (dk_at dksX1_remove_1 17 rfl rfl)
theorem dX1_remove_43 : decode cX1_remove 43 = .ok (.ireturn, 1) := dk_172 (dk_at dksX1_remove_1 20 rfl rfl)
abbrev cX1_stampAt : ByteArray := prog_1_method_9_code
def yX1_stampAt : MethodName := ⟨RX1, "stampAt", "(I)LRubberStamps$Stamp;"⟩
def dkwX1_stampAt_1 : List UInt8 := [180, 0, 105, 27, 182, 0, 120, 192, 0, 124, 176]
abbrev dktX1_stampAt_1 : List UInt8 := dkwX1_stampAt_1 ++ []
def dkwX1_stampAt_0 : List UInt8 := [27, 3, 42, 180, 0, 54, 180, 0, 105, 182, 0, 109, 4, 100, 184, 0, 112, 184, 0, 116, 42, 180, 0, 54]
abbrev dktX1_stampAt_0 : List UInt8 := dkwX1_stampAt_0 ++ dktX1_stampAt_1
theorem dksX1_stampAt_0 : cX1_stampAt.data.toList.drop 0 = dktX1_stampAt_0 := by decide +kernel
theorem dksX1_stampAt_1 : cX1_stampAt.data.toList.drop 24 = dktX1_stampAt_1 := dk_seg dksX1_stampAt_0 24 rfl rfl
theorem dX1_stampAt_0 : decode cX1_stampAt 0 = .ok (.iload_n 1, 1) := dk_27 (dk_at dksX1_stampAt_0 0 rfl rfl)
theorem dX1_stampAt_1 : decode cX1_stampAt 1 = .ok (.iconst 0, 1) := dk_3 (dk_at dksX1_stampAt_0 1 rfl rfl)
theorem dX1_stampAt_2 : decode cX1_stampAt 2 = .ok (.aload_n 0, 1) := dk_42 (dk_at dksX1_stampAt_0 2 rfl rfl)
theorem dX1_stampAt_3 : decode cX1_stampAt 3 = .ok (.getfield 54, 3) := dk_180 0 54 (dk_at dksX1_stampAt_0 3 rfl rfl)
theorem dX1_stampAt_6 : decode cX1_stampAt 6 = .ok (.getfield 105, 3) := dk_180 0 105 (dk_at dksX1_stampAt_0 6 rfl rfl)
theorem dX1_stampAt_9 : decode cX1_stampAt 9 = .ok (.invokevirtual 109, 3) := dk_182 0 109 (dk_at dksX1_stampAt_0 9 rfl rfl)
theorem dX1_stampAt_12 : decode cX1_stampAt 12 = .ok (.iconst 1, 1) := dk_4 (dk_at dksX1_stampAt_0 12 rfl rfl)
theorem dX1_stampAt_13 : decode cX1_stampAt 13 = .ok (.isub, 1) := dk_100 (dk_at dksX1_stampAt_0 13 rfl rfl)
theorem dX1_stampAt_14 : decode cX1_stampAt 14 = .ok (.invokestatic 112, 3) := dk_184 0 112 (dk_at dksX1_stampAt_0 14 rfl rfl)
theorem dX1_stampAt_17 : decode cX1_stampAt 17 = .ok (.invokestatic 116, 3) := dk_184 0 116 (dk_at dksX1_stampAt_0 17 rfl rfl)
theorem dX1_stampAt_20 : decode cX1_stampAt 20 = .ok (.aload_n 0, 1) := dk_42 (dk_at dksX1_stampAt_0 20 rfl rfl)
theorem dX1_stampAt_21 : decode cX1_stampAt 21 = .ok (.getfield 54, 3) := dk_180 0 54 (dk_at dksX1_stampAt_0 21 rfl rfl)
theorem dX1_stampAt_24 : decode cX1_stampAt 24 = .ok (.getfield 105, 3) := dk_180 0 105 (dk_at dksX1_stampAt_1 0 rfl rfl)
theorem dX1_stampAt_27 : decode cX1_stampAt 27 = .ok (.iload_n 1, 1) := dk_27 (dk_at dksX1_stampAt_1 3 rfl rfl)
theorem dX1_stampAt_28 : decode cX1_stampAt 28 = .ok (.invokevirtual 120, 3) := dk_182 0 120 (dk_at dksX1_stampAt_1 4 rfl rfl)
theorem dX1_stampAt_31 : decode cX1_stampAt 31 = .ok (.checkcast 124, 3) := dk_192 0 124 (dk_at dksX1_stampAt_1 7 rfl rfl)
theorem dX1_stampAt_34 : decode cX1_stampAt 34 = .ok (.areturn, 1) := dk_176 (dk_at dksX1_stampAt_1 10 rfl rfl)
abbrev cX1_drop : ByteArray := prog_1_method_16_code
def yX1_drop : MethodName := ⟨RX1, "drop", "(I)I"⟩
def dkwX1_drop_1 : List UInt8 := [180, 0, 54, 180, 0, 126, 182, 0, 109, 172]
abbrev dktX1_drop_1 : List UInt8 := dkwX1_drop_1 ++ []
def dkwX1_drop_0 : List UInt8 := [42, 27, 182, 0, 169, 87, 42, 182, 0, 154, 42, 180, 0, 54, 180, 0, 126, 27, 182, 0, 190, 87, 42]
abbrev dktX1_drop_0 : List UInt8 := dkwX1_drop_0 ++ dktX1_drop_1
theorem dksX1_drop_0 : cX1_drop.data.toList.drop 0 = dktX1_drop_0 := by decide +kernel
theorem dksX1_drop_1 : cX1_drop.data.toList.drop 23 = dktX1_drop_1 := dk_seg dksX1_drop_0 23 rfl rfl
theorem dX1_drop_0 : decode cX1_drop 0 = .ok (.aload_n 0, 1) := dk_42 (dk_at dksX1_drop_0 0 rfl rfl)
theorem dX1_drop_1 : decode cX1_drop 1 = .ok (.iload_n 1, 1) := dk_27 (dk_at dksX1_drop_0 1 rfl rfl)
theorem dX1_drop_2 : decode cX1_drop 2 = .ok (.invokevirtual 169, 3) := dk_182 0 169 (dk_at dksX1_drop_0 2 rfl rfl)
theorem dX1_drop_5 : decode cX1_drop 5 = .ok (.pop, 1) := dk_87 (dk_at dksX1_drop_0 5 rfl rfl)
theorem dX1_drop_6 : decode cX1_drop 6 = .ok (.aload_n 0, 1) := dk_42 (dk_at dksX1_drop_0 6 rfl rfl)
theorem dX1_drop_7 : decode cX1_drop 7 = .ok (.invokevirtual 154, 3) := dk_182 0 154 (dk_at dksX1_drop_0 7 rfl rfl)
theorem dX1_drop_10 : decode cX1_drop 10 = .ok (.aload_n 0, 1) := dk_42 (dk_at dksX1_drop_0 10 rfl rfl)
theorem dX1_drop_11 : decode cX1_drop 11 = .ok (.getfield 54, 3) := dk_180 0 54 (dk_at dksX1_drop_0 11 rfl rfl)
theorem dX1_drop_14 : decode cX1_drop 14 = .ok (.getfield 126, 3) := dk_180 0 126 (dk_at dksX1_drop_0 14 rfl rfl)
theorem dX1_drop_17 : decode cX1_drop 17 = .ok (.iload_n 1, 1) := dk_27 (dk_at dksX1_drop_0 17 rfl rfl)
theorem dX1_drop_18 : decode cX1_drop 18 = .ok (.invokevirtual 190, 3) := dk_182 0 190 (dk_at dksX1_drop_0 18 rfl rfl)
theorem dX1_drop_21 : decode cX1_drop 21 = .ok (.pop, 1) := dk_87 (dk_at dksX1_drop_0 21 rfl rfl)
theorem dX1_drop_22 : decode cX1_drop 22 = .ok (.aload_n 0, 1) := dk_42 (dk_at dksX1_drop_0 22 rfl rfl)
theorem dX1_drop_23 : decode cX1_drop 23 = .ok (.getfield 54, 3) := dk_180 0 54 (dk_at dksX1_drop_1 0 rfl rfl)
theorem dX1_drop_26 : decode cX1_drop 26 = .ok (.getfield 126, 3) := dk_180 0 126 (dk_at dksX1_drop_1 3 rfl rfl)
theorem dX1_drop_29 : decode cX1_drop 29 = .ok (.invokevirtual 109, 3) := dk_182 0 109 (dk_at dksX1_drop_1 6 rfl rfl)
theorem dX1_drop_32 : decode cX1_drop 32 = .ok (.ireturn, 1) := dk_172 (dk_at dksX1_drop_1 9 rfl rfl)
abbrev cX1_setColor : ByteArray := prog_1_method_17_code
def yX1_setColor : MethodName := ⟨RX1, "setColor", "(II)I"⟩
def dkwX1_setColor_1 : List UInt8 := [54, 4, 45, 28, 181, 0, 199, 21, 4, 172]
abbrev dktX1_setColor_1 : List UInt8 := dkwX1_setColor_1 ++ []
def dkwX1_setColor_0 : List UInt8 := [42, 27, 182, 0, 169, 78, 28, 3, 6, 184, 0, 112, 184, 0, 131, 42, 182, 0, 154, 45, 180, 0, 199]
abbrev dktX1_setColor_0 : List UInt8 := dkwX1_setColor_0 ++ dktX1_setColor_1
theorem dksX1_setColor_0 : cX1_setColor.data.toList.drop 0 = dktX1_setColor_0 := by decide +kernel
theorem dksX1_setColor_1 : cX1_setColor.data.toList.drop 23 = dktX1_setColor_1 := dk_seg dksX1_setColor_0 23 rfl rfl
theorem dX1_setColor_0 : decode cX1_setColor 0 = .ok (.aload_n 0, 1) := dk_42 (dk_at dksX1_setColor_0 0 rfl rfl)
theorem dX1_setColor_1 : decode cX1_setColor 1 = .ok (.iload_n 1, 1) := dk_27 (dk_at dksX1_setColor_0 1 rfl rfl)
theorem dX1_setColor_2 : decode cX1_setColor 2 = .ok (.invokevirtual 169, 3) := dk_182 0 169 (dk_at dksX1_setColor_0 2 rfl rfl)
theorem dX1_setColor_5 : decode cX1_setColor 5 = .ok (.astore_n 3, 1) := dk_78 (dk_at dksX1_setColor_0 5 rfl rfl)
theorem dX1_setColor_6 : decode cX1_setColor 6 = .ok (.iload_n 2, 1) := dk_28 (dk_at dksX1_setColor_0 6 rfl rfl)
theorem dX1_setColor_7 : decode cX1_setColor 7 = .ok (.iconst 0, 1) := dk_3 (dk_at dksX1_setColor_0 7 rfl rfl)
theorem dX1_setColor_8 : decode cX1_setColor 8 = .ok (.iconst 3, 1) := dk_6 (dk_at dksX1_setColor_0 8 rfl rfl)
theorem dX1_setColor_9 : decode cX1_setColor 9 = .ok (.invokestatic 112, 3) := dk_184 0 112 (dk_at dksX1_setColor_0 9 rfl rfl)
theorem dX1_setColor_12 : decode cX1_setColor 12 = .ok (.invokestatic 131, 3) := dk_184 0 131 (dk_at dksX1_setColor_0 12 rfl rfl)
theorem dX1_setColor_15 : decode cX1_setColor 15 = .ok (.aload_n 0, 1) := dk_42 (dk_at dksX1_setColor_0 15 rfl rfl)
theorem dX1_setColor_16 : decode cX1_setColor 16 = .ok (.invokevirtual 154, 3) := dk_182 0 154 (dk_at dksX1_setColor_0 16 rfl rfl)
theorem dX1_setColor_19 : decode cX1_setColor 19 = .ok (.aload_n 3, 1) := dk_45 (dk_at dksX1_setColor_0 19 rfl rfl)
theorem dX1_setColor_20 : decode cX1_setColor 20 = .ok (.getfield 199, 3) := dk_180 0 199 (dk_at dksX1_setColor_0 20 rfl rfl)
theorem dX1_setColor_23 : decode cX1_setColor 23 = .ok (.istore 4, 2) := dk_54 4 (dk_at dksX1_setColor_1 0 rfl rfl)
theorem dX1_setColor_25 : decode cX1_setColor 25 = .ok (.aload_n 3, 1) := dk_45 (dk_at dksX1_setColor_1 2 rfl rfl)
theorem dX1_setColor_26 : decode cX1_setColor 26 = .ok (.iload_n 2, 1) := dk_28 (dk_at dksX1_setColor_1 3 rfl rfl)
theorem dX1_setColor_27 : decode cX1_setColor 27 = .ok (.putfield 199, 3) := dk_181 0 199 (dk_at dksX1_setColor_1 4 rfl rfl)
theorem dX1_setColor_30 : decode cX1_setColor 30 = .ok (.iload 4, 2) := dk_21 4 (dk_at dksX1_setColor_1 7 rfl rfl)
theorem dX1_setColor_32 : decode cX1_setColor 32 = .ok (.ireturn, 1) := dk_172 (dk_at dksX1_setColor_1 9 rfl rfl)
abbrev cX1_setLimits : ByteArray := prog_1_method_18_code
def yX1_setLimits : MethodName := ⟨RX1, "setLimits", "(II)I"⟩
def dkwX1_setLimits_2 : List UInt8 := [181, 0, 163, 42, 180, 0, 54, 28, 181, 0, 166, 29, 172]
abbrev dktX1_setLimits_2 : List UInt8 := dkwX1_setLimits_2 ++ []
def dkwX1_setLimits_1 : List UInt8 := [167, 0, 4, 3, 184, 0, 131, 42, 182, 0, 154, 42, 180, 0, 54, 180, 0, 163, 62, 42, 180, 0, 54, 27]
abbrev dktX1_setLimits_1 : List UInt8 := dkwX1_setLimits_1 ++ dktX1_setLimits_2
def dkwX1_setLimits_0 : List UInt8 := [27, 4, 17, 0, 200, 184, 0, 112, 153, 0, 17, 28, 4, 16, 20, 184, 0, 112, 153, 0, 7, 4]
abbrev dktX1_setLimits_0 : List UInt8 := dkwX1_setLimits_0 ++ dktX1_setLimits_1
theorem dksX1_setLimits_0 : cX1_setLimits.data.toList.drop 0 = dktX1_setLimits_0 := by decide +kernel
theorem dksX1_setLimits_1 : cX1_setLimits.data.toList.drop 22 = dktX1_setLimits_1 := dk_seg dksX1_setLimits_0 22 rfl rfl
theorem dksX1_setLimits_2 : cX1_setLimits.data.toList.drop 46 = dktX1_setLimits_2 := dk_seg dksX1_setLimits_1 24 rfl rfl
theorem dX1_setLimits_0 : decode cX1_setLimits 0 = .ok (.iload_n 1, 1) := dk_27 (dk_at dksX1_setLimits_0 0 rfl rfl)
theorem dX1_setLimits_1 : decode cX1_setLimits 1 = .ok (.iconst 1, 1) := dk_4 (dk_at dksX1_setLimits_0 1 rfl rfl)
theorem dX1_setLimits_2 : decode cX1_setLimits 2 = .ok (.sipush 200, 3) := dk_17 0 200 (dk_at dksX1_setLimits_0 2 rfl rfl)
theorem dX1_setLimits_5 : decode cX1_setLimits 5 = .ok (.invokestatic 112, 3) := dk_184 0 112 (dk_at dksX1_setLimits_0 5 rfl rfl)
theorem dX1_setLimits_8 : decode cX1_setLimits 8 = .ok (.ifCond .eq 17, 3) := dk_153 0 17 (dk_at dksX1_setLimits_0 8 rfl rfl)
theorem dX1_setLimits_11 : decode cX1_setLimits 11 = .ok (.iload_n 2, 1) := dk_28 (dk_at dksX1_setLimits_0 11 rfl rfl)
theorem dX1_setLimits_12 : decode cX1_setLimits 12 = .ok (.iconst 1, 1) := dk_4 (dk_at dksX1_setLimits_0 12 rfl rfl)
theorem dX1_setLimits_13 : decode cX1_setLimits 13 = .ok (.bipush 20, 2) := dk_16 20 (dk_at dksX1_setLimits_0 13 rfl rfl)
theorem dX1_setLimits_15 : decode cX1_setLimits 15 = .ok (.invokestatic 112, 3) := dk_184 0 112 (dk_at dksX1_setLimits_0 15 rfl rfl)
theorem dX1_setLimits_18 : decode cX1_setLimits 18 = .ok (.ifCond .eq 7, 3) := dk_153 0 7 (dk_at dksX1_setLimits_0 18 rfl rfl)
theorem dX1_setLimits_21 : decode cX1_setLimits 21 = .ok (.iconst 1, 1) := dk_4 (dk_at dksX1_setLimits_0 21 rfl rfl)
theorem dX1_setLimits_22 : decode cX1_setLimits 22 = .ok (.goto 4, 3) := dk_167 0 4 (dk_at dksX1_setLimits_1 0 rfl rfl)
theorem dX1_setLimits_25 : decode cX1_setLimits 25 = .ok (.iconst 0, 1) := dk_3 (dk_at dksX1_setLimits_1 3 rfl rfl)
theorem dX1_setLimits_26 : decode cX1_setLimits 26 = .ok (.invokestatic 131, 3) := dk_184 0 131 (dk_at dksX1_setLimits_1 4 rfl rfl)
theorem dX1_setLimits_29 : decode cX1_setLimits 29 = .ok (.aload_n 0, 1) := dk_42 (dk_at dksX1_setLimits_1 7 rfl rfl)
theorem dX1_setLimits_30 : decode cX1_setLimits 30 = .ok (.invokevirtual 154, 3) := dk_182 0 154 (dk_at dksX1_setLimits_1 8 rfl rfl)
theorem dX1_setLimits_33 : decode cX1_setLimits 33 = .ok (.aload_n 0, 1) := dk_42 (dk_at dksX1_setLimits_1 11 rfl rfl)
theorem dX1_setLimits_34 : decode cX1_setLimits 34 = .ok (.getfield 54, 3) := dk_180 0 54 (dk_at dksX1_setLimits_1 12 rfl rfl)
theorem dX1_setLimits_37 : decode cX1_setLimits 37 = .ok (.getfield 163, 3) := dk_180 0 163 (dk_at dksX1_setLimits_1 15 rfl rfl)
theorem dX1_setLimits_40 : decode cX1_setLimits 40 = .ok (.istore_n 3, 1) := dk_62 (dk_at dksX1_setLimits_1 18 rfl rfl)
theorem dX1_setLimits_41 : decode cX1_setLimits 41 = .ok (.aload_n 0, 1) := dk_42 (dk_at dksX1_setLimits_1 19 rfl rfl)
theorem dX1_setLimits_42 : decode cX1_setLimits 42 = .ok (.getfield 54, 3) := dk_180 0 54 (dk_at dksX1_setLimits_1 20 rfl rfl)
theorem dX1_setLimits_45 : decode cX1_setLimits 45 = .ok (.iload_n 1, 1) := dk_27 (dk_at dksX1_setLimits_1 23 rfl rfl)
theorem dX1_setLimits_46 : decode cX1_setLimits 46 = .ok (.putfield 163, 3) := dk_181 0 163 (dk_at dksX1_setLimits_2 0 rfl rfl)
theorem dX1_setLimits_49 : decode cX1_setLimits 49 = .ok (.aload_n 0, 1) := dk_42 (dk_at dksX1_setLimits_2 3 rfl rfl)
theorem dX1_setLimits_50 : decode cX1_setLimits 50 = .ok (.getfield 54, 3) := dk_180 0 54 (dk_at dksX1_setLimits_2 4 rfl rfl)
theorem dX1_setLimits_53 : decode cX1_setLimits 53 = .ok (.iload_n 2, 1) := dk_28 (dk_at dksX1_setLimits_2 7 rfl rfl)
theorem dX1_setLimits_54 : decode cX1_setLimits 54 = .ok (.putfield 166, 3) := dk_181 0 166 (dk_at dksX1_setLimits_2 8 rfl rfl)
theorem dX1_setLimits_57 : decode cX1_setLimits 57 = .ok (.iload_n 3, 1) := dk_29 (dk_at dksX1_setLimits_2 11 rfl rfl)
theorem dX1_setLimits_58 : decode cX1_setLimits 58 = .ok (.ireturn, 1) := dk_172 (dk_at dksX1_setLimits_2 12 rfl rfl)
abbrev cX1_clean : ByteArray := prog_1_method_19_code
def yX1_clean : MethodName := ⟨RX1, "clean", "(I)I"⟩
def dkwX1_clean_0 : List UInt8 := [42, 27, 182, 0, 186, 87, 42, 182, 0, 154, 42, 180, 0, 54, 180, 0, 193, 27, 182, 0, 202, 172]
abbrev dktX1_clean_0 : List UInt8 := dkwX1_clean_0 ++ []
theorem dksX1_clean_0 : cX1_clean.data.toList.drop 0 = dktX1_clean_0 := by decide +kernel
theorem dX1_clean_0 : decode cX1_clean 0 = .ok (.aload_n 0, 1) := dk_42 (dk_at dksX1_clean_0 0 rfl rfl)
theorem dX1_clean_1 : decode cX1_clean 1 = .ok (.iload_n 1, 1) := dk_27 (dk_at dksX1_clean_0 1 rfl rfl)
theorem dX1_clean_2 : decode cX1_clean 2 = .ok (.invokevirtual 186, 3) := dk_182 0 186 (dk_at dksX1_clean_0 2 rfl rfl)
theorem dX1_clean_5 : decode cX1_clean 5 = .ok (.pop, 1) := dk_87 (dk_at dksX1_clean_0 5 rfl rfl)
theorem dX1_clean_6 : decode cX1_clean 6 = .ok (.aload_n 0, 1) := dk_42 (dk_at dksX1_clean_0 6 rfl rfl)
theorem dX1_clean_7 : decode cX1_clean 7 = .ok (.invokevirtual 154, 3) := dk_182 0 154 (dk_at dksX1_clean_0 7 rfl rfl)
theorem dX1_clean_10 : decode cX1_clean 10 = .ok (.aload_n 0, 1) := dk_42 (dk_at dksX1_clean_0 10 rfl rfl)
theorem dX1_clean_11 : decode cX1_clean 11 = .ok (.getfield 54, 3) := dk_180 0 54 (dk_at dksX1_clean_0 11 rfl rfl)
theorem dX1_clean_14 : decode cX1_clean 14 = .ok (.getfield 193, 3) := dk_180 0 193 (dk_at dksX1_clean_0 14 rfl rfl)
theorem dX1_clean_17 : decode cX1_clean 17 = .ok (.iload_n 1, 1) := dk_27 (dk_at dksX1_clean_0 17 rfl rfl)
theorem dX1_clean_18 : decode cX1_clean 18 = .ok (.invokevirtual 202, 3) := dk_182 0 202 (dk_at dksX1_clean_0 18 rfl rfl)
theorem dX1_clean_21 : decode cX1_clean 21 = .ok (.ireturn, 1) := dk_172 (dk_at dksX1_clean_0 21 rfl rfl)
abbrev cX1_value : ByteArray := prog_1_method_22_code
def yX1_value : MethodName := ⟨RX1, "value", "(I)I"⟩
def dkwX1_value_0 : List UInt8 := [27, 3, 16, 8, 184, 0, 112, 184, 0, 131, 42, 27, 182, 0, 234, 172]
abbrev dktX1_value_0 : List UInt8 := dkwX1_value_0 ++ []
theorem dksX1_value_0 : cX1_value.data.toList.drop 0 = dktX1_value_0 := by decide +kernel
theorem dX1_value_0 : decode cX1_value 0 = .ok (.iload_n 1, 1) := dk_27 (dk_at dksX1_value_0 0 rfl rfl)
theorem dX1_value_1 : decode cX1_value 1 = .ok (.iconst 0, 1) := dk_3 (dk_at dksX1_value_0 1 rfl rfl)
theorem dX1_value_2 : decode cX1_value 2 = .ok (.bipush 8, 2) := dk_16 8 (dk_at dksX1_value_0 2 rfl rfl)
theorem dX1_value_4 : decode cX1_value 4 = .ok (.invokestatic 112, 3) := dk_184 0 112 (dk_at dksX1_value_0 4 rfl rfl)
theorem dX1_value_7 : decode cX1_value 7 = .ok (.invokestatic 131, 3) := dk_184 0 131 (dk_at dksX1_value_0 7 rfl rfl)
theorem dX1_value_10 : decode cX1_value 10 = .ok (.aload_n 0, 1) := dk_42 (dk_at dksX1_value_0 10 rfl rfl)
theorem dX1_value_11 : decode cX1_value 11 = .ok (.iload_n 1, 1) := dk_27 (dk_at dksX1_value_0 11 rfl rfl)
theorem dX1_value_12 : decode cX1_value 12 = .ok (.invokevirtual 234, 3) := dk_182 0 234 (dk_at dksX1_value_0 12 rfl rfl)
theorem dX1_value_15 : decode cX1_value 15 = .ok (.ireturn, 1) := dk_172 (dk_at dksX1_value_0 15 rfl rfl)
abbrev cX1_stamp : ByteArray := prog_1_method_23_code
def yX1_stamp : MethodName := ⟨RX1, "stamp", "(II)I"⟩
def dkwX1_stamp_1 : List UInt8 := [172]
abbrev dktX1_stamp_1 : List UInt8 := dkwX1_stamp_1 ++ []
def dkwX1_stamp_0 : List UInt8 := [42, 27, 182, 0, 186, 87, 28, 3, 8, 184, 0, 112, 184, 0, 131, 42, 180, 0, 54, 27, 28, 182, 0, 237]
abbrev dktX1_stamp_0 : List UInt8 := dkwX1_stamp_0 ++ dktX1_stamp_1
theorem dksX1_stamp_0 : cX1_stamp.data.toList.drop 0 = dktX1_stamp_0 := by decide +kernel
theorem dksX1_stamp_1 : cX1_stamp.data.toList.drop 24 = dktX1_stamp_1 := dk_seg dksX1_stamp_0 24 rfl rfl
theorem dX1_stamp_0 : decode cX1_stamp 0 = .ok (.aload_n 0, 1) := dk_42 (dk_at dksX1_stamp_0 0 rfl rfl)
theorem dX1_stamp_1 : decode cX1_stamp 1 = .ok (.iload_n 1, 1) := dk_27 (dk_at dksX1_stamp_0 1 rfl rfl)
theorem dX1_stamp_2 : decode cX1_stamp 2 = .ok (.invokevirtual 186, 3) := dk_182 0 186 (dk_at dksX1_stamp_0 2 rfl rfl)
theorem dX1_stamp_5 : decode cX1_stamp 5 = .ok (.pop, 1) := dk_87 (dk_at dksX1_stamp_0 5 rfl rfl)
theorem dX1_stamp_6 : decode cX1_stamp 6 = .ok (.iload_n 2, 1) := dk_28 (dk_at dksX1_stamp_0 6 rfl rfl)
theorem dX1_stamp_7 : decode cX1_stamp 7 = .ok (.iconst 0, 1) := dk_3 (dk_at dksX1_stamp_0 7 rfl rfl)
theorem dX1_stamp_8 : decode cX1_stamp 8 = .ok (.iconst 5, 1) := dk_8 (dk_at dksX1_stamp_0 8 rfl rfl)
theorem dX1_stamp_9 : decode cX1_stamp 9 = .ok (.invokestatic 112, 3) := dk_184 0 112 (dk_at dksX1_stamp_0 9 rfl rfl)
theorem dX1_stamp_12 : decode cX1_stamp 12 = .ok (.invokestatic 131, 3) := dk_184 0 131 (dk_at dksX1_stamp_0 12 rfl rfl)
theorem dX1_stamp_15 : decode cX1_stamp 15 = .ok (.aload_n 0, 1) := dk_42 (dk_at dksX1_stamp_0 15 rfl rfl)
theorem dX1_stamp_16 : decode cX1_stamp 16 = .ok (.getfield 54, 3) := dk_180 0 54 (dk_at dksX1_stamp_0 16 rfl rfl)
theorem dX1_stamp_19 : decode cX1_stamp 19 = .ok (.iload_n 1, 1) := dk_27 (dk_at dksX1_stamp_0 19 rfl rfl)
theorem dX1_stamp_20 : decode cX1_stamp 20 = .ok (.iload_n 2, 1) := dk_28 (dk_at dksX1_stamp_0 20 rfl rfl)
theorem dX1_stamp_21 : decode cX1_stamp 21 = .ok (.invokevirtual 237, 3) := dk_182 0 237 (dk_at dksX1_stamp_0 21 rfl rfl)
theorem dX1_stamp_24 : decode cX1_stamp 24 = .ok (.ireturn, 1) := dk_172 (dk_at dksX1_stamp_1 0 rfl rfl)
abbrev cX1_print : ByteArray := prog_1_method_24_code
def yX1_print : MethodName := ⟨RX1, "print", "(IIZ)I"⟩
def dkwX1_print_2 : List UInt8 := [199, 0, 7, 2, 167, 0, 12, 25, 5, 28, 182, 0, 30, 16, 97, 100, 172]
abbrev dktX1_print_2 : List UInt8 := dkwX1_print_2 ++ []
def dkwX1_print_1 : List UInt8 := [184, 0, 116, 29, 153, 0, 11, 25, 4, 180, 0, 241, 167, 0, 8, 25, 4, 180, 0, 240, 58, 5, 25, 5]
abbrev dktX1_print_1 : List UInt8 := dkwX1_print_1 ++ dktX1_print_2
def dkwX1_print_0 : List UInt8 := [42, 27, 182, 0, 186, 58, 4, 28, 3, 25, 4, 180, 0, 240, 182, 0, 24, 4, 100, 184, 0, 112]
abbrev dktX1_print_0 : List UInt8 := dkwX1_print_0 ++ dktX1_print_1
theorem dksX1_print_0 : cX1_print.data.toList.drop 0 = dktX1_print_0 := by decide +kernel
theorem dksX1_print_1 : cX1_print.data.toList.drop 22 = dktX1_print_1 := dk_seg dksX1_print_0 22 rfl rfl
theorem dksX1_print_2 : cX1_print.data.toList.drop 46 = dktX1_print_2 := dk_seg dksX1_print_1 24 rfl rfl
theorem dX1_print_0 : decode cX1_print 0 = .ok (.aload_n 0, 1) := dk_42 (dk_at dksX1_print_0 0 rfl rfl)
theorem dX1_print_1 : decode cX1_print 1 = .ok (.iload_n 1, 1) := dk_27 (dk_at dksX1_print_0 1 rfl rfl)
theorem dX1_print_2 : decode cX1_print 2 = .ok (.invokevirtual 186, 3) := dk_182 0 186 (dk_at dksX1_print_0 2 rfl rfl)
theorem dX1_print_5 : decode cX1_print 5 = .ok (.astore 4, 2) := dk_58 4 (dk_at dksX1_print_0 5 rfl rfl)
theorem dX1_print_7 : decode cX1_print 7 = .ok (.iload_n 2, 1) := dk_28 (dk_at dksX1_print_0 7 rfl rfl)
theorem dX1_print_8 : decode cX1_print 8 = .ok (.iconst 0, 1) := dk_3 (dk_at dksX1_print_0 8 rfl rfl)
theorem dX1_print_9 : decode cX1_print 9 = .ok (.aload 4, 2) := dk_25 4 (dk_at dksX1_print_0 9 rfl rfl)
theorem dX1_print_11 : decode cX1_print 11 = .ok (.getfield 240, 3) := dk_180 0 240 (dk_at dksX1_print_0 11 rfl rfl)
theorem dX1_print_14 : decode cX1_print 14 = .ok (.invokevirtual 24, 3) := dk_182 0 24 (dk_at dksX1_print_0 14 rfl rfl)
theorem dX1_print_17 : decode cX1_print 17 = .ok (.iconst 1, 1) := dk_4 (dk_at dksX1_print_0 17 rfl rfl)
theorem dX1_print_18 : decode cX1_print 18 = .ok (.isub, 1) := dk_100 (dk_at dksX1_print_0 18 rfl rfl)
theorem dX1_print_19 : decode cX1_print 19 = .ok (.invokestatic 112, 3) := dk_184 0 112 (dk_at dksX1_print_0 19 rfl rfl)
theorem dX1_print_22 : decode cX1_print 22 = .ok (.invokestatic 116, 3) := dk_184 0 116 (dk_at dksX1_print_1 0 rfl rfl)
theorem dX1_print_25 : decode cX1_print 25 = .ok (.iload_n 3, 1) := dk_29 (dk_at dksX1_print_1 3 rfl rfl)
theorem dX1_print_26 : decode cX1_print 26 = .ok (.ifCond .eq 11, 3) := dk_153 0 11 (dk_at dksX1_print_1 4 rfl rfl)
theorem dX1_print_29 : decode cX1_print 29 = .ok (.aload 4, 2) := dk_25 4 (dk_at dksX1_print_1 7 rfl rfl)
theorem dX1_print_31 : decode cX1_print 31 = .ok (.getfield 241, 3) := dk_180 0 241 (dk_at dksX1_print_1 9 rfl rfl)
theorem dX1_print_34 : decode cX1_print 34 = .ok (.goto 8, 3) := dk_167 0 8 (dk_at dksX1_print_1 12 rfl rfl)
theorem dX1_print_37 : decode cX1_print 37 = .ok (.aload 4, 2) := dk_25 4 (dk_at dksX1_print_1 15 rfl rfl)
theorem dX1_print_39 : decode cX1_print 39 = .ok (.getfield 240, 3) := dk_180 0 240 (dk_at dksX1_print_1 17 rfl rfl)
theorem dX1_print_42 : decode cX1_print 42 = .ok (.astore 5, 2) := dk_58 5 (dk_at dksX1_print_1 20 rfl rfl)
theorem dX1_print_44 : decode cX1_print 44 = .ok (.aload 5, 2) := dk_25 5 (dk_at dksX1_print_1 22 rfl rfl)
theorem dX1_print_46 : decode cX1_print 46 = .ok (.ifnonnull 7, 3) := dk_199 0 7 (dk_at dksX1_print_2 0 rfl rfl)
theorem dX1_print_49 : decode cX1_print 49 = .ok (.iconst (-1), 1) := dk_2 (dk_at dksX1_print_2 3 rfl rfl)
theorem dX1_print_50 : decode cX1_print 50 = .ok (.goto 12, 3) := dk_167 0 12 (dk_at dksX1_print_2 4 rfl rfl)
theorem dX1_print_53 : decode cX1_print 53 = .ok (.aload 5, 2) := dk_25 5 (dk_at dksX1_print_2 7 rfl rfl)
theorem dX1_print_55 : decode cX1_print 55 = .ok (.iload_n 2, 1) := dk_28 (dk_at dksX1_print_2 9 rfl rfl)
theorem dX1_print_56 : decode cX1_print 56 = .ok (.invokevirtual 30, 3) := dk_182 0 30 (dk_at dksX1_print_2 10 rfl rfl)
theorem dX1_print_59 : decode cX1_print 59 = .ok (.bipush 97, 2) := dk_16 97 (dk_at dksX1_print_2 13 rfl rfl)
theorem dX1_print_61 : decode cX1_print 61 = .ok (.isub, 1) := dk_100 (dk_at dksX1_print_2 15 rfl rfl)
theorem dX1_print_62 : decode cX1_print 62 = .ok (.ireturn, 1) := dk_172 (dk_at dksX1_print_2 16 rfl rfl)
abbrev cX1_word : ByteArray := prog_1_method_26_code
def yX1_word : MethodName := ⟨RX1, "word", "(II)I"⟩
def dkwX1_word_0 : List UInt8 := [42, 27, 182, 0, 169, 87, 28, 3, 8, 184, 0, 112, 184, 0, 131, 42, 27, 28, 182, 0, 255, 172]
abbrev dktX1_word_0 : List UInt8 := dkwX1_word_0 ++ []
theorem dksX1_word_0 : cX1_word.data.toList.drop 0 = dktX1_word_0 := by decide +kernel
theorem dX1_word_0 : decode cX1_word 0 = .ok (.aload_n 0, 1) := dk_42 (dk_at dksX1_word_0 0 rfl rfl)
theorem dX1_word_1 : decode cX1_word 1 = .ok (.iload_n 1, 1) := dk_27 (dk_at dksX1_word_0 1 rfl rfl)
theorem dX1_word_2 : decode cX1_word 2 = .ok (.invokevirtual 169, 3) := dk_182 0 169 (dk_at dksX1_word_0 2 rfl rfl)
theorem dX1_word_5 : decode cX1_word 5 = .ok (.pop, 1) := dk_87 (dk_at dksX1_word_0 5 rfl rfl)
theorem dX1_word_6 : decode cX1_word 6 = .ok (.iload_n 2, 1) := dk_28 (dk_at dksX1_word_0 6 rfl rfl)
theorem dX1_word_7 : decode cX1_word 7 = .ok (.iconst 0, 1) := dk_3 (dk_at dksX1_word_0 7 rfl rfl)
theorem dX1_word_8 : decode cX1_word 8 = .ok (.iconst 5, 1) := dk_8 (dk_at dksX1_word_0 8 rfl rfl)
theorem dX1_word_9 : decode cX1_word 9 = .ok (.invokestatic 112, 3) := dk_184 0 112 (dk_at dksX1_word_0 9 rfl rfl)
theorem dX1_word_12 : decode cX1_word 12 = .ok (.invokestatic 131, 3) := dk_184 0 131 (dk_at dksX1_word_0 12 rfl rfl)
theorem dX1_word_15 : decode cX1_word 15 = .ok (.aload_n 0, 1) := dk_42 (dk_at dksX1_word_0 15 rfl rfl)
theorem dX1_word_16 : decode cX1_word 16 = .ok (.iload_n 1, 1) := dk_27 (dk_at dksX1_word_0 16 rfl rfl)
theorem dX1_word_17 : decode cX1_word 17 = .ok (.iload_n 2, 1) := dk_28 (dk_at dksX1_word_0 17 rfl rfl)
theorem dX1_word_18 : decode cX1_word 18 = .ok (.invokevirtual 255, 3) := dk_182 0 255 (dk_at dksX1_word_0 18 rfl rfl)
theorem dX1_word_21 : decode cX1_word 21 = .ok (.ireturn, 1) := dk_172 (dk_at dksX1_word_0 21 rfl rfl)
abbrev cX1_letter : ByteArray := prog_1_method_27_code
def yX1_letter : MethodName := ⟨RX1, "letter", "(II)I"⟩
def dkwX1_letter_1 : List UInt8 := [180, 0, 173, 28, 182, 0, 30, 16, 97, 100, 172]
abbrev dktX1_letter_1 : List UInt8 := dkwX1_letter_1 ++ []
def dkwX1_letter_0 : List UInt8 := [42, 27, 182, 0, 169, 78, 28, 3, 45, 180, 0, 173, 182, 0, 24, 4, 100, 184, 0, 112, 184, 0, 116, 45]
abbrev dktX1_letter_0 : List UInt8 := dkwX1_letter_0 ++ dktX1_letter_1
theorem dksX1_letter_0 : cX1_letter.data.toList.drop 0 = dktX1_letter_0 := by decide +kernel
theorem dksX1_letter_1 : cX1_letter.data.toList.drop 24 = dktX1_letter_1 := dk_seg dksX1_letter_0 24 rfl rfl
theorem dX1_letter_0 : decode cX1_letter 0 = .ok (.aload_n 0, 1) := dk_42 (dk_at dksX1_letter_0 0 rfl rfl)
theorem dX1_letter_1 : decode cX1_letter 1 = .ok (.iload_n 1, 1) := dk_27 (dk_at dksX1_letter_0 1 rfl rfl)
theorem dX1_letter_2 : decode cX1_letter 2 = .ok (.invokevirtual 169, 3) := dk_182 0 169 (dk_at dksX1_letter_0 2 rfl rfl)
theorem dX1_letter_5 : decode cX1_letter 5 = .ok (.astore_n 3, 1) := dk_78 (dk_at dksX1_letter_0 5 rfl rfl)
theorem dX1_letter_6 : decode cX1_letter 6 = .ok (.iload_n 2, 1) := dk_28 (dk_at dksX1_letter_0 6 rfl rfl)
theorem dX1_letter_7 : decode cX1_letter 7 = .ok (.iconst 0, 1) := dk_3 (dk_at dksX1_letter_0 7 rfl rfl)
theorem dX1_letter_8 : decode cX1_letter 8 = .ok (.aload_n 3, 1) := dk_45 (dk_at dksX1_letter_0 8 rfl rfl)
theorem dX1_letter_9 : decode cX1_letter 9 = .ok (.getfield 173, 3) := dk_180 0 173 (dk_at dksX1_letter_0 9 rfl rfl)
theorem dX1_letter_12 : decode cX1_letter 12 = .ok (.invokevirtual 24, 3) := dk_182 0 24 (dk_at dksX1_letter_0 12 rfl rfl)
theorem dX1_letter_15 : decode cX1_letter 15 = .ok (.iconst 1, 1) := dk_4 (dk_at dksX1_letter_0 15 rfl rfl)
theorem dX1_letter_16 : decode cX1_letter 16 = .ok (.isub, 1) := dk_100 (dk_at dksX1_letter_0 16 rfl rfl)
theorem dX1_letter_17 : decode cX1_letter 17 = .ok (.invokestatic 112, 3) := dk_184 0 112 (dk_at dksX1_letter_0 17 rfl rfl)
theorem dX1_letter_20 : decode cX1_letter 20 = .ok (.invokestatic 116, 3) := dk_184 0 116 (dk_at dksX1_letter_0 20 rfl rfl)
theorem dX1_letter_23 : decode cX1_letter 23 = .ok (.aload_n 3, 1) := dk_45 (dk_at dksX1_letter_0 23 rfl rfl)
theorem dX1_letter_24 : decode cX1_letter 24 = .ok (.getfield 173, 3) := dk_180 0 173 (dk_at dksX1_letter_1 0 rfl rfl)
theorem dX1_letter_27 : decode cX1_letter 27 = .ok (.iload_n 2, 1) := dk_28 (dk_at dksX1_letter_1 3 rfl rfl)
theorem dX1_letter_28 : decode cX1_letter 28 = .ok (.invokevirtual 30, 3) := dk_182 0 30 (dk_at dksX1_letter_1 4 rfl rfl)
theorem dX1_letter_31 : decode cX1_letter 31 = .ok (.bipush 97, 2) := dk_16 97 (dk_at dksX1_letter_1 7 rfl rfl)
theorem dX1_letter_33 : decode cX1_letter 33 = .ok (.isub, 1) := dk_100 (dk_at dksX1_letter_1 9 rfl rfl)
theorem dX1_letter_34 : decode cX1_letter 34 = .ok (.ireturn, 1) := dk_172 (dk_at dksX1_letter_1 10 rfl rfl)
abbrev cX1_press : ByteArray := prog_1_method_28_code
def yX1_press : MethodName := ⟨RX1, "press", "(II)I"⟩
def dkwX1_press_2 : List UInt8 := [42, 180, 0, 68, 180, 1, 7, 28, 46, 172]
abbrev dktX1_press_2 : List UInt8 := dkwX1_press_2 ++ []
def dkwX1_press_1 : List UInt8 := [182, 0, 210, 182, 1, 2, 87, 28, 3, 42, 180, 0, 68, 180, 1, 6, 4, 100, 184, 0, 112, 184, 0, 116]
abbrev dktX1_press_1 : List UInt8 := dkwX1_press_1 ++ dktX1_press_2
def dkwX1_press_0 : List UInt8 := [42, 27, 182, 0, 169, 87, 42, 180, 0, 68, 42, 180, 0, 54, 182, 0, 206, 27, 42, 180, 0, 54]
abbrev dktX1_press_0 : List UInt8 := dkwX1_press_0 ++ dktX1_press_1
theorem dksX1_press_0 : cX1_press.data.toList.drop 0 = dktX1_press_0 := by decide +kernel
theorem dksX1_press_1 : cX1_press.data.toList.drop 22 = dktX1_press_1 := dk_seg dksX1_press_0 22 rfl rfl
theorem dksX1_press_2 : cX1_press.data.toList.drop 46 = dktX1_press_2 := dk_seg dksX1_press_1 24 rfl rfl
theorem dX1_press_0 : decode cX1_press 0 = .ok (.aload_n 0, 1) := dk_42 (dk_at dksX1_press_0 0 rfl rfl)
theorem dX1_press_1 : decode cX1_press 1 = .ok (.iload_n 1, 1) := dk_27 (dk_at dksX1_press_0 1 rfl rfl)
theorem dX1_press_2 : decode cX1_press 2 = .ok (.invokevirtual 169, 3) := dk_182 0 169 (dk_at dksX1_press_0 2 rfl rfl)
theorem dX1_press_5 : decode cX1_press 5 = .ok (.pop, 1) := dk_87 (dk_at dksX1_press_0 5 rfl rfl)
theorem dX1_press_6 : decode cX1_press 6 = .ok (.aload_n 0, 1) := dk_42 (dk_at dksX1_press_0 6 rfl rfl)
theorem dX1_press_7 : decode cX1_press 7 = .ok (.getfield 68, 3) := dk_180 0 68 (dk_at dksX1_press_0 7 rfl rfl)
theorem dX1_press_10 : decode cX1_press 10 = .ok (.aload_n 0, 1) := dk_42 (dk_at dksX1_press_0 10 rfl rfl)
theorem dX1_press_11 : decode cX1_press 11 = .ok (.getfield 54, 3) := dk_180 0 54 (dk_at dksX1_press_0 11 rfl rfl)
theorem dX1_press_14 : decode cX1_press 14 = .ok (.invokevirtual 206, 3) := dk_182 0 206 (dk_at dksX1_press_0 14 rfl rfl)
theorem dX1_press_17 : decode cX1_press 17 = .ok (.iload_n 1, 1) := dk_27 (dk_at dksX1_press_0 17 rfl rfl)
theorem dX1_press_18 : decode cX1_press 18 = .ok (.aload_n 0, 1) := dk_42 (dk_at dksX1_press_0 18 rfl rfl)
theorem dX1_press_19 : decode cX1_press 19 = .ok (.getfield 54, 3) := dk_180 0 54 (dk_at dksX1_press_0 19 rfl rfl)
theorem dX1_press_22 : decode cX1_press 22 = .ok (.invokevirtual 210, 3) := dk_182 0 210 (dk_at dksX1_press_1 0 rfl rfl)
theorem dX1_press_25 : decode cX1_press 25 = .ok (.invokevirtual 258, 3) := dk_182 1 2 (dk_at dksX1_press_1 3 rfl rfl)
theorem dX1_press_28 : decode cX1_press 28 = .ok (.pop, 1) := dk_87 (dk_at dksX1_press_1 6 rfl rfl)
theorem dX1_press_29 : decode cX1_press 29 = .ok (.iload_n 2, 1) := dk_28 (dk_at dksX1_press_1 7 rfl rfl)
theorem dX1_press_30 : decode cX1_press 30 = .ok (.iconst 0, 1) := dk_3 (dk_at dksX1_press_1 8 rfl rfl)
theorem dX1_press_31 : decode cX1_press 31 = .ok (.aload_n 0, 1) := dk_42 (dk_at dksX1_press_1 9 rfl rfl)
theorem dX1_press_32 : decode cX1_press 32 = .ok (.getfield 68, 3) := dk_180 0 68 (dk_at dksX1_press_1 10 rfl rfl)
theorem dX1_press_35 : decode cX1_press 35 = .ok (.getfield 262, 3) := dk_180 1 6 (dk_at dksX1_press_1 13 rfl rfl)
theorem dX1_press_38 : decode cX1_press 38 = .ok (.iconst 1, 1) := dk_4 (dk_at dksX1_press_1 16 rfl rfl)
theorem dX1_press_39 : decode cX1_press 39 = .ok (.isub, 1) := dk_100 (dk_at dksX1_press_1 17 rfl rfl)
theorem dX1_press_40 : decode cX1_press 40 = .ok (.invokestatic 112, 3) := dk_184 0 112 (dk_at dksX1_press_1 18 rfl rfl)
theorem dX1_press_43 : decode cX1_press 43 = .ok (.invokestatic 116, 3) := dk_184 0 116 (dk_at dksX1_press_1 21 rfl rfl)
theorem dX1_press_46 : decode cX1_press 46 = .ok (.aload_n 0, 1) := dk_42 (dk_at dksX1_press_2 0 rfl rfl)
theorem dX1_press_47 : decode cX1_press 47 = .ok (.getfield 68, 3) := dk_180 0 68 (dk_at dksX1_press_2 1 rfl rfl)
theorem dX1_press_50 : decode cX1_press 50 = .ok (.getfield 263, 3) := dk_180 1 7 (dk_at dksX1_press_2 4 rfl rfl)
theorem dX1_press_53 : decode cX1_press 53 = .ok (.iload_n 2, 1) := dk_28 (dk_at dksX1_press_2 7 rfl rfl)
theorem dX1_press_54 : decode cX1_press 54 = .ok (.iaload, 1) := dk_46 (dk_at dksX1_press_2 8 rfl rfl)
theorem dX1_press_55 : decode cX1_press 55 = .ok (.ireturn, 1) := dk_172 (dk_at dksX1_press_2 9 rfl rfl)
abbrev cX1_write : ByteArray := prog_1_method_29_code
def yX1_write : MethodName := ⟨RX1, "write", "(I)I"⟩
def dkwX1_write_2 : List UInt8 := [180, 0, 193, 182, 0, 251, 172]
abbrev dktX1_write_2 : List UInt8 := dkwX1_write_2 ++ []
def dkwX1_write_1 : List UInt8 := [180, 0, 193, 182, 0, 243, 184, 0, 138, 42, 182, 0, 154, 42, 180, 0, 68, 27, 42, 180, 0, 54]
abbrev dktX1_write_1 : List UInt8 := dkwX1_write_1 ++ dktX1_write_2
def dkwX1_write_0 : List UInt8 := [42, 27, 182, 0, 169, 87, 42, 180, 0, 68, 42, 180, 0, 54, 182, 0, 206, 27, 42, 180, 0, 54]
abbrev dktX1_write_0 : List UInt8 := dkwX1_write_0 ++ dktX1_write_1
theorem dksX1_write_0 : cX1_write.data.toList.drop 0 = dktX1_write_0 := by decide +kernel
theorem dksX1_write_1 : cX1_write.data.toList.drop 22 = dktX1_write_1 := dk_seg dksX1_write_0 22 rfl rfl
theorem dksX1_write_2 : cX1_write.data.toList.drop 44 = dktX1_write_2 := dk_seg dksX1_write_1 22 rfl rfl
theorem dX1_write_0 : decode cX1_write 0 = .ok (.aload_n 0, 1) := dk_42 (dk_at dksX1_write_0 0 rfl rfl)
theorem dX1_write_1 : decode cX1_write 1 = .ok (.iload_n 1, 1) := dk_27 (dk_at dksX1_write_0 1 rfl rfl)
theorem dX1_write_2 : decode cX1_write 2 = .ok (.invokevirtual 169, 3) := dk_182 0 169 (dk_at dksX1_write_0 2 rfl rfl)
theorem dX1_write_5 : decode cX1_write 5 = .ok (.pop, 1) := dk_87 (dk_at dksX1_write_0 5 rfl rfl)
theorem dX1_write_6 : decode cX1_write 6 = .ok (.aload_n 0, 1) := dk_42 (dk_at dksX1_write_0 6 rfl rfl)
theorem dX1_write_7 : decode cX1_write 7 = .ok (.getfield 68, 3) := dk_180 0 68 (dk_at dksX1_write_0 7 rfl rfl)
theorem dX1_write_10 : decode cX1_write 10 = .ok (.aload_n 0, 1) := dk_42 (dk_at dksX1_write_0 10 rfl rfl)
theorem dX1_write_11 : decode cX1_write 11 = .ok (.getfield 54, 3) := dk_180 0 54 (dk_at dksX1_write_0 11 rfl rfl)
theorem dX1_write_14 : decode cX1_write 14 = .ok (.invokevirtual 206, 3) := dk_182 0 206 (dk_at dksX1_write_0 14 rfl rfl)
theorem dX1_write_17 : decode cX1_write 17 = .ok (.iload_n 1, 1) := dk_27 (dk_at dksX1_write_0 17 rfl rfl)
theorem dX1_write_18 : decode cX1_write 18 = .ok (.aload_n 0, 1) := dk_42 (dk_at dksX1_write_0 18 rfl rfl)
theorem dX1_write_19 : decode cX1_write 19 = .ok (.getfield 54, 3) := dk_180 0 54 (dk_at dksX1_write_0 19 rfl rfl)
theorem dX1_write_22 : decode cX1_write 22 = .ok (.getfield 193, 3) := dk_180 0 193 (dk_at dksX1_write_1 0 rfl rfl)
theorem dX1_write_25 : decode cX1_write 25 = .ok (.invokevirtual 243, 3) := dk_182 0 243 (dk_at dksX1_write_1 3 rfl rfl)
theorem dX1_write_28 : decode cX1_write 28 = .ok (.invokestatic 138, 3) := dk_184 0 138 (dk_at dksX1_write_1 6 rfl rfl)
theorem dX1_write_31 : decode cX1_write 31 = .ok (.aload_n 0, 1) := dk_42 (dk_at dksX1_write_1 9 rfl rfl)
theorem dX1_write_32 : decode cX1_write 32 = .ok (.invokevirtual 154, 3) := dk_182 0 154 (dk_at dksX1_write_1 10 rfl rfl)
theorem dX1_write_35 : decode cX1_write 35 = .ok (.aload_n 0, 1) := dk_42 (dk_at dksX1_write_1 13 rfl rfl)
theorem dX1_write_36 : decode cX1_write 36 = .ok (.getfield 68, 3) := dk_180 0 68 (dk_at dksX1_write_1 14 rfl rfl)
theorem dX1_write_39 : decode cX1_write 39 = .ok (.iload_n 1, 1) := dk_27 (dk_at dksX1_write_1 17 rfl rfl)
theorem dX1_write_40 : decode cX1_write 40 = .ok (.aload_n 0, 1) := dk_42 (dk_at dksX1_write_1 18 rfl rfl)
theorem dX1_write_41 : decode cX1_write 41 = .ok (.getfield 54, 3) := dk_180 0 54 (dk_at dksX1_write_1 19 rfl rfl)
theorem dX1_write_44 : decode cX1_write 44 = .ok (.getfield 193, 3) := dk_180 0 193 (dk_at dksX1_write_2 0 rfl rfl)
theorem dX1_write_47 : decode cX1_write 47 = .ok (.invokevirtual 251, 3) := dk_182 0 251 (dk_at dksX1_write_2 3 rfl rfl)
theorem dX1_write_50 : decode cX1_write 50 = .ok (.ireturn, 1) := dk_172 (dk_at dksX1_write_2 6 rfl rfl)
abbrev cX1_needed : ByteArray := prog_1_method_33_code
def yX1_needed : MethodName := ⟨RX1, "needed", "(I)I"⟩
def dkwX1_needed_4 : List UInt8 := [160, 0, 7, 4, 167, 0, 4, 3, 96, 62, 132, 4, 1, 167, 255, 182, 29, 172]
abbrev dktX1_needed_4 : List UInt8 := dkwX1_needed_4 ++ []
def dkwX1_needed_3 : List UInt8 := [21, 5, 153, 0, 28, 42, 180, 0, 68, 21, 4, 28, 4, 27, 120, 2, 130, 126, 182, 0, 213, 16, 100]
abbrev dktX1_needed_3 : List UInt8 := dkwX1_needed_3 ++ dktX1_needed_4
def dkwX1_needed_2 : List UInt8 := [42, 180, 0, 68, 21, 4, 28, 182, 0, 213, 16, 100, 162, 0, 7, 4, 167, 0, 4, 3, 54, 5, 29]
abbrev dktX1_needed_2 : List UInt8 := dkwX1_needed_2 ++ dktX1_needed_3
def dkwX1_needed_1 : List UInt8 := [182, 0, 210, 61, 3, 62, 3, 54, 4, 21, 4, 42, 180, 0, 54, 180, 0, 126, 182, 0, 109, 162, 0, 65]
abbrev dktX1_needed_1 : List UInt8 := dkwX1_needed_1 ++ dktX1_needed_2
def dkwX1_needed_0 : List UInt8 := [42, 27, 182, 0, 186, 87, 42, 180, 0, 68, 42, 180, 0, 54, 182, 0, 206, 87, 42, 180, 0, 54]
abbrev dktX1_needed_0 : List UInt8 := dkwX1_needed_0 ++ dktX1_needed_1
theorem dksX1_needed_0 : cX1_needed.data.toList.drop 0 = dktX1_needed_0 := by decide +kernel
theorem dksX1_needed_1 : cX1_needed.data.toList.drop 22 = dktX1_needed_1 := dk_seg dksX1_needed_0 22 rfl rfl
theorem dksX1_needed_2 : cX1_needed.data.toList.drop 46 = dktX1_needed_2 := dk_seg dksX1_needed_1 24 rfl rfl
theorem dksX1_needed_3 : cX1_needed.data.toList.drop 69 = dktX1_needed_3 := dk_seg dksX1_needed_2 23 rfl rfl
theorem dksX1_needed_4 : cX1_needed.data.toList.drop 92 = dktX1_needed_4 := dk_seg dksX1_needed_3 23 rfl rfl
theorem dX1_needed_0 : decode cX1_needed 0 = .ok (.aload_n 0, 1) := dk_42 (dk_at dksX1_needed_0 0 rfl rfl)
theorem dX1_needed_1 : decode cX1_needed 1 = .ok (.iload_n 1, 1) := dk_27 (dk_at dksX1_needed_0 1 rfl rfl)
theorem dX1_needed_2 : decode cX1_needed 2 = .ok (.invokevirtual 186, 3) := dk_182 0 186 (dk_at dksX1_needed_0 2 rfl rfl)
theorem dX1_needed_5 : decode cX1_needed 5 = .ok (.pop, 1) := dk_87 (dk_at dksX1_needed_0 5 rfl rfl)
theorem dX1_needed_6 : decode cX1_needed 6 = .ok (.aload_n 0, 1) := dk_42 (dk_at dksX1_needed_0 6 rfl rfl)
theorem dX1_needed_7 : decode cX1_needed 7 = .ok (.getfield 68, 3) := dk_180 0 68 (dk_at dksX1_needed_0 7 rfl rfl)
theorem dX1_needed_10 : decode cX1_needed 10 = .ok (.aload_n 0, 1) := dk_42 (dk_at dksX1_needed_0 10 rfl rfl)
theorem dX1_needed_11 : decode cX1_needed 11 = .ok (.getfield 54, 3) := dk_180 0 54 (dk_at dksX1_needed_0 11 rfl rfl)
theorem dX1_needed_14 : decode cX1_needed 14 = .ok (.invokevirtual 206, 3) := dk_182 0 206 (dk_at dksX1_needed_0 14 rfl rfl)
theorem dX1_needed_17 : decode cX1_needed 17 = .ok (.pop, 1) := dk_87 (dk_at dksX1_needed_0 17 rfl rfl)
theorem dX1_needed_18 : decode cX1_needed 18 = .ok (.aload_n 0, 1) := dk_42 (dk_at dksX1_needed_0 18 rfl rfl)
theorem dX1_needed_19 : decode cX1_needed 19 = .ok (.getfield 54, 3) := dk_180 0 54 (dk_at dksX1_needed_0 19 rfl rfl)
theorem dX1_needed_22 : decode cX1_needed 22 = .ok (.invokevirtual 210, 3) := dk_182 0 210 (dk_at dksX1_needed_1 0 rfl rfl)
theorem dX1_needed_25 : decode cX1_needed 25 = .ok (.istore_n 2, 1) := dk_61 (dk_at dksX1_needed_1 3 rfl rfl)
theorem dX1_needed_26 : decode cX1_needed 26 = .ok (.iconst 0, 1) := dk_3 (dk_at dksX1_needed_1 4 rfl rfl)
theorem dX1_needed_27 : decode cX1_needed 27 = .ok (.istore_n 3, 1) := dk_62 (dk_at dksX1_needed_1 5 rfl rfl)
theorem dX1_needed_28 : decode cX1_needed 28 = .ok (.iconst 0, 1) := dk_3 (dk_at dksX1_needed_1 6 rfl rfl)
theorem dX1_needed_29 : decode cX1_needed 29 = .ok (.istore 4, 2) := dk_54 4 (dk_at dksX1_needed_1 7 rfl rfl)
theorem dX1_needed_31 : decode cX1_needed 31 = .ok (.iload 4, 2) := dk_21 4 (dk_at dksX1_needed_1 9 rfl rfl)
theorem dX1_needed_33 : decode cX1_needed 33 = .ok (.aload_n 0, 1) := dk_42 (dk_at dksX1_needed_1 11 rfl rfl)
theorem dX1_needed_34 : decode cX1_needed 34 = .ok (.getfield 54, 3) := dk_180 0 54 (dk_at dksX1_needed_1 12 rfl rfl)
theorem dX1_needed_37 : decode cX1_needed 37 = .ok (.getfield 126, 3) := dk_180 0 126 (dk_at dksX1_needed_1 15 rfl rfl)
theorem dX1_needed_40 : decode cX1_needed 40 = .ok (.invokevirtual 109, 3) := dk_182 0 109 (dk_at dksX1_needed_1 18 rfl rfl)
theorem dX1_needed_43 : decode cX1_needed 43 = .ok (.if_icmp .ge 65, 3) := dk_162 0 65 (dk_at dksX1_needed_1 21 rfl rfl)
theorem dX1_needed_46 : decode cX1_needed 46 = .ok (.aload_n 0, 1) := dk_42 (dk_at dksX1_needed_2 0 rfl rfl)
theorem dX1_needed_47 : decode cX1_needed 47 = .ok (.getfield 68, 3) := dk_180 0 68 (dk_at dksX1_needed_2 1 rfl rfl)
theorem dX1_needed_50 : decode cX1_needed 50 = .ok (.iload 4, 2) := dk_21 4 (dk_at dksX1_needed_2 4 rfl rfl)
theorem dX1_needed_52 : decode cX1_needed 52 = .ok (.iload_n 2, 1) := dk_28 (dk_at dksX1_needed_2 6 rfl rfl)
theorem dX1_needed_53 : decode cX1_needed 53 = .ok (.invokevirtual 213, 3) := dk_182 0 213 (dk_at dksX1_needed_2 7 rfl rfl)
theorem dX1_needed_56 : decode cX1_needed 56 = .ok (.bipush 100, 2) := dk_16 100 (dk_at dksX1_needed_2 10 rfl rfl)
theorem dX1_needed_58 : decode cX1_needed 58 = .ok (.if_icmp .ge 7, 3) := dk_162 0 7 (dk_at dksX1_needed_2 12 rfl rfl)
theorem dX1_needed_61 : decode cX1_needed 61 = .ok (.iconst 1, 1) := dk_4 (dk_at dksX1_needed_2 15 rfl rfl)
theorem dX1_needed_62 : decode cX1_needed 62 = .ok (.goto 4, 3) := dk_167 0 4 (dk_at dksX1_needed_2 16 rfl rfl)
theorem dX1_needed_65 : decode cX1_needed 65 = .ok (.iconst 0, 1) := dk_3 (dk_at dksX1_needed_2 19 rfl rfl)
theorem dX1_needed_66 : decode cX1_needed 66 = .ok (.istore 5, 2) := dk_54 5 (dk_at dksX1_needed_2 20 rfl rfl)
theorem dX1_needed_68 : decode cX1_needed 68 = .ok (.iload_n 3, 1) := dk_29 (dk_at dksX1_needed_2 22 rfl rfl)
theorem dX1_needed_69 : decode cX1_needed 69 = .ok (.iload 5, 2) := dk_21 5 (dk_at dksX1_needed_3 0 rfl rfl)
theorem dX1_needed_71 : decode cX1_needed 71 = .ok (.ifCond .eq 28, 3) := dk_153 0 28 (dk_at dksX1_needed_3 2 rfl rfl)
theorem dX1_needed_74 : decode cX1_needed 74 = .ok (.aload_n 0, 1) := dk_42 (dk_at dksX1_needed_3 5 rfl rfl)
theorem dX1_needed_75 : decode cX1_needed 75 = .ok (.getfield 68, 3) := dk_180 0 68 (dk_at dksX1_needed_3 6 rfl rfl)
theorem dX1_needed_78 : decode cX1_needed 78 = .ok (.iload 4, 2) := dk_21 4 (dk_at dksX1_needed_3 9 rfl rfl)
theorem dX1_needed_80 : decode cX1_needed 80 = .ok (.iload_n 2, 1) := dk_28 (dk_at dksX1_needed_3 11 rfl rfl)
theorem dX1_needed_81 : decode cX1_needed 81 = .ok (.iconst 1, 1) := dk_4 (dk_at dksX1_needed_3 12 rfl rfl)
theorem dX1_needed_82 : decode cX1_needed 82 = .ok (.iload_n 1, 1) := dk_27 (dk_at dksX1_needed_3 13 rfl rfl)
theorem dX1_needed_83 : decode cX1_needed 83 = .ok (.ishl, 1) := dk_120 (dk_at dksX1_needed_3 14 rfl rfl)
theorem dX1_needed_84 : decode cX1_needed 84 = .ok (.iconst (-1), 1) := dk_2 (dk_at dksX1_needed_3 15 rfl rfl)
theorem dX1_needed_85 : decode cX1_needed 85 = .ok (.ixor, 1) := dk_130 (dk_at dksX1_needed_3 16 rfl rfl)
theorem dX1_needed_86 : decode cX1_needed 86 = .ok (.iand, 1) := dk_126 (dk_at dksX1_needed_3 17 rfl rfl)
theorem dX1_needed_87 : decode cX1_needed 87 = .ok (.invokevirtual 213, 3) := dk_182 0 213 (dk_at dksX1_needed_3 18 rfl rfl)
theorem dX1_needed_90 : decode cX1_needed 90 = .ok (.bipush 100, 2) := dk_16 100 (dk_at dksX1_needed_3 21 rfl rfl)
theorem dX1_needed_92 : decode cX1_needed 92 = .ok (.if_icmp .ne 7, 3) := dk_160 0 7 (dk_at dksX1_needed_4 0 rfl rfl)
theorem dX1_needed_95 : decode cX1_needed 95 = .ok (.iconst 1, 1) := dk_4 (dk_at dksX1_needed_4 3 rfl rfl)
theorem dX1_needed_96 : decode cX1_needed 96 = .ok (.goto 4, 3) := dk_167 0 4 (dk_at dksX1_needed_4 4 rfl rfl)
theorem dX1_needed_99 : decode cX1_needed 99 = .ok (.iconst 0, 1) := dk_3 (dk_at dksX1_needed_4 7 rfl rfl)
theorem dX1_needed_100 : decode cX1_needed 100 = .ok (.iadd, 1) := dk_96 (dk_at dksX1_needed_4 8 rfl rfl)
theorem dX1_needed_101 : decode cX1_needed 101 = .ok (.istore_n 3, 1) := dk_62 (dk_at dksX1_needed_4 9 rfl rfl)
theorem dX1_needed_102 : decode cX1_needed 102 = .ok (.iinc 4 1, 3) := dk_132 4 1 (dk_at dksX1_needed_4 10 rfl rfl)
theorem dX1_needed_105 : decode cX1_needed 105 = .ok (.goto (-74), 3) := dk_167 255 182 (dk_at dksX1_needed_4 13 rfl rfl)
theorem dX1_needed_108 : decode cX1_needed 108 = .ok (.iload_n 3, 1) := dk_29 (dk_at dksX1_needed_4 16 rfl rfl)
theorem dX1_needed_109 : decode cX1_needed 109 = .ok (.ireturn, 1) := dk_172 (dk_at dksX1_needed_4 17 rfl rfl)
abbrev cX1_order : ByteArray := prog_1_method_34_code
def yX1_order : MethodName := ⟨RX1, "order", "(I)I"⟩
def dkwX1_order_1 : List UInt8 := [42, 180, 0, 54, 182, 1, 18, 184, 0, 138, 42, 180, 0, 75, 180, 1, 22, 27, 46, 172]
abbrev dktX1_order_1 : List UInt8 := dkwX1_order_1 ++ []
def dkwX1_order_0 : List UInt8 := [27, 3, 42, 180, 0, 54, 180, 0, 126, 182, 0, 109, 4, 100, 184, 0, 112, 184, 0, 116, 42, 180, 0, 75]
abbrev dktX1_order_0 : List UInt8 := dkwX1_order_0 ++ dktX1_order_1
theorem dksX1_order_0 : cX1_order.data.toList.drop 0 = dktX1_order_0 := by decide +kernel
theorem dksX1_order_1 : cX1_order.data.toList.drop 24 = dktX1_order_1 := dk_seg dksX1_order_0 24 rfl rfl
theorem dX1_order_0 : decode cX1_order 0 = .ok (.iload_n 1, 1) := dk_27 (dk_at dksX1_order_0 0 rfl rfl)
theorem dX1_order_1 : decode cX1_order 1 = .ok (.iconst 0, 1) := dk_3 (dk_at dksX1_order_0 1 rfl rfl)
theorem dX1_order_2 : decode cX1_order 2 = .ok (.aload_n 0, 1) := dk_42 (dk_at dksX1_order_0 2 rfl rfl)
theorem dX1_order_3 : decode cX1_order 3 = .ok (.getfield 54, 3) := dk_180 0 54 (dk_at dksX1_order_0 3 rfl rfl)
theorem dX1_order_6 : decode cX1_order 6 = .ok (.getfield 126, 3) := dk_180 0 126 (dk_at dksX1_order_0 6 rfl rfl)
theorem dX1_order_9 : decode cX1_order 9 = .ok (.invokevirtual 109, 3) := dk_182 0 109 (dk_at dksX1_order_0 9 rfl rfl)
theorem dX1_order_12 : decode cX1_order 12 = .ok (.iconst 1, 1) := dk_4 (dk_at dksX1_order_0 12 rfl rfl)
theorem dX1_order_13 : decode cX1_order 13 = .ok (.isub, 1) := dk_100 (dk_at dksX1_order_0 13 rfl rfl)
theorem dX1_order_14 : decode cX1_order 14 = .ok (.invokestatic 112, 3) := dk_184 0 112 (dk_at dksX1_order_0 14 rfl rfl)
theorem dX1_order_17 : decode cX1_order 17 = .ok (.invokestatic 116, 3) := dk_184 0 116 (dk_at dksX1_order_0 17 rfl rfl)
theorem dX1_order_20 : decode cX1_order 20 = .ok (.aload_n 0, 1) := dk_42 (dk_at dksX1_order_0 20 rfl rfl)
theorem dX1_order_21 : decode cX1_order 21 = .ok (.getfield 75, 3) := dk_180 0 75 (dk_at dksX1_order_0 21 rfl rfl)
theorem dX1_order_24 : decode cX1_order 24 = .ok (.aload_n 0, 1) := dk_42 (dk_at dksX1_order_1 0 rfl rfl)
theorem dX1_order_25 : decode cX1_order 25 = .ok (.getfield 54, 3) := dk_180 0 54 (dk_at dksX1_order_1 1 rfl rfl)
theorem dX1_order_28 : decode cX1_order 28 = .ok (.invokevirtual 274, 3) := dk_182 1 18 (dk_at dksX1_order_1 4 rfl rfl)
theorem dX1_order_31 : decode cX1_order 31 = .ok (.invokestatic 138, 3) := dk_184 0 138 (dk_at dksX1_order_1 7 rfl rfl)
theorem dX1_order_34 : decode cX1_order 34 = .ok (.aload_n 0, 1) := dk_42 (dk_at dksX1_order_1 10 rfl rfl)
theorem dX1_order_35 : decode cX1_order 35 = .ok (.getfield 75, 3) := dk_180 0 75 (dk_at dksX1_order_1 11 rfl rfl)
theorem dX1_order_38 : decode cX1_order 38 = .ok (.getfield 278, 3) := dk_180 1 22 (dk_at dksX1_order_1 14 rfl rfl)
theorem dX1_order_41 : decode cX1_order 41 = .ok (.iload_n 1, 1) := dk_27 (dk_at dksX1_order_1 17 rfl rfl)
theorem dX1_order_42 : decode cX1_order 42 = .ok (.iaload, 1) := dk_46 (dk_at dksX1_order_1 18 rfl rfl)
theorem dX1_order_43 : decode cX1_order 43 = .ok (.ireturn, 1) := dk_172 (dk_at dksX1_order_1 19 rfl rfl)
abbrev cX1_bestCut : ByteArray := prog_1_method_36_code
def yX1_bestCut : MethodName := ⟨RX1, "bestCut", "(II)I"⟩
def dkwX1_bestCut_13 : List UInt8 := [21, 6, 16, 8, 108, 16, 12, 112, 167, 0, 8, 21, 6, 16, 8, 112, 172]
abbrev dktX1_bestCut_13 : List UInt8 := dkwX1_bestCut_13 ++ []
def dkwX1_bestCut_12 : List UInt8 := [21, 7, 172, 27, 154, 0, 14, 21, 6, 16, 8, 108, 16, 12, 108, 167, 0, 24, 27, 4, 160, 0, 14]
abbrev dktX1_bestCut_12 : List UInt8 := dkwX1_bestCut_12 ++ dktX1_bestCut_13
def dkwX1_bestCut_11 : List UInt8 := [132, 10, 1, 167, 255, 122, 132, 8, 1, 167, 255, 78, 21, 6, 2, 159, 0, 8, 27, 6, 160, 0, 6]
abbrev dktX1_bestCut_11 : List UInt8 := dkwX1_bestCut_11 ++ dktX1_bestCut_12
def dkwX1_bestCut_10 : List UInt8 := [104, 21, 12, 96, 21, 11, 100, 167, 0, 5, 21, 6, 54, 6, 21, 7, 21, 14, 184, 1, 40, 54, 7]
abbrev dktX1_bestCut_10 : List UInt8 := dkwX1_bestCut_10 ++ dktX1_bestCut_11
def dkwX1_bestCut_9 : List UInt8 := [180, 0, 68, 29, 182, 1, 37, 21, 14, 21, 7, 164, 0, 23, 21, 8, 16, 12, 104, 21, 11, 96, 16, 8]
abbrev dktX1_bestCut_9 : List UInt8 := dkwX1_bestCut_9 ++ dktX1_bestCut_10
def dkwX1_bestCut_8 : List UInt8 := [182, 1, 34, 21, 5, 42, 180, 0, 68, 21, 4, 4, 29, 120, 128, 182, 1, 28, 100, 54, 14, 42]
abbrev dktX1_bestCut_8 : List UInt8 := dkwX1_bestCut_8 ++ dktX1_bestCut_9
def dkwX1_bestCut_7 : List UInt8 := [25, 9, 21, 11, 21, 12, 182, 0, 177, 58, 13, 42, 180, 0, 68, 29, 25, 13, 25, 13, 184, 1, 31]
abbrev dktX1_bestCut_7 : List UInt8 := dkwX1_bestCut_7 ++ dktX1_bestCut_8
def dkwX1_bestCut_6 : List UInt8 := [54, 11, 21, 11, 21, 10, 28, 112, 96, 4, 96, 54, 12, 21, 12, 25, 9, 182, 0, 24, 163, 0, 95]
abbrev dktX1_bestCut_6 : List UInt8 := dkwX1_bestCut_6 ++ dktX1_bestCut_7
def dkwX1_bestCut_5 : List UInt8 := [180, 0, 173, 58, 9, 3, 54, 10, 21, 10, 25, 9, 182, 0, 24, 28, 104, 162, 0, 128, 21, 10, 28, 108]
abbrev dktX1_bestCut_5 : List UInt8 := dkwX1_bestCut_5 ++ dktX1_bestCut_6
def dkwX1_bestCut_4 : List UInt8 := [180, 0, 126, 182, 0, 109, 162, 0, 169, 42, 180, 0, 54, 180, 0, 126, 21, 8, 182, 0, 120, 192, 0, 129]
abbrev dktX1_bestCut_4 : List UInt8 := dkwX1_bestCut_4 ++ dktX1_bestCut_5
def dkwX1_bestCut_3 : List UInt8 := [21, 4, 182, 1, 28, 54, 5, 2, 54, 6, 2, 54, 7, 3, 54, 8, 21, 8, 42, 180, 0, 54]
abbrev dktX1_bestCut_3 : List UInt8 := dkwX1_bestCut_3 ++ dktX1_bestCut_4
def dkwX1_bestCut_2 : List UInt8 := [180, 0, 68, 42, 180, 0, 54, 182, 0, 206, 87, 42, 180, 0, 54, 182, 0, 210, 54, 4, 42, 180, 0, 68]
abbrev dktX1_bestCut_2 : List UInt8 := dkwX1_bestCut_2 ++ dktX1_bestCut_3
def dkwX1_bestCut_1 : List UInt8 := [184, 0, 131, 42, 180, 0, 54, 180, 0, 105, 182, 0, 109, 62, 29, 16, 10, 160, 0, 5, 2, 172, 42]
abbrev dktX1_bestCut_1 : List UInt8 := dkwX1_bestCut_1 ++ dktX1_bestCut_2
def dkwX1_bestCut_0 : List UInt8 := [27, 3, 6, 184, 0, 112, 153, 0, 16, 28, 4, 8, 184, 0, 112, 153, 0, 7, 4, 167, 0, 4, 3]
abbrev dktX1_bestCut_0 : List UInt8 := dkwX1_bestCut_0 ++ dktX1_bestCut_1
theorem dksX1_bestCut_0 : cX1_bestCut.data.toList.drop 0 = dktX1_bestCut_0 := by decide +kernel
theorem dksX1_bestCut_1 : cX1_bestCut.data.toList.drop 23 = dktX1_bestCut_1 := dk_seg dksX1_bestCut_0 23 rfl rfl
theorem dksX1_bestCut_2 : cX1_bestCut.data.toList.drop 46 = dktX1_bestCut_2 := dk_seg dksX1_bestCut_1 23 rfl rfl
theorem dksX1_bestCut_3 : cX1_bestCut.data.toList.drop 70 = dktX1_bestCut_3 := dk_seg dksX1_bestCut_2 24 rfl rfl
theorem dksX1_bestCut_4 : cX1_bestCut.data.toList.drop 92 = dktX1_bestCut_4 := dk_seg dksX1_bestCut_3 22 rfl rfl
theorem dksX1_bestCut_5 : cX1_bestCut.data.toList.drop 116 = dktX1_bestCut_5 := dk_seg dksX1_bestCut_4 24 rfl rfl
theorem dksX1_bestCut_6 : cX1_bestCut.data.toList.drop 140 = dktX1_bestCut_6 := dk_seg dksX1_bestCut_5 24 rfl rfl
theorem dksX1_bestCut_7 : cX1_bestCut.data.toList.drop 163 = dktX1_bestCut_7 := dk_seg dksX1_bestCut_6 23 rfl rfl
theorem dksX1_bestCut_8 : cX1_bestCut.data.toList.drop 186 = dktX1_bestCut_8 := dk_seg dksX1_bestCut_7 23 rfl rfl
theorem dksX1_bestCut_9 : cX1_bestCut.data.toList.drop 208 = dktX1_bestCut_9 := dk_seg dksX1_bestCut_8 22 rfl rfl
theorem dksX1_bestCut_10 : cX1_bestCut.data.toList.drop 232 = dktX1_bestCut_10 := dk_seg dksX1_bestCut_9 24 rfl rfl
theorem dksX1_bestCut_11 : cX1_bestCut.data.toList.drop 255 = dktX1_bestCut_11 := dk_seg dksX1_bestCut_10 23 rfl rfl
theorem dksX1_bestCut_12 : cX1_bestCut.data.toList.drop 278 = dktX1_bestCut_12 := dk_seg dksX1_bestCut_11 23 rfl rfl
theorem dksX1_bestCut_13 : cX1_bestCut.data.toList.drop 301 = dktX1_bestCut_13 := dk_seg dksX1_bestCut_12 23 rfl rfl
theorem dX1_bestCut_0 : decode cX1_bestCut 0 = .ok (.iload_n 1, 1) := dk_27 (dk_at dksX1_bestCut_0 0 rfl rfl)
theorem dX1_bestCut_1 : decode cX1_bestCut 1 = .ok (.iconst 0, 1) := dk_3 (dk_at dksX1_bestCut_0 1 rfl rfl)
theorem dX1_bestCut_2 : decode cX1_bestCut 2 = .ok (.iconst 3, 1) := dk_6 (dk_at dksX1_bestCut_0 2 rfl rfl)
theorem dX1_bestCut_3 : decode cX1_bestCut 3 = .ok (.invokestatic 112, 3) := dk_184 0 112 (dk_at dksX1_bestCut_0 3 rfl rfl)
theorem dX1_bestCut_6 : decode cX1_bestCut 6 = .ok (.ifCond .eq 16, 3) := dk_153 0 16 (dk_at dksX1_bestCut_0 6 rfl rfl)
theorem dX1_bestCut_9 : decode cX1_bestCut 9 = .ok (.iload_n 2, 1) := dk_28 (dk_at dksX1_bestCut_0 9 rfl rfl)
theorem dX1_bestCut_10 : decode cX1_bestCut 10 = .ok (.iconst 1, 1) := dk_4 (dk_at dksX1_bestCut_0 10 rfl rfl)
theorem dX1_bestCut_11 : decode cX1_bestCut 11 = .ok (.iconst 5, 1) := dk_8 (dk_at dksX1_bestCut_0 11 rfl rfl)
theorem dX1_bestCut_12 : decode cX1_bestCut 12 = .ok (.invokestatic 112, 3) := dk_184 0 112 (dk_at dksX1_bestCut_0 12 rfl rfl)
theorem dX1_bestCut_15 : decode cX1_bestCut 15 = .ok (.ifCond .eq 7, 3) := dk_153 0 7 (dk_at dksX1_bestCut_0 15 rfl rfl)
theorem dX1_bestCut_18 : decode cX1_bestCut 18 = .ok (.iconst 1, 1) := dk_4 (dk_at dksX1_bestCut_0 18 rfl rfl)
theorem dX1_bestCut_19 : decode cX1_bestCut 19 = .ok (.goto 4, 3) := dk_167 0 4 (dk_at dksX1_bestCut_0 19 rfl rfl)
theorem dX1_bestCut_22 : decode cX1_bestCut 22 = .ok (.iconst 0, 1) := dk_3 (dk_at dksX1_bestCut_0 22 rfl rfl)
theorem dX1_bestCut_23 : decode cX1_bestCut 23 = .ok (.invokestatic 131, 3) := dk_184 0 131 (dk_at dksX1_bestCut_1 0 rfl rfl)
theorem dX1_bestCut_26 : decode cX1_bestCut 26 = .ok (.aload_n 0, 1) := dk_42 (dk_at dksX1_bestCut_1 3 rfl rfl)
theorem dX1_bestCut_27 : decode cX1_bestCut 27 = .ok (.getfield 54, 3) := dk_180 0 54 (dk_at dksX1_bestCut_1 4 rfl rfl)
theorem dX1_bestCut_30 : decode cX1_bestCut 30 = .ok (.getfield 105, 3) := dk_180 0 105 (dk_at dksX1_bestCut_1 7 rfl rfl)
theorem dX1_bestCut_33 : decode cX1_bestCut 33 = .ok (.invokevirtual 109, 3) := dk_182 0 109 (dk_at dksX1_bestCut_1 10 rfl rfl)
theorem dX1_bestCut_36 : decode cX1_bestCut 36 = .ok (.istore_n 3, 1) := dk_62 (dk_at dksX1_bestCut_1 13 rfl rfl)
theorem dX1_bestCut_37 : decode cX1_bestCut 37 = .ok (.iload_n 3, 1) := dk_29 (dk_at dksX1_bestCut_1 14 rfl rfl)
theorem dX1_bestCut_38 : decode cX1_bestCut 38 = .ok (.bipush 10, 2) := dk_16 10 (dk_at dksX1_bestCut_1 15 rfl rfl)
theorem dX1_bestCut_40 : decode cX1_bestCut 40 = .ok (.if_icmp .ne 5, 3) := dk_160 0 5 (dk_at dksX1_bestCut_1 17 rfl rfl)
theorem dX1_bestCut_43 : decode cX1_bestCut 43 = .ok (.iconst (-1), 1) := dk_2 (dk_at dksX1_bestCut_1 20 rfl rfl)
theorem dX1_bestCut_44 : decode cX1_bestCut 44 = .ok (.ireturn, 1) := dk_172 (dk_at dksX1_bestCut_1 21 rfl rfl)
theorem dX1_bestCut_45 : decode cX1_bestCut 45 = .ok (.aload_n 0, 1) := dk_42 (dk_at dksX1_bestCut_1 22 rfl rfl)
theorem dX1_bestCut_46 : decode cX1_bestCut 46 = .ok (.getfield 68, 3) := dk_180 0 68 (dk_at dksX1_bestCut_2 0 rfl rfl)
theorem dX1_bestCut_49 : decode cX1_bestCut 49 = .ok (.aload_n 0, 1) := dk_42 (dk_at dksX1_bestCut_2 3 rfl rfl)
theorem dX1_bestCut_50 : decode cX1_bestCut 50 = .ok (.getfield 54, 3) := dk_180 0 54 (dk_at dksX1_bestCut_2 4 rfl rfl)
theorem dX1_bestCut_53 : decode cX1_bestCut 53 = .ok (.invokevirtual 206, 3) := dk_182 0 206 (dk_at dksX1_bestCut_2 7 rfl rfl)
theorem dX1_bestCut_56 : decode cX1_bestCut 56 = .ok (.pop, 1) := dk_87 (dk_at dksX1_bestCut_2 10 rfl rfl)
theorem dX1_bestCut_57 : decode cX1_bestCut 57 = .ok (.aload_n 0, 1) := dk_42 (dk_at dksX1_bestCut_2 11 rfl rfl)
theorem dX1_bestCut_58 : decode cX1_bestCut 58 = .ok (.getfield 54, 3) := dk_180 0 54 (dk_at dksX1_bestCut_2 12 rfl rfl)
theorem dX1_bestCut_61 : decode cX1_bestCut 61 = .ok (.invokevirtual 210, 3) := dk_182 0 210 (dk_at dksX1_bestCut_2 15 rfl rfl)
theorem dX1_bestCut_64 : decode cX1_bestCut 64 = .ok (.istore 4, 2) := dk_54 4 (dk_at dksX1_bestCut_2 18 rfl rfl)
theorem dX1_bestCut_66 : decode cX1_bestCut 66 = .ok (.aload_n 0, 1) := dk_42 (dk_at dksX1_bestCut_2 20 rfl rfl)
theorem dX1_bestCut_67 : decode cX1_bestCut 67 = .ok (.getfield 68, 3) := dk_180 0 68 (dk_at dksX1_bestCut_2 21 rfl rfl)
theorem dX1_bestCut_70 : decode cX1_bestCut 70 = .ok (.iload 4, 2) := dk_21 4 (dk_at dksX1_bestCut_3 0 rfl rfl)
theorem dX1_bestCut_72 : decode cX1_bestCut 72 = .ok (.invokevirtual 284, 3) := dk_182 1 28 (dk_at dksX1_bestCut_3 2 rfl rfl)
theorem dX1_bestCut_75 : decode cX1_bestCut 75 = .ok (.istore 5, 2) := dk_54 5 (dk_at dksX1_bestCut_3 5 rfl rfl)
theorem dX1_bestCut_77 : decode cX1_bestCut 77 = .ok (.iconst (-1), 1) := dk_2 (dk_at dksX1_bestCut_3 7 rfl rfl)
theorem dX1_bestCut_78 : decode cX1_bestCut 78 = .ok (.istore 6, 2) := dk_54 6 (dk_at dksX1_bestCut_3 8 rfl rfl)
theorem dX1_bestCut_80 : decode cX1_bestCut 80 = .ok (.iconst (-1), 1) := dk_2 (dk_at dksX1_bestCut_3 10 rfl rfl)
theorem dX1_bestCut_81 : decode cX1_bestCut 81 = .ok (.istore 7, 2) := dk_54 7 (dk_at dksX1_bestCut_3 11 rfl rfl)
theorem dX1_bestCut_83 : decode cX1_bestCut 83 = .ok (.iconst 0, 1) := dk_3 (dk_at dksX1_bestCut_3 13 rfl rfl)
theorem dX1_bestCut_84 : decode cX1_bestCut 84 = .ok (.istore 8, 2) := dk_54 8 (dk_at dksX1_bestCut_3 14 rfl rfl)
theorem dX1_bestCut_86 : decode cX1_bestCut 86 = .ok (.iload 8, 2) := dk_21 8 (dk_at dksX1_bestCut_3 16 rfl rfl)
theorem dX1_bestCut_88 : decode cX1_bestCut 88 = .ok (.aload_n 0, 1) := dk_42 (dk_at dksX1_bestCut_3 18 rfl rfl)
theorem dX1_bestCut_89 : decode cX1_bestCut 89 = .ok (.getfield 54, 3) := dk_180 0 54 (dk_at dksX1_bestCut_3 19 rfl rfl)
theorem dX1_bestCut_92 : decode cX1_bestCut 92 = .ok (.getfield 126, 3) := dk_180 0 126 (dk_at dksX1_bestCut_4 0 rfl rfl)
theorem dX1_bestCut_95 : decode cX1_bestCut 95 = .ok (.invokevirtual 109, 3) := dk_182 0 109 (dk_at dksX1_bestCut_4 3 rfl rfl)
theorem dX1_bestCut_98 : decode cX1_bestCut 98 = .ok (.if_icmp .ge 169, 3) := dk_162 0 169 (dk_at dksX1_bestCut_4 6 rfl rfl)
theorem dX1_bestCut_101 : decode cX1_bestCut 101 = .ok (.aload_n 0, 1) := dk_42 (dk_at dksX1_bestCut_4 9 rfl rfl)
theorem dX1_bestCut_102 : decode cX1_bestCut 102 = .ok (.getfield 54, 3) := dk_180 0 54 (dk_at dksX1_bestCut_4 10 rfl rfl)
theorem dX1_bestCut_105 : decode cX1_bestCut 105 = .ok (.getfield 126, 3) := dk_180 0 126 (dk_at dksX1_bestCut_4 13 rfl rfl)
theorem dX1_bestCut_108 : decode cX1_bestCut 108 = .ok (.iload 8, 2) := dk_21 8 (dk_at dksX1_bestCut_4 16 rfl rfl)
theorem dX1_bestCut_110 : decode cX1_bestCut 110 = .ok (.invokevirtual 120, 3) := dk_182 0 120 (dk_at dksX1_bestCut_4 18 rfl rfl)
theorem dX1_bestCut_113 : decode cX1_bestCut 113 = .ok (.checkcast 129, 3) := dk_192 0 129 (dk_at dksX1_bestCut_4 21 rfl rfl)
theorem dX1_bestCut_116 : decode cX1_bestCut 116 = .ok (.getfield 173, 3) := dk_180 0 173 (dk_at dksX1_bestCut_5 0 rfl rfl)
theorem dX1_bestCut_119 : decode cX1_bestCut 119 = .ok (.astore 9, 2) := dk_58 9 (dk_at dksX1_bestCut_5 3 rfl rfl)
theorem dX1_bestCut_121 : decode cX1_bestCut 121 = .ok (.iconst 0, 1) := dk_3 (dk_at dksX1_bestCut_5 5 rfl rfl)
theorem dX1_bestCut_122 : decode cX1_bestCut 122 = .ok (.istore 10, 2) := dk_54 10 (dk_at dksX1_bestCut_5 6 rfl rfl)
theorem dX1_bestCut_124 : decode cX1_bestCut 124 = .ok (.iload 10, 2) := dk_21 10 (dk_at dksX1_bestCut_5 8 rfl rfl)
theorem dX1_bestCut_126 : decode cX1_bestCut 126 = .ok (.aload 9, 2) := dk_25 9 (dk_at dksX1_bestCut_5 10 rfl rfl)
theorem dX1_bestCut_128 : decode cX1_bestCut 128 = .ok (.invokevirtual 24, 3) := dk_182 0 24 (dk_at dksX1_bestCut_5 12 rfl rfl)
theorem dX1_bestCut_131 : decode cX1_bestCut 131 = .ok (.iload_n 2, 1) := dk_28 (dk_at dksX1_bestCut_5 15 rfl rfl)
theorem dX1_bestCut_132 : decode cX1_bestCut 132 = .ok (.imul, 1) := dk_104 (dk_at dksX1_bestCut_5 16 rfl rfl)
theorem dX1_bestCut_133 : decode cX1_bestCut 133 = .ok (.if_icmp .ge 128, 3) := dk_162 0 128 (dk_at dksX1_bestCut_5 17 rfl rfl)
theorem dX1_bestCut_136 : decode cX1_bestCut 136 = .ok (.iload 10, 2) := dk_21 10 (dk_at dksX1_bestCut_5 20 rfl rfl)
theorem dX1_bestCut_138 : decode cX1_bestCut 138 = .ok (.iload_n 2, 1) := dk_28 (dk_at dksX1_bestCut_5 22 rfl rfl)
theorem dX1_bestCut_139 : decode cX1_bestCut 139 = .ok (.idiv, 1) := dk_108 (dk_at dksX1_bestCut_5 23 rfl rfl)
theorem dX1_bestCut_140 : decode cX1_bestCut 140 = .ok (.istore 11, 2) := dk_54 11 (dk_at dksX1_bestCut_6 0 rfl rfl)
theorem dX1_bestCut_142 : decode cX1_bestCut 142 = .ok (.iload 11, 2) := dk_21 11 (dk_at dksX1_bestCut_6 2 rfl rfl)
theorem dX1_bestCut_144 : decode cX1_bestCut 144 = .ok (.iload 10, 2) := dk_21 10 (dk_at dksX1_bestCut_6 4 rfl rfl)
theorem dX1_bestCut_146 : decode cX1_bestCut 146 = .ok (.iload_n 2, 1) := dk_28 (dk_at dksX1_bestCut_6 6 rfl rfl)
theorem dX1_bestCut_147 : decode cX1_bestCut 147 = .ok (.irem, 1) := dk_112 (dk_at dksX1_bestCut_6 7 rfl rfl)
theorem dX1_bestCut_148 : decode cX1_bestCut 148 = .ok (.iadd, 1) := dk_96 (dk_at dksX1_bestCut_6 8 rfl rfl)
theorem dX1_bestCut_149 : decode cX1_bestCut 149 = .ok (.iconst 1, 1) := dk_4 (dk_at dksX1_bestCut_6 9 rfl rfl)
theorem dX1_bestCut_150 : decode cX1_bestCut 150 = .ok (.iadd, 1) := dk_96 (dk_at dksX1_bestCut_6 10 rfl rfl)
theorem dX1_bestCut_151 : decode cX1_bestCut 151 = .ok (.istore 12, 2) := dk_54 12 (dk_at dksX1_bestCut_6 11 rfl rfl)
theorem dX1_bestCut_153 : decode cX1_bestCut 153 = .ok (.iload 12, 2) := dk_21 12 (dk_at dksX1_bestCut_6 13 rfl rfl)
theorem dX1_bestCut_155 : decode cX1_bestCut 155 = .ok (.aload 9, 2) := dk_25 9 (dk_at dksX1_bestCut_6 15 rfl rfl)
theorem dX1_bestCut_157 : decode cX1_bestCut 157 = .ok (.invokevirtual 24, 3) := dk_182 0 24 (dk_at dksX1_bestCut_6 17 rfl rfl)
theorem dX1_bestCut_160 : decode cX1_bestCut 160 = .ok (.if_icmp .gt 95, 3) := dk_163 0 95 (dk_at dksX1_bestCut_6 20 rfl rfl)
theorem dX1_bestCut_163 : decode cX1_bestCut 163 = .ok (.aload 9, 2) := dk_25 9 (dk_at dksX1_bestCut_7 0 rfl rfl)
theorem dX1_bestCut_165 : decode cX1_bestCut 165 = .ok (.iload 11, 2) := dk_21 11 (dk_at dksX1_bestCut_7 2 rfl rfl)
theorem dX1_bestCut_167 : decode cX1_bestCut 167 = .ok (.iload 12, 2) := dk_21 12 (dk_at dksX1_bestCut_7 4 rfl rfl)
theorem dX1_bestCut_169 : decode cX1_bestCut 169 = .ok (.invokevirtual 177, 3) := dk_182 0 177 (dk_at dksX1_bestCut_7 6 rfl rfl)
theorem dX1_bestCut_172 : decode cX1_bestCut 172 = .ok (.astore 13, 2) := dk_58 13 (dk_at dksX1_bestCut_7 9 rfl rfl)
theorem dX1_bestCut_174 : decode cX1_bestCut 174 = .ok (.aload_n 0, 1) := dk_42 (dk_at dksX1_bestCut_7 11 rfl rfl)
theorem dX1_bestCut_175 : decode cX1_bestCut 175 = .ok (.getfield 68, 3) := dk_180 0 68 (dk_at dksX1_bestCut_7 12 rfl rfl)
theorem dX1_bestCut_178 : decode cX1_bestCut 178 = .ok (.iload_n 3, 1) := dk_29 (dk_at dksX1_bestCut_7 15 rfl rfl)
theorem dX1_bestCut_179 : decode cX1_bestCut 179 = .ok (.aload 13, 2) := dk_25 13 (dk_at dksX1_bestCut_7 16 rfl rfl)
theorem dX1_bestCut_181 : decode cX1_bestCut 181 = .ok (.aload 13, 2) := dk_25 13 (dk_at dksX1_bestCut_7 18 rfl rfl)
theorem dX1_bestCut_183 : decode cX1_bestCut 183 = .ok (.invokestatic 287, 3) := dk_184 1 31 (dk_at dksX1_bestCut_7 20 rfl rfl)
theorem dX1_bestCut_186 : decode cX1_bestCut 186 = .ok (.invokevirtual 290, 3) := dk_182 1 34 (dk_at dksX1_bestCut_8 0 rfl rfl)
theorem dX1_bestCut_189 : decode cX1_bestCut 189 = .ok (.iload 5, 2) := dk_21 5 (dk_at dksX1_bestCut_8 3 rfl rfl)
theorem dX1_bestCut_191 : decode cX1_bestCut 191 = .ok (.aload_n 0, 1) := dk_42 (dk_at dksX1_bestCut_8 5 rfl rfl)
theorem dX1_bestCut_192 : decode cX1_bestCut 192 = .ok (.getfield 68, 3) := dk_180 0 68 (dk_at dksX1_bestCut_8 6 rfl rfl)
theorem dX1_bestCut_195 : decode cX1_bestCut 195 = .ok (.iload 4, 2) := dk_21 4 (dk_at dksX1_bestCut_8 9 rfl rfl)
theorem dX1_bestCut_197 : decode cX1_bestCut 197 = .ok (.iconst 1, 1) := dk_4 (dk_at dksX1_bestCut_8 11 rfl rfl)
theorem dX1_bestCut_198 : decode cX1_bestCut 198 = .ok (.iload_n 3, 1) := dk_29 (dk_at dksX1_bestCut_8 12 rfl rfl)
theorem dX1_bestCut_199 : decode cX1_bestCut 199 = .ok (.ishl, 1) := dk_120 (dk_at dksX1_bestCut_8 13 rfl rfl)
theorem dX1_bestCut_200 : decode cX1_bestCut 200 = .ok (.ior, 1) := dk_128 (dk_at dksX1_bestCut_8 14 rfl rfl)
theorem dX1_bestCut_201 : decode cX1_bestCut 201 = .ok (.invokevirtual 284, 3) := dk_182 1 28 (dk_at dksX1_bestCut_8 15 rfl rfl)
theorem dX1_bestCut_204 : decode cX1_bestCut 204 = .ok (.isub, 1) := dk_100 (dk_at dksX1_bestCut_8 18 rfl rfl)
theorem dX1_bestCut_205 : decode cX1_bestCut 205 = .ok (.istore 14, 2) := dk_54 14 (dk_at dksX1_bestCut_8 19 rfl rfl)
theorem dX1_bestCut_207 : decode cX1_bestCut 207 = .ok (.aload_n 0, 1) := dk_42 (dk_at dksX1_bestCut_8 21 rfl rfl)
theorem dX1_bestCut_208 : decode cX1_bestCut 208 = .ok (.getfield 68, 3) := dk_180 0 68 (dk_at dksX1_bestCut_9 0 rfl rfl)
theorem dX1_bestCut_211 : decode cX1_bestCut 211 = .ok (.iload_n 3, 1) := dk_29 (dk_at dksX1_bestCut_9 3 rfl rfl)
theorem dX1_bestCut_212 : decode cX1_bestCut 212 = .ok (.invokevirtual 293, 3) := dk_182 1 37 (dk_at dksX1_bestCut_9 4 rfl rfl)
theorem dX1_bestCut_215 : decode cX1_bestCut 215 = .ok (.iload 14, 2) := dk_21 14 (dk_at dksX1_bestCut_9 7 rfl rfl)
theorem dX1_bestCut_217 : decode cX1_bestCut 217 = .ok (.iload 7, 2) := dk_21 7 (dk_at dksX1_bestCut_9 9 rfl rfl)
theorem dX1_bestCut_219 : decode cX1_bestCut 219 = .ok (.if_icmp .le 23, 3) := dk_164 0 23 (dk_at dksX1_bestCut_9 11 rfl rfl)
theorem dX1_bestCut_222 : decode cX1_bestCut 222 = .ok (.iload 8, 2) := dk_21 8 (dk_at dksX1_bestCut_9 14 rfl rfl)
theorem dX1_bestCut_224 : decode cX1_bestCut 224 = .ok (.bipush 12, 2) := dk_16 12 (dk_at dksX1_bestCut_9 16 rfl rfl)
theorem dX1_bestCut_226 : decode cX1_bestCut 226 = .ok (.imul, 1) := dk_104 (dk_at dksX1_bestCut_9 18 rfl rfl)
theorem dX1_bestCut_227 : decode cX1_bestCut 227 = .ok (.iload 11, 2) := dk_21 11 (dk_at dksX1_bestCut_9 19 rfl rfl)
theorem dX1_bestCut_229 : decode cX1_bestCut 229 = .ok (.iadd, 1) := dk_96 (dk_at dksX1_bestCut_9 21 rfl rfl)
theorem dX1_bestCut_230 : decode cX1_bestCut 230 = .ok (.bipush 8, 2) := dk_16 8 (dk_at dksX1_bestCut_9 22 rfl rfl)
theorem dX1_bestCut_232 : decode cX1_bestCut 232 = .ok (.imul, 1) := dk_104 (dk_at dksX1_bestCut_10 0 rfl rfl)
theorem dX1_bestCut_233 : decode cX1_bestCut 233 = .ok (.iload 12, 2) := dk_21 12 (dk_at dksX1_bestCut_10 1 rfl rfl)
theorem dX1_bestCut_235 : decode cX1_bestCut 235 = .ok (.iadd, 1) := dk_96 (dk_at dksX1_bestCut_10 3 rfl rfl)
theorem dX1_bestCut_236 : decode cX1_bestCut 236 = .ok (.iload 11, 2) := dk_21 11 (dk_at dksX1_bestCut_10 4 rfl rfl)
theorem dX1_bestCut_238 : decode cX1_bestCut 238 = .ok (.isub, 1) := dk_100 (dk_at dksX1_bestCut_10 6 rfl rfl)
theorem dX1_bestCut_239 : decode cX1_bestCut 239 = .ok (.goto 5, 3) := dk_167 0 5 (dk_at dksX1_bestCut_10 7 rfl rfl)
theorem dX1_bestCut_242 : decode cX1_bestCut 242 = .ok (.iload 6, 2) := dk_21 6 (dk_at dksX1_bestCut_10 10 rfl rfl)
theorem dX1_bestCut_244 : decode cX1_bestCut 244 = .ok (.istore 6, 2) := dk_54 6 (dk_at dksX1_bestCut_10 12 rfl rfl)
theorem dX1_bestCut_246 : decode cX1_bestCut 246 = .ok (.iload 7, 2) := dk_21 7 (dk_at dksX1_bestCut_10 14 rfl rfl)
theorem dX1_bestCut_248 : decode cX1_bestCut 248 = .ok (.iload 14, 2) := dk_21 14 (dk_at dksX1_bestCut_10 16 rfl rfl)
theorem dX1_bestCut_250 : decode cX1_bestCut 250 = .ok (.invokestatic 296, 3) := dk_184 1 40 (dk_at dksX1_bestCut_10 18 rfl rfl)
theorem dX1_bestCut_253 : decode cX1_bestCut 253 = .ok (.istore 7, 2) := dk_54 7 (dk_at dksX1_bestCut_10 21 rfl rfl)
theorem dX1_bestCut_255 : decode cX1_bestCut 255 = .ok (.iinc 10 1, 3) := dk_132 10 1 (dk_at dksX1_bestCut_11 0 rfl rfl)
theorem dX1_bestCut_258 : decode cX1_bestCut 258 = .ok (.goto (-134), 3) := dk_167 255 122 (dk_at dksX1_bestCut_11 3 rfl rfl)
theorem dX1_bestCut_261 : decode cX1_bestCut 261 = .ok (.iinc 8 1, 3) := dk_132 8 1 (dk_at dksX1_bestCut_11 6 rfl rfl)
theorem dX1_bestCut_264 : decode cX1_bestCut 264 = .ok (.goto (-178), 3) := dk_167 255 78 (dk_at dksX1_bestCut_11 9 rfl rfl)
theorem dX1_bestCut_267 : decode cX1_bestCut 267 = .ok (.iload 6, 2) := dk_21 6 (dk_at dksX1_bestCut_11 12 rfl rfl)
theorem dX1_bestCut_269 : decode cX1_bestCut 269 = .ok (.iconst (-1), 1) := dk_2 (dk_at dksX1_bestCut_11 14 rfl rfl)
theorem dX1_bestCut_270 : decode cX1_bestCut 270 = .ok (.if_icmp .eq 8, 3) := dk_159 0 8 (dk_at dksX1_bestCut_11 15 rfl rfl)
theorem dX1_bestCut_273 : decode cX1_bestCut 273 = .ok (.iload_n 1, 1) := dk_27 (dk_at dksX1_bestCut_11 18 rfl rfl)
theorem dX1_bestCut_274 : decode cX1_bestCut 274 = .ok (.iconst 3, 1) := dk_6 (dk_at dksX1_bestCut_11 19 rfl rfl)
theorem dX1_bestCut_275 : decode cX1_bestCut 275 = .ok (.if_icmp .ne 6, 3) := dk_160 0 6 (dk_at dksX1_bestCut_11 20 rfl rfl)
theorem dX1_bestCut_278 : decode cX1_bestCut 278 = .ok (.iload 7, 2) := dk_21 7 (dk_at dksX1_bestCut_12 0 rfl rfl)
theorem dX1_bestCut_280 : decode cX1_bestCut 280 = .ok (.ireturn, 1) := dk_172 (dk_at dksX1_bestCut_12 2 rfl rfl)
theorem dX1_bestCut_281 : decode cX1_bestCut 281 = .ok (.iload_n 1, 1) := dk_27 (dk_at dksX1_bestCut_12 3 rfl rfl)
theorem dX1_bestCut_282 : decode cX1_bestCut 282 = .ok (.ifCond .ne 14, 3) := dk_154 0 14 (dk_at dksX1_bestCut_12 4 rfl rfl)
theorem dX1_bestCut_285 : decode cX1_bestCut 285 = .ok (.iload 6, 2) := dk_21 6 (dk_at dksX1_bestCut_12 7 rfl rfl)
theorem dX1_bestCut_287 : decode cX1_bestCut 287 = .ok (.bipush 8, 2) := dk_16 8 (dk_at dksX1_bestCut_12 9 rfl rfl)
theorem dX1_bestCut_289 : decode cX1_bestCut 289 = .ok (.idiv, 1) := dk_108 (dk_at dksX1_bestCut_12 11 rfl rfl)
theorem dX1_bestCut_290 : decode cX1_bestCut 290 = .ok (.bipush 12, 2) := dk_16 12 (dk_at dksX1_bestCut_12 12 rfl rfl)
theorem dX1_bestCut_292 : decode cX1_bestCut 292 = .ok (.idiv, 1) := dk_108 (dk_at dksX1_bestCut_12 14 rfl rfl)
theorem dX1_bestCut_293 : decode cX1_bestCut 293 = .ok (.goto 24, 3) := dk_167 0 24 (dk_at dksX1_bestCut_12 15 rfl rfl)
theorem dX1_bestCut_296 : decode cX1_bestCut 296 = .ok (.iload_n 1, 1) := dk_27 (dk_at dksX1_bestCut_12 18 rfl rfl)
theorem dX1_bestCut_297 : decode cX1_bestCut 297 = .ok (.iconst 1, 1) := dk_4 (dk_at dksX1_bestCut_12 19 rfl rfl)
theorem dX1_bestCut_298 : decode cX1_bestCut 298 = .ok (.if_icmp .ne 14, 3) := dk_160 0 14 (dk_at dksX1_bestCut_12 20 rfl rfl)
theorem dX1_bestCut_301 : decode cX1_bestCut 301 = .ok (.iload 6, 2) := dk_21 6 (dk_at dksX1_bestCut_13 0 rfl rfl)
theorem dX1_bestCut_303 : decode cX1_bestCut 303 = .ok (.bipush 8, 2) := dk_16 8 (dk_at dksX1_bestCut_13 2 rfl rfl)
theorem dX1_bestCut_305 : decode cX1_bestCut 305 = .ok (.idiv, 1) := dk_108 (dk_at dksX1_bestCut_13 4 rfl rfl)
theorem dX1_bestCut_306 : decode cX1_bestCut 306 = .ok (.bipush 12, 2) := dk_16 12 (dk_at dksX1_bestCut_13 5 rfl rfl)
theorem dX1_bestCut_308 : decode cX1_bestCut 308 = .ok (.irem, 1) := dk_112 (dk_at dksX1_bestCut_13 7 rfl rfl)
theorem dX1_bestCut_309 : decode cX1_bestCut 309 = .ok (.goto 8, 3) := dk_167 0 8 (dk_at dksX1_bestCut_13 8 rfl rfl)
theorem dX1_bestCut_312 : decode cX1_bestCut 312 = .ok (.iload 6, 2) := dk_21 6 (dk_at dksX1_bestCut_13 11 rfl rfl)
theorem dX1_bestCut_314 : decode cX1_bestCut 314 = .ok (.bipush 8, 2) := dk_16 8 (dk_at dksX1_bestCut_13 13 rfl rfl)
theorem dX1_bestCut_316 : decode cX1_bestCut 316 = .ok (.irem, 1) := dk_112 (dk_at dksX1_bestCut_13 15 rfl rfl)
theorem dX1_bestCut_317 : decode cX1_bestCut 317 = .ok (.ireturn, 1) := dk_172 (dk_at dksX1_bestCut_13 16 rfl rfl)
abbrev cX1_undo : ByteArray := prog_1_method_38_code
def yX1_undo : MethodName := ⟨RX1, "undo", "()I"⟩
def dkwX1_undo_1 : List UInt8 := [182, 1, 49, 192, 0, 51, 181, 0, 54, 42, 180, 0, 61, 182, 0, 90, 172]
abbrev dktX1_undo_1 : List UInt8 := dkwX1_undo_1 ++ []
def dkwX1_undo_0 : List UInt8 := [42, 180, 0, 61, 182, 1, 45, 154, 0, 7, 4, 167, 0, 4, 3, 184, 0, 138, 42, 42, 180, 0, 61]
abbrev dktX1_undo_0 : List UInt8 := dkwX1_undo_0 ++ dktX1_undo_1
theorem dksX1_undo_0 : cX1_undo.data.toList.drop 0 = dktX1_undo_0 := by decide +kernel
theorem dksX1_undo_1 : cX1_undo.data.toList.drop 23 = dktX1_undo_1 := dk_seg dksX1_undo_0 23 rfl rfl
theorem dX1_undo_0 : decode cX1_undo 0 = .ok (.aload_n 0, 1) := dk_42 (dk_at dksX1_undo_0 0 rfl rfl)
theorem dX1_undo_1 : decode cX1_undo 1 = .ok (.getfield 61, 3) := dk_180 0 61 (dk_at dksX1_undo_0 1 rfl rfl)
theorem dX1_undo_4 : decode cX1_undo 4 = .ok (.invokevirtual 301, 3) := dk_182 1 45 (dk_at dksX1_undo_0 4 rfl rfl)
theorem dX1_undo_7 : decode cX1_undo 7 = .ok (.ifCond .ne 7, 3) := dk_154 0 7 (dk_at dksX1_undo_0 7 rfl rfl)
theorem dX1_undo_10 : decode cX1_undo 10 = .ok (.iconst 1, 1) := dk_4 (dk_at dksX1_undo_0 10 rfl rfl)
theorem dX1_undo_11 : decode cX1_undo 11 = .ok (.goto 4, 3) := dk_167 0 4 (dk_at dksX1_undo_0 11 rfl rfl)
theorem dX1_undo_14 : decode cX1_undo 14 = .ok (.iconst 0, 1) := dk_3 (dk_at dksX1_undo_0 14 rfl rfl)
theorem dX1_undo_15 : decode cX1_undo 15 = .ok (.invokestatic 138, 3) := dk_184 0 138 (dk_at dksX1_undo_0 15 rfl rfl)
theorem dX1_undo_18 : decode cX1_undo 18 = .ok (.aload_n 0, 1) := dk_42 (dk_at dksX1_undo_0 18 rfl rfl)
theorem dX1_undo_19 : decode cX1_undo 19 = .ok (.aload_n 0, 1) := dk_42 (dk_at dksX1_undo_0 19 rfl rfl)
theorem dX1_undo_20 : decode cX1_undo 20 = .ok (.getfield 61, 3) := dk_180 0 61 (dk_at dksX1_undo_0 20 rfl rfl)
theorem dX1_undo_23 : decode cX1_undo 23 = .ok (.invokevirtual 305, 3) := dk_182 1 49 (dk_at dksX1_undo_1 0 rfl rfl)
theorem dX1_undo_26 : decode cX1_undo 26 = .ok (.checkcast 51, 3) := dk_192 0 51 (dk_at dksX1_undo_1 3 rfl rfl)
theorem dX1_undo_29 : decode cX1_undo 29 = .ok (.putfield 54, 3) := dk_181 0 54 (dk_at dksX1_undo_1 6 rfl rfl)
theorem dX1_undo_32 : decode cX1_undo 32 = .ok (.aload_n 0, 1) := dk_42 (dk_at dksX1_undo_1 9 rfl rfl)
theorem dX1_undo_33 : decode cX1_undo 33 = .ok (.getfield 61, 3) := dk_180 0 61 (dk_at dksX1_undo_1 10 rfl rfl)
theorem dX1_undo_36 : decode cX1_undo 36 = .ok (.invokevirtual 90, 3) := dk_182 0 90 (dk_at dksX1_undo_1 13 rfl rfl)
theorem dX1_undo_39 : decode cX1_undo 39 = .ok (.ireturn, 1) := dk_172 (dk_at dksX1_undo_1 16 rfl rfl)
theorem q62 : (Jvm.Cond.initialized "RubberStamps") ∈ lw_all := lw_g (lw_at lw_m1 1 rfl) rfl
theorem q100 : (Jvm.Cond.instantiable "RubberStamps" (7 : Nat)) ∈ lw_all := lw_g (lw_at lw_m1 39 rfl) rfl
theorem q102 : (Jvm.Cond.instanceMethod ({ cls := "RubberStamps", name := "<init>", desc := "()V" } : Jvm.MethodName)) ∈ lw_all := lw_g (lw_at lw_m1 41 rfl) rfl
theorem q103 : (Jvm.Cond.code ({ cls := "RubberStamps", name := "<init>", desc := "()V" } : Jvm.MethodName) prog_1_method_7_code (1 : Nat) (Option.none : Option Jvm.ClassFile.FieldType)) ∈ lw_all := lw_g (lw_at lw_m1 42 rfl) rfl
theorem q104 : (Jvm.Cond.methodLink "RubberStamps" (48 : Nat) ({ cls := "java/lang/Object", name := "<init>", desc := "()V" } : Jvm.MethodName)) ∈ lw_all := lw_g (lw_at lw_m1 43 rfl) rfl
theorem q107 : (Jvm.Cond.classLink "RubberStamps" (51 : Nat) "RubberStamps$State") ∈ lw_all := lw_g (lw_at lw_m1 46 rfl) rfl
theorem q109 : (Jvm.Cond.methodLinkNest "RubberStamps" (53 : Nat) ({ cls := "RubberStamps$State", name := "<init>", desc := "()V" } : Jvm.MethodName) "RubberStamps") ∈ lw_tbl := lw_at lw_m1 48 rfl
theorem q156 : (Jvm.Cond.fieldLinkNest "RubberStamps" (217 : Nat) "RubberStamps$Inks" "presses" "I" "RubberStamps") ∈ lw_tbl := lw_at lw_m1 95 rfl
theorem q158 : (Jvm.Cond.fieldLinkNest "RubberStamps" (220 : Nat) "RubberStamps$Inks" "inkings" "I" "RubberStamps") ∈ lw_tbl := lw_at lw_m1 97 rfl
theorem q161 : (Jvm.Cond.fieldLinkNest "RubberStamps" (223 : Nat) "RubberStamps$Inks" "cleanings" "I" "RubberStamps") ∈ lw_tbl := lw_at lw_m1 100 rfl
theorem q178 : (Jvm.Cond.fieldLinkNest "RubberStamps" (105 : Nat) "RubberStamps$State" "stamps" "Ljava/util/ArrayList;" "RubberStamps") ∈ lw_tbl := lw_at lw_m1 117 rfl
theorem q182 : (Jvm.Cond.fieldLinkNest "RubberStamps" (126 : Nat) "RubberStamps$State" "words" "Ljava/util/ArrayList;" "RubberStamps") ∈ lw_tbl := lw_at lw_m1 121 rfl
theorem q185 : (Jvm.Cond.fieldLinkNest "RubberStamps" (163 : Nat) "RubberStamps$State" "limit" "I" "RubberStamps") ∈ lw_tbl := lw_at lw_m1 124 rfl
theorem q188 : (Jvm.Cond.fieldLinkNest "RubberStamps" (166 : Nat) "RubberStamps$State" "load" "I" "RubberStamps") ∈ lw_tbl := lw_at lw_m1 127 rfl
theorem q191 : (Jvm.Cond.fieldLinkNest "RubberStamps" (193 : Nat) "RubberStamps$State" "inks" "LRubberStamps$Inks;" "RubberStamps") ∈ lw_tbl := lw_at lw_m1 130 rfl
theorem q203 : (Jvm.Cond.classLink "RubberStamps" (58 : Nat) "java/util/ArrayDeque") ∈ lw_all := lw_g (lw_at lw_m1 142 rfl) rfl
theorem q205 : (Jvm.Cond.methodLink "RubberStamps" (60 : Nat) ({ cls := "java/util/ArrayDeque", name := "<init>", desc := "()V" } : Jvm.MethodName)) ∈ lw_all := lw_g (lw_at lw_m1 144 rfl) rfl
theorem q221 : (Jvm.Cond.classLink "RubberStamps" (65 : Nat) "RubberStamps$Plans") ∈ lw_all := lw_g (lw_at lw_m1 160 rfl) rfl
theorem q223 : (Jvm.Cond.methodLinkNest "RubberStamps" (67 : Nat) ({ cls := "RubberStamps$Plans", name := "<init>", desc := "()V" } : Jvm.MethodName) "RubberStamps") ∈ lw_tbl := lw_at lw_m1 162 rfl
theorem q232 : (Jvm.Cond.fieldLinkNest "RubberStamps" (263 : Nat) "RubberStamps$Plans" "plan" "[I" "RubberStamps") ∈ lw_tbl := lw_at lw_m1 171 rfl
theorem q234 : (Jvm.Cond.fieldLinkNest "RubberStamps" (262 : Nat) "RubberStamps$Plans" "presses" "I" "RubberStamps") ∈ lw_tbl := lw_at lw_m1 173 rfl
theorem q248 : (Jvm.Cond.classLink "RubberStamps" (72 : Nat) "RubberStamps$Orders") ∈ lw_all := lw_g (lw_at lw_m1 187 rfl) rfl
theorem q250 : (Jvm.Cond.methodLink "RubberStamps" (74 : Nat) ({ cls := "RubberStamps$Orders", name := "<init>", desc := "()V" } : Jvm.MethodName)) ∈ lw_all := lw_g (lw_at lw_m1 189 rfl) rfl
theorem q263 : (Jvm.Cond.fieldLinkNest "RubberStamps" (278 : Nat) "RubberStamps$Orders" "best" "[I" "RubberStamps") ∈ lw_tbl := lw_at lw_m1 202 rfl
theorem q265 : (Jvm.Cond.fieldLinkNest "RubberStamps" (281 : Nat) "RubberStamps$Orders" "least" "I" "RubberStamps") ∈ lw_tbl := lw_at lw_m1 204 rfl
theorem q277 : (Jvm.Cond.classLink "RubberStamps" (79 : Nat) "RubberStamps$Inks") ∈ lw_all := lw_g (lw_at lw_m1 216 rfl) rfl
theorem q278 : (Jvm.Cond.methodLink "RubberStamps" (81 : Nat) ({ cls := "RubberStamps$Inks", name := "<init>", desc := "()V" } : Jvm.MethodName)) ∈ lw_all := lw_g (lw_at lw_m1 217 rfl) rfl
theorem q279 : (Jvm.Cond.fieldLink "RubberStamps" (54 : Nat) "RubberStamps" "state" "LRubberStamps$State;") ∈ lw_all := lw_g (lw_at lw_m1 218 rfl) rfl
theorem q280 : (Jvm.Cond.fieldLink "RubberStamps" (61 : Nat) "RubberStamps" "saved" "Ljava/util/ArrayDeque;") ∈ lw_all := lw_g (lw_at lw_m1 219 rfl) rfl
theorem q281 : (Jvm.Cond.fieldLink "RubberStamps" (68 : Nat) "RubberStamps" "plans" "LRubberStamps$Plans;") ∈ lw_all := lw_g (lw_at lw_m1 220 rfl) rfl
theorem q282 : (Jvm.Cond.fieldLink "RubberStamps" (75 : Nat) "RubberStamps" "orders" "LRubberStamps$Orders;") ∈ lw_all := lw_g (lw_at lw_m1 221 rfl) rfl
theorem q283 : (Jvm.Cond.fieldLink "RubberStamps" (82 : Nat) "RubberStamps" "trial" "LRubberStamps$Inks;") ∈ lw_all := lw_g (lw_at lw_m1 222 rfl) rfl
theorem q285 : (Jvm.Cond.fieldLink "RubberStamps" (86 : Nat) "RubberStamps" "text" "[B") ∈ lw_all := lw_g (lw_at lw_m1 224 rfl) rfl
theorem q287 : (Jvm.Cond.fieldLink "RubberStamps" (134 : Nat) "RubberStamps" "textLength" "I") ∈ lw_all := lw_g (lw_at lw_m1 226 rfl) rfl
theorem q288 : (Jvm.Cond.lays "RubberStamps" "RubberStamps" "state" "LRubberStamps$State;") ∈ lw_all := lw_g (lw_at lw_m1 227 rfl) rfl
theorem q289 : (Jvm.Cond.soleField "RubberStamps" "state") ∈ lw_all := lw_g (lw_at lw_m1 228 rfl) rfl
theorem q290 : (Jvm.Cond.laysFinal "RubberStamps" "RubberStamps" "saved" "Ljava/util/ArrayDeque;") ∈ lw_all := lw_g (lw_at lw_m1 229 rfl) rfl
theorem q291 : (Jvm.Cond.soleField "RubberStamps" "saved") ∈ lw_all := lw_g (lw_at lw_m1 230 rfl) rfl
theorem q292 : (Jvm.Cond.laysFinal "RubberStamps" "RubberStamps" "plans" "LRubberStamps$Plans;") ∈ lw_all := lw_g (lw_at lw_m1 231 rfl) rfl
theorem q293 : (Jvm.Cond.soleField "RubberStamps" "plans") ∈ lw_all := lw_g (lw_at lw_m1 232 rfl) rfl
theorem q294 : (Jvm.Cond.laysFinal "RubberStamps" "RubberStamps" "orders" "LRubberStamps$Orders;") ∈ lw_all := lw_g (lw_at lw_m1 233 rfl) rfl
theorem q295 : (Jvm.Cond.soleField "RubberStamps" "orders") ∈ lw_all := lw_g (lw_at lw_m1 234 rfl) rfl
theorem q296 : (Jvm.Cond.laysFinal "RubberStamps" "RubberStamps" "trial" "LRubberStamps$Inks;") ∈ lw_all := lw_g (lw_at lw_m1 235 rfl) rfl
theorem q297 : (Jvm.Cond.soleField "RubberStamps" "trial") ∈ lw_all := lw_g (lw_at lw_m1 236 rfl) rfl
theorem q298 : (Jvm.Cond.laysFinal "RubberStamps" "RubberStamps" "text" "[B") ∈ lw_all := lw_g (lw_at lw_m1 237 rfl) rfl
theorem q299 : (Jvm.Cond.soleField "RubberStamps" "text") ∈ lw_all := lw_g (lw_at lw_m1 238 rfl) rfl
theorem q300 : (Jvm.Cond.lays "RubberStamps" "RubberStamps" "textLength" "I") ∈ lw_all := lw_g (lw_at lw_m1 239 rfl) rfl
theorem q301 : (Jvm.Cond.soleField "RubberStamps" "textLength") ∈ lw_all := lw_g (lw_at lw_m2 0 rfl) rfl
theorem q302 : (Jvm.Cond.superclass "RubberStamps" "java/lang/Object") ∈ lw_all := lw_g (lw_at lw_m2 1 rfl) rfl
theorem q305 : (Jvm.Cond.instanceMethod ({ cls := "RubberStamps", name := "clearText", desc := "()I" } : Jvm.MethodName)) ∈ lw_all := lw_g (lw_at lw_m2 4 rfl) rfl
theorem q306 : (Jvm.Cond.selects "RubberStamps" ({ cls := "RubberStamps", name := "clearText", desc := "()I" } : Jvm.MethodName) ({ cls := "RubberStamps", name := "clearText", desc := "()I" } : Jvm.MethodName)) ∈ lw_all := lw_g (lw_at lw_m2 5 rfl) rfl
theorem q307 : (Jvm.Cond.code ({ cls := "RubberStamps", name := "clearText", desc := "()I" } : Jvm.MethodName) prog_1_method_12_code (2 : Nat) (Option.some Jvm.ClassFile.FieldType.int)) ∈ lw_all := lw_g (lw_at lw_m2 6 rfl) rfl
theorem q309 : (Jvm.Cond.instanceMethod ({ cls := "RubberStamps", name := "parse", desc := "()I" } : Jvm.MethodName)) ∈ lw_all := lw_g (lw_at lw_m2 8 rfl) rfl
theorem q310 : (Jvm.Cond.selects "RubberStamps" ({ cls := "RubberStamps", name := "parse", desc := "()I" } : Jvm.MethodName) ({ cls := "RubberStamps", name := "parse", desc := "()I" } : Jvm.MethodName)) ∈ lw_all := lw_g (lw_at lw_m2 9 rfl) rfl
theorem q311 : (Jvm.Cond.codeWith ({ cls := "RubberStamps", name := "parse", desc := "()I" } : Jvm.MethodName) prog_1_method_13_code (3 : Nat) (Option.some Jvm.ClassFile.FieldType.int) [((9 : Nat), (13 : Nat), (16 : Nat), (149 : Nat))]) ∈ lw_all := lw_g (lw_at lw_m2 10 rfl) rfl
theorem q312 : (Jvm.Cond.classLink "RubberStamps" (149 : Nat) "RubberStamps$SyntaxError") ∈ lw_all := lw_g (lw_at lw_m2 11 rfl) rfl
theorem q313 : (Jvm.Cond.classLink "RubberStamps" (141 : Nat) "RubberStamps$Parser") ∈ lw_all := lw_g (lw_at lw_m2 12 rfl) rfl
theorem q315 : (Jvm.Cond.methodLinkNest "RubberStamps" (143 : Nat) ({ cls := "RubberStamps$Parser", name := "<init>", desc := "(LRubberStamps;)V" } : Jvm.MethodName) "RubberStamps") ∈ lw_tbl := lw_at lw_m2 14 rfl
theorem q322 : (Jvm.Cond.fieldLinkNest "RubberStamps" (157 : Nat) "RubberStamps$Parser" "stamps" "Ljava/util/ArrayList;" "RubberStamps") ∈ lw_tbl := lw_at lw_m2 21 rfl
theorem q324 : (Jvm.Cond.fieldLinkNest "RubberStamps" (162 : Nat) "RubberStamps$Parser" "words" "Ljava/util/ArrayList;" "RubberStamps") ∈ lw_tbl := lw_at lw_m2 23 rfl
theorem q336 : (Jvm.Cond.methodLink "RubberStamps" (146 : Nat) ({ cls := "RubberStamps$Parser", name := "parse", desc := "()V" } : Jvm.MethodName)) ∈ lw_all := lw_g (lw_at lw_m2 35 rfl) rfl
theorem q407 : (Jvm.Cond.fieldLinkNest "RubberStamps" (151 : Nat) "RubberStamps$SyntaxError" "position" "I" "RubberStamps") ∈ lw_tbl := lw_at lw_m2 106 rfl
theorem q721 : (Jvm.Cond.static ({ cls := "RubberStamps", name := "turned", desc := "(Ljava/lang/String;)Ljava/lang/String;" } : Jvm.MethodName)) ∈ lw_all := lw_g (lw_at lw_m3 180 rfl) rfl
theorem q722 : (Jvm.Cond.code ({ cls := "RubberStamps", name := "turned", desc := "(Ljava/lang/String;)Ljava/lang/String;" } : Jvm.MethodName) prog_1_method_6_code (5 : Nat) (Option.some (Jvm.ClassFile.FieldType.object "java/lang/String"))) ∈ lw_all := lw_g (lw_at lw_m3 181 rfl) rfl
theorem q723 : (Jvm.Cond.classLink "RubberStamps" (19 : Nat) "java/lang/StringBuilder") ∈ lw_all := lw_g (lw_at lw_m3 182 rfl) rfl
theorem q724 : (Jvm.Cond.methodLink "RubberStamps" (21 : Nat) ({ cls := "java/lang/StringBuilder", name := "<init>", desc := "()V" } : Jvm.MethodName)) ∈ lw_all := lw_g (lw_at lw_m3 183 rfl) rfl
theorem q725 : (Jvm.Cond.methodLink "RubberStamps" (24 : Nat) ({ cls := "java/lang/String", name := "length", desc := "()I" } : Jvm.MethodName)) ∈ lw_all := lw_g (lw_at lw_m3 184 rfl) rfl
theorem q726 : (Jvm.Cond.methodLink "RubberStamps" (30 : Nat) ({ cls := "java/lang/String", name := "charAt", desc := "(I)C" } : Jvm.MethodName)) ∈ lw_all := lw_g (lw_at lw_m3 185 rfl) rfl
theorem q741 : (Jvm.Cond.methodLink "RubberStamps" (34 : Nat) ({ cls := "RubberStamps", name := "turned", desc := "(C)C" } : Jvm.MethodName)) ∈ lw_all := lw_g (lw_at lw_m3 200 rfl) rfl
theorem q742 : (Jvm.Cond.static ({ cls := "RubberStamps", name := "turned", desc := "(C)C" } : Jvm.MethodName)) ∈ lw_all := lw_g (lw_at lw_m3 201 rfl) rfl
theorem q743 : (Jvm.Cond.code ({ cls := "RubberStamps", name := "turned", desc := "(C)C" } : Jvm.MethodName) prog_1_method_5_code (1 : Nat) (Option.some Jvm.ClassFile.FieldType.char)) ∈ lw_all := lw_g (lw_at lw_m3 202 rfl) rfl
theorem q744 : (Jvm.Cond.methodLink "RubberStamps" (40 : Nat) ({ cls := "java/lang/StringBuilder", name := "append", desc := "(C)Ljava/lang/StringBuilder;" } : Jvm.MethodName)) ∈ lw_all := lw_g (lw_at lw_m3 203 rfl) rfl
theorem q745 : (Jvm.Cond.methodLink "RubberStamps" (44 : Nat) ({ cls := "java/lang/StringBuilder", name := "toString", desc := "()Ljava/lang/String;" } : Jvm.MethodName)) ∈ lw_all := lw_g (lw_at lw_m3 204 rfl) rfl
theorem q749 : (Jvm.Cond.fieldLinkNest "RubberStamps" (240 : Nat) "RubberStamps$Stamp" "letters" "Ljava/lang/String;" "RubberStamps") ∈ lw_tbl := lw_at lw_m3 208 rfl
theorem q753 : (Jvm.Cond.fieldLinkNest "RubberStamps" (241 : Nat) "RubberStamps$Stamp" "turned" "Ljava/lang/String;" "RubberStamps") ∈ lw_tbl := lw_at lw_m3 212 rfl
theorem q782 : (Jvm.Cond.selects "RubberStamps" ({ cls := "java/lang/Object", name := "getClass", desc := "()Ljava/lang/Class;" } : Jvm.MethodName) ({ cls := "java/lang/Object", name := "getClass", desc := "()Ljava/lang/Class;" } : Jvm.MethodName)) ∈ lw_all := lw_g (lw_at lw_m4 1 rfl) rfl
theorem q817 : (Jvm.Cond.fieldLinkNest "RubberStamps" (173 : Nat) "RubberStamps$Word" "letters" "Ljava/lang/String;" "RubberStamps") ∈ lw_tbl := lw_at lw_m4 36 rfl
theorem q820 : (Jvm.Cond.fieldLinkNest "RubberStamps" (199 : Nat) "RubberStamps$Word" "color" "I" "RubberStamps") ∈ lw_tbl := lw_at lw_m4 39 rfl
theorem q826 : (Jvm.Cond.methodLink "RubberStamps" (154 : Nat) ({ cls := "RubberStamps", name := "save", desc := "()V" } : Jvm.MethodName)) ∈ lw_all := lw_g (lw_at lw_m4 45 rfl) rfl
theorem q827 : (Jvm.Cond.privateMethod ({ cls := "RubberStamps", name := "save", desc := "()V" } : Jvm.MethodName)) ∈ lw_tbl := lw_at lw_m4 46 rfl
theorem q828 : (Jvm.Cond.instanceMethod ({ cls := "RubberStamps", name := "save", desc := "()V" } : Jvm.MethodName)) ∈ lw_all := lw_g (lw_at lw_m4 47 rfl) rfl
theorem q829 : (Jvm.Cond.code ({ cls := "RubberStamps", name := "save", desc := "()V" } : Jvm.MethodName) prog_1_method_8_code (1 : Nat) (Option.none : Option Jvm.ClassFile.FieldType)) ∈ lw_all := lw_g (lw_at lw_m4 48 rfl) rfl
theorem q830 : (Jvm.Cond.methodLink "RubberStamps" (90 : Nat) ({ cls := "java/util/ArrayDeque", name := "size", desc := "()I" } : Jvm.MethodName)) ∈ lw_all := lw_g (lw_at lw_m4 49 rfl) rfl
theorem q837 : (Jvm.Cond.methodLink "RubberStamps" (93 : Nat) ({ cls := "java/util/ArrayDeque", name := "removeFirst", desc := "()Ljava/lang/Object;" } : Jvm.MethodName)) ∈ lw_all := lw_g (lw_at lw_m4 56 rfl) rfl
theorem q851 : (Jvm.Cond.methodLink "RubberStamps" (97 : Nat) ({ cls := "RubberStamps$State", name := "copy", desc := "()LRubberStamps$State;" } : Jvm.MethodName)) ∈ lw_all := lw_g (lw_at lw_m4 70 rfl) rfl
theorem q913 : (Jvm.Cond.methodLink "RubberStamps" (101 : Nat) ({ cls := "java/util/ArrayDeque", name := "addLast", desc := "(Ljava/lang/Object;)V" } : Jvm.MethodName)) ∈ lw_all := lw_g (lw_at lw_m4 132 rfl) rfl
theorem q944 : (Jvm.Cond.methodLink "RubberStamps" (158 : Nat) ({ cls := "java/util/ArrayList", name := "addAll", desc := "(Ljava/util/Collection;)Z" } : Jvm.MethodName)) ∈ lw_all := lw_g (lw_at lw_m4 163 rfl) rfl
theorem q945 : (Jvm.Cond.methodLink "RubberStamps" (109 : Nat) ({ cls := "java/util/ArrayList", name := "size", desc := "()I" } : Jvm.MethodName)) ∈ lw_all := lw_g (lw_at lw_m4 164 rfl) rfl
theorem q947 : (Jvm.Cond.instanceMethod ({ cls := "RubberStamps", name := "writeAll", desc := "()I" } : Jvm.MethodName)) ∈ lw_all := lw_g (lw_at lw_m4 166 rfl) rfl
theorem q948 : (Jvm.Cond.selects "RubberStamps" ({ cls := "RubberStamps", name := "writeAll", desc := "()I" } : Jvm.MethodName) ({ cls := "RubberStamps", name := "writeAll", desc := "()I" } : Jvm.MethodName)) ∈ lw_all := lw_g (lw_at lw_m4 167 rfl) rfl
theorem q949 : (Jvm.Cond.code ({ cls := "RubberStamps", name := "writeAll", desc := "()I" } : Jvm.MethodName) prog_1_method_30_code (3 : Nat) (Option.some Jvm.ClassFile.FieldType.int)) ∈ lw_all := lw_g (lw_at lw_m4 168 rfl) rfl
theorem q950 : (Jvm.Cond.methodLink "RubberStamps" (206 : Nat) ({ cls := "RubberStamps$Plans", name := "make", desc := "(LRubberStamps$State;)LRubberStamps$Plans;" } : Jvm.MethodName)) ∈ lw_all := lw_g (lw_at lw_m4 169 rfl) rfl
theorem q1086 : (Jvm.Cond.methodLink "RubberStamps" (243 : Nat) ({ cls := "RubberStamps$Plans", name := "isPossible", desc := "(ILRubberStamps$Inks;)Z" } : Jvm.MethodName)) ∈ lw_all := lw_g (lw_at lw_m5 65 rfl) rfl
theorem q1111 : (Jvm.Cond.methodLink "RubberStamps" (251 : Nat) ({ cls := "RubberStamps$Plans", name := "write", desc := "(ILRubberStamps$Inks;)I" } : Jvm.MethodName)) ∈ lw_all := lw_g (lw_at lw_m5 90 rfl) rfl
theorem q1120 : (Jvm.Cond.instanceMethod ({ cls := "RubberStamps", name := "fewest", desc := "()I" } : Jvm.MethodName)) ∈ lw_all := lw_g (lw_at lw_m5 99 rfl) rfl
theorem q1121 : (Jvm.Cond.selects "RubberStamps" ({ cls := "RubberStamps", name := "fewest", desc := "()I" } : Jvm.MethodName) ({ cls := "RubberStamps", name := "fewest", desc := "()I" } : Jvm.MethodName)) ∈ lw_all := lw_g (lw_at lw_m5 100 rfl) rfl
theorem q1122 : (Jvm.Cond.code ({ cls := "RubberStamps", name := "fewest", desc := "()I" } : Jvm.MethodName) prog_1_method_32_code (1 : Nat) (Option.some Jvm.ClassFile.FieldType.int)) ∈ lw_all := lw_g (lw_at lw_m5 101 rfl) rfl
theorem q1123 : (Jvm.Cond.methodLink "RubberStamps" (271 : Nat) ({ cls := "RubberStamps", name := "fewestStamps", desc := "()I" } : Jvm.MethodName)) ∈ lw_all := lw_g (lw_at lw_m5 102 rfl) rfl
theorem q1124 : (Jvm.Cond.privateMethod ({ cls := "RubberStamps", name := "fewestStamps", desc := "()I" } : Jvm.MethodName)) ∈ lw_tbl := lw_at lw_m5 103 rfl
theorem q1125 : (Jvm.Cond.instanceMethod ({ cls := "RubberStamps", name := "fewestStamps", desc := "()I" } : Jvm.MethodName)) ∈ lw_all := lw_g (lw_at lw_m5 104 rfl) rfl
theorem q1126 : (Jvm.Cond.code ({ cls := "RubberStamps", name := "fewestStamps", desc := "()I" } : Jvm.MethodName) prog_1_method_31_code (5 : Nat) (Option.some Jvm.ClassFile.FieldType.int)) ∈ lw_all := lw_g (lw_at lw_m5 105 rfl) rfl
theorem q1127 : (Jvm.Cond.methodLink "RubberStamps" (210 : Nat) ({ cls := "RubberStamps$State", name := "usable", desc := "()I" } : Jvm.MethodName)) ∈ lw_all := lw_g (lw_at lw_m5 106 rfl) rfl
theorem q1132 : (Jvm.Cond.methodLink "RubberStamps" (226 : Nat) ({ cls := "java/lang/Integer", name := "bitCount", desc := "(I)I" } : Jvm.MethodName)) ∈ lw_all := lw_g (lw_at lw_m5 111 rfl) rfl
theorem q1138 : (Jvm.Cond.methodLink "RubberStamps" (267 : Nat) ({ cls := "RubberStamps$Plans", name := "hasAll", desc := "(I)Z" } : Jvm.MethodName)) ∈ lw_all := lw_g (lw_at lw_m5 117 rfl) rfl
theorem q1143 : (Jvm.Cond.instanceMethod ({ cls := "RubberStamps", name := "leastCleanings", desc := "()I" } : Jvm.MethodName)) ∈ lw_all := lw_g (lw_at lw_m5 122 rfl) rfl
theorem q1144 : (Jvm.Cond.selects "RubberStamps" ({ cls := "RubberStamps", name := "leastCleanings", desc := "()I" } : Jvm.MethodName) ({ cls := "RubberStamps", name := "leastCleanings", desc := "()I" } : Jvm.MethodName)) ∈ lw_all := lw_g (lw_at lw_m5 123 rfl) rfl
theorem q1145 : (Jvm.Cond.code ({ cls := "RubberStamps", name := "leastCleanings", desc := "()I" } : Jvm.MethodName) prog_1_method_35_code (1 : Nat) (Option.some Jvm.ClassFile.FieldType.int)) ∈ lw_all := lw_g (lw_at lw_m5 124 rfl) rfl
theorem q1146 : (Jvm.Cond.methodLink "RubberStamps" (274 : Nat) ({ cls := "RubberStamps$Orders", name := "find", desc := "(LRubberStamps$State;)Z" } : Jvm.MethodName)) ∈ lw_all := lw_g (lw_at lw_m5 125 rfl) rfl
theorem q1161 : (Jvm.Cond.instanceMethod ({ cls := "RubberStamps", name := "lettersPerPress", desc := "()D" } : Jvm.MethodName)) ∈ lw_all := lw_g (lw_at lw_m5 140 rfl) rfl
theorem q1162 : (Jvm.Cond.selects "RubberStamps" ({ cls := "RubberStamps", name := "lettersPerPress", desc := "()D" } : Jvm.MethodName) ({ cls := "RubberStamps", name := "lettersPerPress", desc := "()D" } : Jvm.MethodName)) ∈ lw_all := lw_g (lw_at lw_m5 141 rfl) rfl
theorem q1163 : (Jvm.Cond.code ({ cls := "RubberStamps", name := "lettersPerPress", desc := "()D" } : Jvm.MethodName) prog_1_method_37_code (5 : Nat) (Option.some Jvm.ClassFile.FieldType.double)) ∈ lw_all := lw_g (lw_at lw_m5 142 rfl) rfl
theorem q1164 : (Jvm.Cond.methodLink "RubberStamps" (213 : Nat) ({ cls := "RubberStamps$Plans", name := "fewest", desc := "(II)I" } : Jvm.MethodName)) ∈ lw_all := lw_g (lw_at lw_m5 143 rfl) rfl
theorem q1165 : (Jvm.Cond.methodLink "RubberStamps" (120 : Nat) ({ cls := "java/util/ArrayList", name := "get", desc := "(I)Ljava/lang/Object;" } : Jvm.MethodName)) ∈ lw_all := lw_g (lw_at lw_m5 144 rfl) rfl
theorem q1166 : (Jvm.Cond.classLink "RubberStamps" (129 : Nat) "RubberStamps$Word") ∈ lw_all := lw_g (lw_at lw_m5 145 rfl) rfl
theorem q1168 : (Jvm.Cond.instanceMethod ({ cls := "RubberStamps", name := "digest", desc := "()J" } : Jvm.MethodName)) ∈ lw_all := lw_g (lw_at lw_m5 147 rfl) rfl
theorem q1169 : (Jvm.Cond.selects "RubberStamps" ({ cls := "RubberStamps", name := "digest", desc := "()J" } : Jvm.MethodName) ({ cls := "RubberStamps", name := "digest", desc := "()J" } : Jvm.MethodName)) ∈ lw_all := lw_g (lw_at lw_m5 148 rfl) rfl
theorem q1170 : (Jvm.Cond.code ({ cls := "RubberStamps", name := "digest", desc := "()J" } : Jvm.MethodName) prog_1_method_40_code (5 : Nat) (Option.some Jvm.ClassFile.FieldType.long)) ∈ lw_all := lw_g (lw_at lw_m5 149 rfl) rfl
theorem q1171 : (Jvm.Cond.constantLong "RubberStamps" (312 : Nat) (105059 : Int64)) ∈ lw_all := lw_g (lw_at lw_m5 150 rfl) rfl
theorem q1172 : (Jvm.Cond.constantLong "RubberStamps" (308 : Nat) (31 : Int64)) ∈ lw_all := lw_g (lw_at lw_m5 151 rfl) rfl
theorem q1173 : (Jvm.Cond.methodLink "RubberStamps" (234 : Nat) ({ cls := "RubberStamps", name := "valueOf", desc := "(I)I" } : Jvm.MethodName)) ∈ lw_all := lw_g (lw_at lw_m5 152 rfl) rfl
theorem q1174 : (Jvm.Cond.privateMethod ({ cls := "RubberStamps", name := "valueOf", desc := "(I)I" } : Jvm.MethodName)) ∈ lw_tbl := lw_at lw_m5 153 rfl
theorem q1175 : (Jvm.Cond.instanceMethod ({ cls := "RubberStamps", name := "valueOf", desc := "(I)I" } : Jvm.MethodName)) ∈ lw_all := lw_g (lw_at lw_m5 154 rfl) rfl
theorem q1176 : (Jvm.Cond.code ({ cls := "RubberStamps", name := "valueOf", desc := "(I)I" } : Jvm.MethodName) prog_1_method_21_code (2 : Nat) (Option.some Jvm.ClassFile.FieldType.int)) ∈ lw_all := lw_g (lw_at lw_m5 155 rfl) rfl
theorem q1177 : (Jvm.Cond.methodLink "RubberStamps" (231 : Nat) ({ cls := "RubberStamps", name := "withPlan", desc := "()I" } : Jvm.MethodName)) ∈ lw_all := lw_g (lw_at lw_m5 156 rfl) rfl
theorem q1178 : (Jvm.Cond.privateMethod ({ cls := "RubberStamps", name := "withPlan", desc := "()I" } : Jvm.MethodName)) ∈ lw_tbl := lw_at lw_m5 157 rfl
theorem q1179 : (Jvm.Cond.instanceMethod ({ cls := "RubberStamps", name := "withPlan", desc := "()I" } : Jvm.MethodName)) ∈ lw_all := lw_g (lw_at lw_m5 158 rfl) rfl
theorem q1180 : (Jvm.Cond.code ({ cls := "RubberStamps", name := "withPlan", desc := "()I" } : Jvm.MethodName) prog_1_method_20_code (3 : Nat) (Option.some Jvm.ClassFile.FieldType.int)) ∈ lw_all := lw_g (lw_at lw_m5 159 rfl) rfl
theorem q1181 : (Jvm.Cond.methodLink "RubberStamps" (237 : Nat) ({ cls := "RubberStamps$State", name := "stamp", desc := "(II)I" } : Jvm.MethodName)) ∈ lw_all := lw_g (lw_at lw_m5 160 rfl) rfl
theorem q1187 : (Jvm.Cond.classLink "RubberStamps" (124 : Nat) "RubberStamps$Stamp") ∈ lw_all := lw_g (lw_at lw_m5 166 rfl) rfl
theorem q1188 : (Jvm.Cond.methodLink "RubberStamps" (314 : Nat) ({ cls := "RubberStamps", name := "mix", desc := "(JLjava/lang/String;)J" } : Jvm.MethodName)) ∈ lw_all := lw_g (lw_at lw_m5 167 rfl) rfl
theorem q1189 : (Jvm.Cond.static ({ cls := "RubberStamps", name := "mix", desc := "(JLjava/lang/String;)J" } : Jvm.MethodName)) ∈ lw_all := lw_g (lw_at lw_m5 168 rfl) rfl
theorem q1190 : (Jvm.Cond.code ({ cls := "RubberStamps", name := "mix", desc := "(JLjava/lang/String;)J" } : Jvm.MethodName) prog_1_method_39_code (6 : Nat) (Option.some Jvm.ClassFile.FieldType.long)) ∈ lw_all := lw_g (lw_at lw_m5 169 rfl) rfl
theorem q1191 : (Jvm.Cond.constantLong "RubberStamps" (310 : Nat) (97 : Int64)) ∈ lw_all := lw_g (lw_at lw_m5 170 rfl) rfl
theorem q1192 : (Jvm.Cond.methodLink "RubberStamps" (255 : Nat) ({ cls := "RubberStamps", name := "wordPart", desc := "(II)I" } : Jvm.MethodName)) ∈ lw_all := lw_g (lw_at lw_m5 171 rfl) rfl
theorem q1193 : (Jvm.Cond.privateMethod ({ cls := "RubberStamps", name := "wordPart", desc := "(II)I" } : Jvm.MethodName)) ∈ lw_tbl := lw_at lw_m5 172 rfl
theorem q1194 : (Jvm.Cond.instanceMethod ({ cls := "RubberStamps", name := "wordPart", desc := "(II)I" } : Jvm.MethodName)) ∈ lw_all := lw_g (lw_at lw_m5 173 rfl) rfl
theorem q1195 : (Jvm.Cond.code ({ cls := "RubberStamps", name := "wordPart", desc := "(II)I" } : Jvm.MethodName) prog_1_method_25_code (5 : Nat) (Option.some Jvm.ClassFile.FieldType.int)) ∈ lw_all := lw_g (lw_at lw_m5 174 rfl) rfl
theorem q1196 : (Jvm.Cond.methodLink "RubberStamps" (247 : Nat) ({ cls := "RubberStamps$Inks", name := "takes", desc := "(LRubberStamps$Inks;)LRubberStamps$Inks;" } : Jvm.MethodName)) ∈ lw_all := lw_g (lw_at lw_m5 175 rfl) rfl
theorem q1197 : (Jvm.Cond.methodLink "RubberStamps" (258 : Nat) ({ cls := "RubberStamps$Plans", name := "lay", desc := "(II)Z" } : Jvm.MethodName)) ∈ lw_all := lw_g (lw_at lw_m5 176 rfl) rfl
theorem q1204 : (Jvm.Cond.instanceMethod ({ cls := "RubberStamps", name := "append", desc := "(I)I" } : Jvm.MethodName)) ∈ lw_all := lw_g (lw_at lw_m5 183 rfl) rfl
theorem q1205 : (Jvm.Cond.selects "RubberStamps" ({ cls := "RubberStamps", name := "append", desc := "(I)I" } : Jvm.MethodName) ({ cls := "RubberStamps", name := "append", desc := "(I)I" } : Jvm.MethodName)) ∈ lw_all := lw_g (lw_at lw_m5 184 rfl) rfl
theorem q1206 : (Jvm.Cond.code ({ cls := "RubberStamps", name := "append", desc := "(I)I" } : Jvm.MethodName) prog_1_method_11_code (2 : Nat) (Option.some Jvm.ClassFile.FieldType.int)) ∈ lw_all := lw_g (lw_at lw_m5 185 rfl) rfl
theorem q1207 : (Jvm.Cond.methodLink "RubberStamps" (112 : Nat) ({ cls := "RubberStamps", name := "inRange", desc := "(III)Z" } : Jvm.MethodName)) ∈ lw_all := lw_g (lw_at lw_m5 186 rfl) rfl
theorem q1208 : (Jvm.Cond.static ({ cls := "RubberStamps", name := "inRange", desc := "(III)Z" } : Jvm.MethodName)) ∈ lw_all := lw_g (lw_at lw_m5 187 rfl) rfl
theorem q1209 : (Jvm.Cond.code ({ cls := "RubberStamps", name := "inRange", desc := "(III)Z" } : Jvm.MethodName) prog_1_method_1_code (3 : Nat) (Option.some Jvm.ClassFile.FieldType.boolean)) ∈ lw_all := lw_g (lw_at lw_m5 188 rfl) rfl
theorem q1210 : (Jvm.Cond.methodLink "RubberStamps" (131 : Nat) ({ cls := "RubberStamps", name := "require", desc := "(Z)V" } : Jvm.MethodName)) ∈ lw_all := lw_g (lw_at lw_m5 189 rfl) rfl
theorem q1211 : (Jvm.Cond.static ({ cls := "RubberStamps", name := "require", desc := "(Z)V" } : Jvm.MethodName)) ∈ lw_all := lw_g (lw_at lw_m5 190 rfl) rfl
theorem q1212 : (Jvm.Cond.code ({ cls := "RubberStamps", name := "require", desc := "(Z)V" } : Jvm.MethodName) prog_1_method_2_code (1 : Nat) (Option.none : Option Jvm.ClassFile.FieldType)) ∈ lw_all := lw_g (lw_at lw_m5 191 rfl) rfl
theorem q1213 : (Jvm.Cond.classLink "RubberStamps" (1 : Nat) "java/lang/IllegalArgumentException") ∈ lw_all := lw_g (lw_at lw_m5 192 rfl) rfl
theorem q1214 : (Jvm.Cond.stringRef "RubberStamps" (3 : Nat) "argument out of range") ∈ lw_tbl := lw_at lw_m5 193 rfl
theorem q1215 : (Jvm.Cond.methodLink "RubberStamps" (5 : Nat) ({ cls := "java/lang/IllegalArgumentException", name := "<init>", desc := "(Ljava/lang/String;)V" } : Jvm.MethodName)) ∈ lw_all := lw_g (lw_at lw_m5 194 rfl) rfl
theorem q1216 : (Jvm.Cond.methodLink "RubberStamps" (138 : Nat) ({ cls := "RubberStamps", name := "requireState", desc := "(Z)V" } : Jvm.MethodName)) ∈ lw_all := lw_g (lw_at lw_m5 195 rfl) rfl
theorem q1217 : (Jvm.Cond.static ({ cls := "RubberStamps", name := "requireState", desc := "(Z)V" } : Jvm.MethodName)) ∈ lw_all := lw_g (lw_at lw_m5 196 rfl) rfl
theorem q1218 : (Jvm.Cond.code ({ cls := "RubberStamps", name := "requireState", desc := "(Z)V" } : Jvm.MethodName) prog_1_method_4_code (1 : Nat) (Option.none : Option Jvm.ClassFile.FieldType)) ∈ lw_all := lw_g (lw_at lw_m5 197 rfl) rfl
theorem q1219 : (Jvm.Cond.classLink "RubberStamps" (14 : Nat) "java/lang/IllegalStateException") ∈ lw_all := lw_g (lw_at lw_m5 198 rfl) rfl
theorem q1220 : (Jvm.Cond.stringRef "RubberStamps" (16 : Nat) "not possible now") ∈ lw_tbl := lw_at lw_m5 199 rfl
theorem q1221 : (Jvm.Cond.methodLink "RubberStamps" (18 : Nat) ({ cls := "java/lang/IllegalStateException", name := "<init>", desc := "(Ljava/lang/String;)V" } : Jvm.MethodName)) ∈ lw_all := lw_g (lw_at lw_m5 200 rfl) rfl
theorem q1245 : (Jvm.Cond.instanceMethod ({ cls := "RubberStamps", name := "cut", desc := "(III)I" } : Jvm.MethodName)) ∈ lw_all := lw_g (lw_at lw_m5 224 rfl) rfl
theorem q1246 : (Jvm.Cond.selects "RubberStamps" ({ cls := "RubberStamps", name := "cut", desc := "(III)I" } : Jvm.MethodName) ({ cls := "RubberStamps", name := "cut", desc := "(III)I" } : Jvm.MethodName)) ∈ lw_all := lw_g (lw_at lw_m5 225 rfl) rfl
theorem q1247 : (Jvm.Cond.code ({ cls := "RubberStamps", name := "cut", desc := "(III)I" } : Jvm.MethodName) prog_1_method_14_code (5 : Nat) (Option.some Jvm.ClassFile.FieldType.int)) ∈ lw_all := lw_g (lw_at lw_m5 226 rfl) rfl
theorem q1248 : (Jvm.Cond.methodLink "RubberStamps" (169 : Nat) ({ cls := "RubberStamps", name := "wordAt", desc := "(I)LRubberStamps$Word;" } : Jvm.MethodName)) ∈ lw_all := lw_g (lw_at lw_m5 227 rfl) rfl
theorem q1249 : (Jvm.Cond.privateMethod ({ cls := "RubberStamps", name := "wordAt", desc := "(I)LRubberStamps$Word;" } : Jvm.MethodName)) ∈ lw_tbl := lw_at lw_m5 228 rfl
theorem q1250 : (Jvm.Cond.instanceMethod ({ cls := "RubberStamps", name := "wordAt", desc := "(I)LRubberStamps$Word;" } : Jvm.MethodName)) ∈ lw_all := lw_g (lw_at lw_m5 229 rfl) rfl
theorem q1251 : (Jvm.Cond.code ({ cls := "RubberStamps", name := "wordAt", desc := "(I)LRubberStamps$Word;" } : Jvm.MethodName) prog_1_method_10_code (2 : Nat) (Option.some (Jvm.ClassFile.FieldType.object "RubberStamps$Word"))) ∈ lw_all := lw_g (lw_at lw_m5 230 rfl) rfl
theorem q1252 : (Jvm.Cond.methodLink "RubberStamps" (116 : Nat) ({ cls := "RubberStamps", name := "requireIndex", desc := "(Z)V" } : Jvm.MethodName)) ∈ lw_all := lw_g (lw_at lw_m5 231 rfl) rfl
theorem q1253 : (Jvm.Cond.static ({ cls := "RubberStamps", name := "requireIndex", desc := "(Z)V" } : Jvm.MethodName)) ∈ lw_all := lw_g (lw_at lw_m5 232 rfl) rfl
theorem q1254 : (Jvm.Cond.code ({ cls := "RubberStamps", name := "requireIndex", desc := "(Z)V" } : Jvm.MethodName) prog_1_method_3_code (1 : Nat) (Option.none : Option Jvm.ClassFile.FieldType)) ∈ lw_all := lw_g (lw_at lw_m5 233 rfl) rfl
theorem q1255 : (Jvm.Cond.classLink "RubberStamps" (9 : Nat) "java/lang/IndexOutOfBoundsException") ∈ lw_all := lw_g (lw_at lw_m5 234 rfl) rfl
theorem q1264 : (Jvm.Cond.stringRef "RubberStamps" (11 : Nat) "no such index") ∈ lw_tbl := lw_at lw_m6 3 rfl
theorem q1265 : (Jvm.Cond.methodLink "RubberStamps" (13 : Nat) ({ cls := "java/lang/IndexOutOfBoundsException", name := "<init>", desc := "(Ljava/lang/String;)V" } : Jvm.MethodName)) ∈ lw_all := lw_g (lw_at lw_m6 4 rfl) rfl
theorem q1268 : (Jvm.Cond.methodLink "RubberStamps" (177 : Nat) ({ cls := "java/lang/String", name := "substring", desc := "(II)Ljava/lang/String;" } : Jvm.MethodName)) ∈ lw_all := lw_g (lw_at lw_m6 7 rfl) rfl
theorem q1291 : (Jvm.Cond.methodLink "RubberStamps" (181 : Nat) ({ cls := "RubberStamps$Stamp", name := "<init>", desc := "(Ljava/lang/String;)V" } : Jvm.MethodName)) ∈ lw_all := lw_g (lw_at lw_m6 30 rfl) rfl
theorem q1292 : (Jvm.Cond.methodLink "RubberStamps" (182 : Nat) ({ cls := "java/util/ArrayList", name := "add", desc := "(Ljava/lang/Object;)Z" } : Jvm.MethodName)) ∈ lw_all := lw_g (lw_at lw_m6 31 rfl) rfl
theorem q1297 : (Jvm.Cond.instanceMethod ({ cls := "RubberStamps", name := "remove", desc := "(I)I" } : Jvm.MethodName)) ∈ lw_all := lw_g (lw_at lw_m6 36 rfl) rfl
theorem q1298 : (Jvm.Cond.selects "RubberStamps" ({ cls := "RubberStamps", name := "remove", desc := "(I)I" } : Jvm.MethodName) ({ cls := "RubberStamps", name := "remove", desc := "(I)I" } : Jvm.MethodName)) ∈ lw_all := lw_g (lw_at lw_m6 37 rfl) rfl
theorem q1299 : (Jvm.Cond.code ({ cls := "RubberStamps", name := "remove", desc := "(I)I" } : Jvm.MethodName) prog_1_method_15_code (2 : Nat) (Option.some Jvm.ClassFile.FieldType.int)) ∈ lw_all := lw_g (lw_at lw_m6 38 rfl) rfl
theorem q1300 : (Jvm.Cond.methodLink "RubberStamps" (186 : Nat) ({ cls := "RubberStamps", name := "stampAt", desc := "(I)LRubberStamps$Stamp;" } : Jvm.MethodName)) ∈ lw_all := lw_g (lw_at lw_m6 39 rfl) rfl
theorem q1301 : (Jvm.Cond.privateMethod ({ cls := "RubberStamps", name := "stampAt", desc := "(I)LRubberStamps$Stamp;" } : Jvm.MethodName)) ∈ lw_tbl := lw_at lw_m6 40 rfl
theorem q1302 : (Jvm.Cond.instanceMethod ({ cls := "RubberStamps", name := "stampAt", desc := "(I)LRubberStamps$Stamp;" } : Jvm.MethodName)) ∈ lw_all := lw_g (lw_at lw_m6 41 rfl) rfl
theorem q1303 : (Jvm.Cond.code ({ cls := "RubberStamps", name := "stampAt", desc := "(I)LRubberStamps$Stamp;" } : Jvm.MethodName) prog_1_method_9_code (2 : Nat) (Option.some (Jvm.ClassFile.FieldType.object "RubberStamps$Stamp"))) ∈ lw_all := lw_g (lw_at lw_m6 42 rfl) rfl
theorem q1304 : (Jvm.Cond.methodLink "RubberStamps" (190 : Nat) ({ cls := "java/util/ArrayList", name := "remove", desc := "(I)Ljava/lang/Object;" } : Jvm.MethodName)) ∈ lw_all := lw_g (lw_at lw_m6 43 rfl) rfl
theorem q1312 : (Jvm.Cond.methodLink "RubberStamps" (196 : Nat) ({ cls := "RubberStamps$Inks", name := "remove", desc := "(I)V" } : Jvm.MethodName)) ∈ lw_all := lw_g (lw_at lw_m6 51 rfl) rfl
theorem q1320 : (Jvm.Cond.instanceMethod ({ cls := "RubberStamps", name := "drop", desc := "(I)I" } : Jvm.MethodName)) ∈ lw_all := lw_g (lw_at lw_m6 59 rfl) rfl
theorem q1321 : (Jvm.Cond.selects "RubberStamps" ({ cls := "RubberStamps", name := "drop", desc := "(I)I" } : Jvm.MethodName) ({ cls := "RubberStamps", name := "drop", desc := "(I)I" } : Jvm.MethodName)) ∈ lw_all := lw_g (lw_at lw_m6 60 rfl) rfl
theorem q1322 : (Jvm.Cond.code ({ cls := "RubberStamps", name := "drop", desc := "(I)I" } : Jvm.MethodName) prog_1_method_16_code (2 : Nat) (Option.some Jvm.ClassFile.FieldType.int)) ∈ lw_all := lw_g (lw_at lw_m6 61 rfl) rfl
theorem q1327 : (Jvm.Cond.instanceMethod ({ cls := "RubberStamps", name := "setColor", desc := "(II)I" } : Jvm.MethodName)) ∈ lw_all := lw_g (lw_at lw_m6 66 rfl) rfl
theorem q1328 : (Jvm.Cond.selects "RubberStamps" ({ cls := "RubberStamps", name := "setColor", desc := "(II)I" } : Jvm.MethodName) ({ cls := "RubberStamps", name := "setColor", desc := "(II)I" } : Jvm.MethodName)) ∈ lw_all := lw_g (lw_at lw_m6 67 rfl) rfl
theorem q1329 : (Jvm.Cond.code ({ cls := "RubberStamps", name := "setColor", desc := "(II)I" } : Jvm.MethodName) prog_1_method_17_code (5 : Nat) (Option.some Jvm.ClassFile.FieldType.int)) ∈ lw_all := lw_g (lw_at lw_m6 68 rfl) rfl
theorem q1334 : (Jvm.Cond.instanceMethod ({ cls := "RubberStamps", name := "setLimits", desc := "(II)I" } : Jvm.MethodName)) ∈ lw_all := lw_g (lw_at lw_m6 73 rfl) rfl
theorem q1335 : (Jvm.Cond.selects "RubberStamps" ({ cls := "RubberStamps", name := "setLimits", desc := "(II)I" } : Jvm.MethodName) ({ cls := "RubberStamps", name := "setLimits", desc := "(II)I" } : Jvm.MethodName)) ∈ lw_all := lw_g (lw_at lw_m6 74 rfl) rfl
theorem q1336 : (Jvm.Cond.code ({ cls := "RubberStamps", name := "setLimits", desc := "(II)I" } : Jvm.MethodName) prog_1_method_18_code (4 : Nat) (Option.some Jvm.ClassFile.FieldType.int)) ∈ lw_all := lw_g (lw_at lw_m6 75 rfl) rfl
theorem q1341 : (Jvm.Cond.instanceMethod ({ cls := "RubberStamps", name := "clean", desc := "(I)I" } : Jvm.MethodName)) ∈ lw_all := lw_g (lw_at lw_m6 80 rfl) rfl
theorem q1342 : (Jvm.Cond.selects "RubberStamps" ({ cls := "RubberStamps", name := "clean", desc := "(I)I" } : Jvm.MethodName) ({ cls := "RubberStamps", name := "clean", desc := "(I)I" } : Jvm.MethodName)) ∈ lw_all := lw_g (lw_at lw_m6 81 rfl) rfl
theorem q1343 : (Jvm.Cond.code ({ cls := "RubberStamps", name := "clean", desc := "(I)I" } : Jvm.MethodName) prog_1_method_19_code (2 : Nat) (Option.some Jvm.ClassFile.FieldType.int)) ∈ lw_all := lw_g (lw_at lw_m6 82 rfl) rfl
theorem q1344 : (Jvm.Cond.methodLink "RubberStamps" (202 : Nat) ({ cls := "RubberStamps$Inks", name := "clean", desc := "(I)I" } : Jvm.MethodName)) ∈ lw_all := lw_g (lw_at lw_m6 83 rfl) rfl
theorem q1352 : (Jvm.Cond.instanceMethod ({ cls := "RubberStamps", name := "value", desc := "(I)I" } : Jvm.MethodName)) ∈ lw_all := lw_g (lw_at lw_m6 91 rfl) rfl
theorem q1353 : (Jvm.Cond.selects "RubberStamps" ({ cls := "RubberStamps", name := "value", desc := "(I)I" } : Jvm.MethodName) ({ cls := "RubberStamps", name := "value", desc := "(I)I" } : Jvm.MethodName)) ∈ lw_all := lw_g (lw_at lw_m6 92 rfl) rfl
theorem q1354 : (Jvm.Cond.code ({ cls := "RubberStamps", name := "value", desc := "(I)I" } : Jvm.MethodName) prog_1_method_22_code (2 : Nat) (Option.some Jvm.ClassFile.FieldType.int)) ∈ lw_all := lw_g (lw_at lw_m6 93 rfl) rfl
theorem q1359 : (Jvm.Cond.instanceMethod ({ cls := "RubberStamps", name := "stamp", desc := "(II)I" } : Jvm.MethodName)) ∈ lw_all := lw_g (lw_at lw_m6 98 rfl) rfl
theorem q1360 : (Jvm.Cond.selects "RubberStamps" ({ cls := "RubberStamps", name := "stamp", desc := "(II)I" } : Jvm.MethodName) ({ cls := "RubberStamps", name := "stamp", desc := "(II)I" } : Jvm.MethodName)) ∈ lw_all := lw_g (lw_at lw_m6 99 rfl) rfl
theorem q1361 : (Jvm.Cond.code ({ cls := "RubberStamps", name := "stamp", desc := "(II)I" } : Jvm.MethodName) prog_1_method_23_code (3 : Nat) (Option.some Jvm.ClassFile.FieldType.int)) ∈ lw_all := lw_g (lw_at lw_m6 100 rfl) rfl
theorem q1366 : (Jvm.Cond.instanceMethod ({ cls := "RubberStamps", name := "print", desc := "(IIZ)I" } : Jvm.MethodName)) ∈ lw_all := lw_g (lw_at lw_m6 105 rfl) rfl
theorem q1367 : (Jvm.Cond.selects "RubberStamps" ({ cls := "RubberStamps", name := "print", desc := "(IIZ)I" } : Jvm.MethodName) ({ cls := "RubberStamps", name := "print", desc := "(IIZ)I" } : Jvm.MethodName)) ∈ lw_all := lw_g (lw_at lw_m6 106 rfl) rfl
theorem q1368 : (Jvm.Cond.code ({ cls := "RubberStamps", name := "print", desc := "(IIZ)I" } : Jvm.MethodName) prog_1_method_24_code (6 : Nat) (Option.some Jvm.ClassFile.FieldType.int)) ∈ lw_all := lw_g (lw_at lw_m6 107 rfl) rfl
theorem q1373 : (Jvm.Cond.instanceMethod ({ cls := "RubberStamps", name := "word", desc := "(II)I" } : Jvm.MethodName)) ∈ lw_all := lw_g (lw_at lw_m6 112 rfl) rfl
theorem q1374 : (Jvm.Cond.selects "RubberStamps" ({ cls := "RubberStamps", name := "word", desc := "(II)I" } : Jvm.MethodName) ({ cls := "RubberStamps", name := "word", desc := "(II)I" } : Jvm.MethodName)) ∈ lw_all := lw_g (lw_at lw_m6 113 rfl) rfl
theorem q1375 : (Jvm.Cond.code ({ cls := "RubberStamps", name := "word", desc := "(II)I" } : Jvm.MethodName) prog_1_method_26_code (3 : Nat) (Option.some Jvm.ClassFile.FieldType.int)) ∈ lw_all := lw_g (lw_at lw_m6 114 rfl) rfl
theorem q1380 : (Jvm.Cond.instanceMethod ({ cls := "RubberStamps", name := "letter", desc := "(II)I" } : Jvm.MethodName)) ∈ lw_all := lw_g (lw_at lw_m6 119 rfl) rfl
theorem q1381 : (Jvm.Cond.selects "RubberStamps" ({ cls := "RubberStamps", name := "letter", desc := "(II)I" } : Jvm.MethodName) ({ cls := "RubberStamps", name := "letter", desc := "(II)I" } : Jvm.MethodName)) ∈ lw_all := lw_g (lw_at lw_m6 120 rfl) rfl
theorem q1382 : (Jvm.Cond.code ({ cls := "RubberStamps", name := "letter", desc := "(II)I" } : Jvm.MethodName) prog_1_method_27_code (4 : Nat) (Option.some Jvm.ClassFile.FieldType.int)) ∈ lw_all := lw_g (lw_at lw_m6 121 rfl) rfl
theorem q1387 : (Jvm.Cond.instanceMethod ({ cls := "RubberStamps", name := "press", desc := "(II)I" } : Jvm.MethodName)) ∈ lw_all := lw_g (lw_at lw_m6 126 rfl) rfl
theorem q1388 : (Jvm.Cond.selects "RubberStamps" ({ cls := "RubberStamps", name := "press", desc := "(II)I" } : Jvm.MethodName) ({ cls := "RubberStamps", name := "press", desc := "(II)I" } : Jvm.MethodName)) ∈ lw_all := lw_g (lw_at lw_m6 127 rfl) rfl
theorem q1389 : (Jvm.Cond.code ({ cls := "RubberStamps", name := "press", desc := "(II)I" } : Jvm.MethodName) prog_1_method_28_code (3 : Nat) (Option.some Jvm.ClassFile.FieldType.int)) ∈ lw_all := lw_g (lw_at lw_m6 128 rfl) rfl
theorem q1394 : (Jvm.Cond.instanceMethod ({ cls := "RubberStamps", name := "write", desc := "(I)I" } : Jvm.MethodName)) ∈ lw_all := lw_g (lw_at lw_m6 133 rfl) rfl
theorem q1395 : (Jvm.Cond.selects "RubberStamps" ({ cls := "RubberStamps", name := "write", desc := "(I)I" } : Jvm.MethodName) ({ cls := "RubberStamps", name := "write", desc := "(I)I" } : Jvm.MethodName)) ∈ lw_all := lw_g (lw_at lw_m6 134 rfl) rfl
theorem q1396 : (Jvm.Cond.code ({ cls := "RubberStamps", name := "write", desc := "(I)I" } : Jvm.MethodName) prog_1_method_29_code (2 : Nat) (Option.some Jvm.ClassFile.FieldType.int)) ∈ lw_all := lw_g (lw_at lw_m6 135 rfl) rfl
theorem q1401 : (Jvm.Cond.instanceMethod ({ cls := "RubberStamps", name := "needed", desc := "(I)I" } : Jvm.MethodName)) ∈ lw_all := lw_g (lw_at lw_m6 140 rfl) rfl
theorem q1402 : (Jvm.Cond.selects "RubberStamps" ({ cls := "RubberStamps", name := "needed", desc := "(I)I" } : Jvm.MethodName) ({ cls := "RubberStamps", name := "needed", desc := "(I)I" } : Jvm.MethodName)) ∈ lw_all := lw_g (lw_at lw_m6 141 rfl) rfl
theorem q1403 : (Jvm.Cond.code ({ cls := "RubberStamps", name := "needed", desc := "(I)I" } : Jvm.MethodName) prog_1_method_33_code (6 : Nat) (Option.some Jvm.ClassFile.FieldType.int)) ∈ lw_all := lw_g (lw_at lw_m6 142 rfl) rfl
theorem q1408 : (Jvm.Cond.instanceMethod ({ cls := "RubberStamps", name := "order", desc := "(I)I" } : Jvm.MethodName)) ∈ lw_all := lw_g (lw_at lw_m6 147 rfl) rfl
theorem q1409 : (Jvm.Cond.selects "RubberStamps" ({ cls := "RubberStamps", name := "order", desc := "(I)I" } : Jvm.MethodName) ({ cls := "RubberStamps", name := "order", desc := "(I)I" } : Jvm.MethodName)) ∈ lw_all := lw_g (lw_at lw_m6 148 rfl) rfl
theorem q1410 : (Jvm.Cond.code ({ cls := "RubberStamps", name := "order", desc := "(I)I" } : Jvm.MethodName) prog_1_method_34_code (2 : Nat) (Option.some Jvm.ClassFile.FieldType.int)) ∈ lw_all := lw_g (lw_at lw_m6 149 rfl) rfl
theorem q1415 : (Jvm.Cond.instanceMethod ({ cls := "RubberStamps", name := "bestCut", desc := "(II)I" } : Jvm.MethodName)) ∈ lw_all := lw_g (lw_at lw_m6 154 rfl) rfl
theorem q1416 : (Jvm.Cond.selects "RubberStamps" ({ cls := "RubberStamps", name := "bestCut", desc := "(II)I" } : Jvm.MethodName) ({ cls := "RubberStamps", name := "bestCut", desc := "(II)I" } : Jvm.MethodName)) ∈ lw_all := lw_g (lw_at lw_m6 155 rfl) rfl
theorem q1417 : (Jvm.Cond.code ({ cls := "RubberStamps", name := "bestCut", desc := "(II)I" } : Jvm.MethodName) prog_1_method_36_code (15 : Nat) (Option.some Jvm.ClassFile.FieldType.int)) ∈ lw_all := lw_g (lw_at lw_m6 156 rfl) rfl
theorem q1418 : (Jvm.Cond.methodLink "RubberStamps" (284 : Nat) ({ cls := "RubberStamps$Plans", name := "sum", desc := "(I)I" } : Jvm.MethodName)) ∈ lw_all := lw_g (lw_at lw_m6 157 rfl) rfl
theorem q1422 : (Jvm.Cond.methodLink "RubberStamps" (287 : Nat) ({ cls := "RubberStamps", name := "turned", desc := "(Ljava/lang/String;)Ljava/lang/String;" } : Jvm.MethodName)) ∈ lw_all := lw_g (lw_at lw_m6 161 rfl) rfl
theorem q1423 : (Jvm.Cond.methodLink "RubberStamps" (290 : Nat) ({ cls := "RubberStamps$Plans", name := "add", desc := "(ILjava/lang/String;Ljava/lang/String;)V" } : Jvm.MethodName)) ∈ lw_all := lw_g (lw_at lw_m6 162 rfl) rfl
theorem q1424 : (Jvm.Cond.methodLink "RubberStamps" (293 : Nat) ({ cls := "RubberStamps$Plans", name := "forget", desc := "(I)V" } : Jvm.MethodName)) ∈ lw_all := lw_g (lw_at lw_m6 163 rfl) rfl
theorem q1428 : (Jvm.Cond.methodLink "RubberStamps" (296 : Nat) ({ cls := "java/lang/Math", name := "max", desc := "(II)I" } : Jvm.MethodName)) ∈ lw_all := lw_g (lw_at lw_m6 167 rfl) rfl
theorem q1433 : (Jvm.Cond.instanceMethod ({ cls := "RubberStamps", name := "undo", desc := "()I" } : Jvm.MethodName)) ∈ lw_all := lw_g (lw_at lw_m6 172 rfl) rfl
theorem q1434 : (Jvm.Cond.selects "RubberStamps" ({ cls := "RubberStamps", name := "undo", desc := "()I" } : Jvm.MethodName) ({ cls := "RubberStamps", name := "undo", desc := "()I" } : Jvm.MethodName)) ∈ lw_all := lw_g (lw_at lw_m6 173 rfl) rfl
theorem q1435 : (Jvm.Cond.code ({ cls := "RubberStamps", name := "undo", desc := "()I" } : Jvm.MethodName) prog_1_method_38_code (1 : Nat) (Option.some Jvm.ClassFile.FieldType.int)) ∈ lw_all := lw_g (lw_at lw_m6 174 rfl) rfl
theorem q1436 : (Jvm.Cond.methodLink "RubberStamps" (301 : Nat) ({ cls := "java/util/ArrayDeque", name := "isEmpty", desc := "()Z" } : Jvm.MethodName)) ∈ lw_all := lw_g (lw_at lw_m6 175 rfl) rfl
theorem q1440 : (Jvm.Cond.methodLink "RubberStamps" (305 : Nat) ({ cls := "java/util/ArrayDeque", name := "removeLast", desc := "()Ljava/lang/Object;" } : Jvm.MethodName)) ∈ lw_all := lw_g (lw_at lw_m6 179 rfl) rfl
theorem q1801 : (Jvm.Cond.castable "RubberStamps" "java/lang/Object") ∈ lw_tbl := lw_at lw_m8 60 rfl
theorem in_X1 : ∀ w ∈ wsX10, w ∈ lw_all := lw_in wsX10 [288, 290, 292, 294, 296, 298, 300] (by decide +kernel) (by decide +kernel)
/-! RubberStamps$State -/
set_option maxRecDepth 100000
def RX2 : String := "RubberStamps$State"
def TX2 : u_T := fun k => match k with
  | 0 => ("RubberStamps$State", "stamps", "Ljava/util/ArrayList;", true)
  | 1 => ("RubberStamps$State", "words", "Ljava/util/ArrayList;", true)
  | 2 => ("RubberStamps$State", "limit", "I", false)
  | 3 => ("RubberStamps$State", "load", "I", false)
  | _ => ("RubberStamps$State", "inks", "LRubberStamps$Inks;", true)
def tyX2 : Nat → FieldType := fun k => match k with
  | 0 => .object "java/util/ArrayList"
  | 1 => .object "java/util/ArrayList"
  | 2 => .int
  | 3 => .int
  | _ => .object "RubberStamps$Inks"
abbrev wsX20 : List Cond := u_ws RX2 TX2 5
theorem nmX2 : ∀ a, a < 5 → ∀ b, b < 5 → a ≠ b → (TX2 a).2.1 ≠ (TX2 b).2.1 := by decide +kernel
theorem tyX2_ok : ∀ k, k < 5 → parseFieldDescriptor (TX2 k).2.2.1 = some (tyX2 k) := by decide +kernel
abbrev cX2_init : ByteArray := prog_7_method_1_code
def yX2_init : MethodName := ⟨RX2, "<init>", "()V"⟩
def dkwX2_init_2 : List UInt8 := [181, 0, 29, 177]
abbrev dktX2_init_2 : List UInt8 := dkwX2_init_2 ++ []
def dkwX2_init_1 : List UInt8 := [181, 0, 16, 42, 16, 100, 181, 0, 19, 42, 8, 181, 0, 23, 42, 187, 0, 26, 89, 183, 0, 28]
abbrev dktX2_init_1 : List UInt8 := dkwX2_init_1 ++ dktX2_init_2
def dkwX2_init_0 : List UInt8 := [42, 183, 0, 1, 42, 187, 0, 7, 89, 183, 0, 9, 181, 0, 10, 42, 187, 0, 7, 89, 183, 0, 9]
abbrev dktX2_init_0 : List UInt8 := dkwX2_init_0 ++ dktX2_init_1
theorem dksX2_init_0 : cX2_init.data.toList.drop 0 = dktX2_init_0 := by decide +kernel
theorem dksX2_init_1 : cX2_init.data.toList.drop 23 = dktX2_init_1 := dk_seg dksX2_init_0 23 rfl rfl
theorem dksX2_init_2 : cX2_init.data.toList.drop 45 = dktX2_init_2 := dk_seg dksX2_init_1 22 rfl rfl
theorem dX2_init_0 : decode cX2_init 0 = .ok (.aload_n 0, 1) := dk_42 (dk_at dksX2_init_0 0 rfl rfl)
theorem dX2_init_1 : decode cX2_init 1 = .ok (.invokespecial 1, 3) := dk_183 0 1 (dk_at dksX2_init_0 1 rfl rfl)
theorem dX2_init_4 : decode cX2_init 4 = .ok (.aload_n 0, 1) := dk_42 (dk_at dksX2_init_0 4 rfl rfl)
theorem dX2_init_5 : decode cX2_init 5 = .ok (.new 7, 3) := dk_187 0 7 (dk_at dksX2_init_0 5 rfl rfl)
theorem dX2_init_8 : decode cX2_init 8 = .ok (.dup, 1) := dk_89 (dk_at dksX2_init_0 8 rfl rfl)
theorem dX2_init_9 : decode cX2_init 9 = .ok (.invokespecial 9, 3) := dk_183 0 9 (dk_at dksX2_init_0 9 rfl rfl)
theorem dX2_init_12 : decode cX2_init 12 = .ok (.putfield 10, 3) := dk_181 0 10 (dk_at dksX2_init_0 12 rfl rfl)
theorem dX2_init_15 : decode cX2_init 15 = .ok (.aload_n 0, 1) := dk_42 (dk_at dksX2_init_0 15 rfl rfl)
theorem dX2_init_16 : decode cX2_init 16 = .ok (.new 7, 3) := dk_187 0 7 (dk_at dksX2_init_0 16 rfl rfl)
theorem dX2_init_19 : decode cX2_init 19 = .ok (.dup, 1) := dk_89 (dk_at dksX2_init_0 19 rfl rfl)
theorem dX2_init_20 : decode cX2_init 20 = .ok (.invokespecial 9, 3) := dk_183 0 9 (dk_at dksX2_init_0 20 rfl rfl)
theorem dX2_init_23 : decode cX2_init 23 = .ok (.putfield 16, 3) := dk_181 0 16 (dk_at dksX2_init_1 0 rfl rfl)
theorem dX2_init_26 : decode cX2_init 26 = .ok (.aload_n 0, 1) := dk_42 (dk_at dksX2_init_1 3 rfl rfl)
theorem dX2_init_27 : decode cX2_init 27 = .ok (.bipush 100, 2) := dk_16 100 (dk_at dksX2_init_1 4 rfl rfl)
theorem dX2_init_29 : decode cX2_init 29 = .ok (.putfield 19, 3) := dk_181 0 19 (dk_at dksX2_init_1 6 rfl rfl)
theorem dX2_init_32 : decode cX2_init 32 = .ok (.aload_n 0, 1) := dk_42 (dk_at dksX2_init_1 9 rfl rfl)
theorem dX2_init_33 : decode cX2_init 33 = .ok (.iconst 5, 1) := dk_8 (dk_at dksX2_init_1 10 rfl rfl)
theorem dX2_init_34 : decode cX2_init 34 = .ok (.putfield 23, 3) := dk_181 0 23 (dk_at dksX2_init_1 11 rfl rfl)
theorem dX2_init_37 : decode cX2_init 37 = .ok (.aload_n 0, 1) := dk_42 (dk_at dksX2_init_1 14 rfl rfl)
theorem dX2_init_38 : decode cX2_init 38 = .ok (.new 26, 3) := dk_187 0 26 (dk_at dksX2_init_1 15 rfl rfl)
theorem dX2_init_41 : decode cX2_init 41 = .ok (.dup, 1) := dk_89 (dk_at dksX2_init_1 18 rfl rfl)
theorem dX2_init_42 : decode cX2_init 42 = .ok (.invokespecial 28, 3) := dk_183 0 28 (dk_at dksX2_init_1 19 rfl rfl)
theorem dX2_init_45 : decode cX2_init 45 = .ok (.putfield 29, 3) := dk_181 0 29 (dk_at dksX2_init_2 0 rfl rfl)
theorem dX2_init_48 : decode cX2_init 48 = .ok (.return_, 1) := dk_177 (dk_at dksX2_init_2 3 rfl rfl)
abbrev cX2_copy : ByteArray := prog_7_method_2_code
def yX2_copy : MethodName := ⟨RX2, "copy", "()LRubberStamps$State;"⟩
def dkwX2_copy_3 : List UInt8 := [180, 0, 23, 181, 0, 23, 43, 180, 0, 29, 42, 180, 0, 29, 182, 0, 56, 87, 43, 176]
abbrev dktX2_copy_3 : List UInt8 := dkwX2_copy_3 ++ []
def dkwX2_copy_2 : List UInt8 := [182, 0, 48, 182, 0, 52, 87, 132, 2, 1, 167, 255, 220, 43, 42, 180, 0, 19, 181, 0, 19, 43, 42]
abbrev dktX2_copy_2 : List UInt8 := dkwX2_copy_2 ++ dktX2_copy_3
def dkwX2_copy_1 : List UInt8 := [180, 0, 16, 182, 0, 38, 162, 0, 31, 43, 180, 0, 16, 42, 180, 0, 16, 28, 182, 0, 42, 192, 0, 46]
abbrev dktX2_copy_1 : List UInt8 := dkwX2_copy_1 ++ dktX2_copy_2
def dkwX2_copy_0 : List UInt8 := [187, 0, 11, 89, 183, 0, 33, 76, 43, 180, 0, 10, 42, 180, 0, 10, 182, 0, 34, 87, 3, 61, 28, 42]
abbrev dktX2_copy_0 : List UInt8 := dkwX2_copy_0 ++ dktX2_copy_1
theorem dksX2_copy_0 : cX2_copy.data.toList.drop 0 = dktX2_copy_0 := by decide +kernel
theorem dksX2_copy_1 : cX2_copy.data.toList.drop 24 = dktX2_copy_1 := dk_seg dksX2_copy_0 24 rfl rfl
theorem dksX2_copy_2 : cX2_copy.data.toList.drop 48 = dktX2_copy_2 := dk_seg dksX2_copy_1 24 rfl rfl
theorem dksX2_copy_3 : cX2_copy.data.toList.drop 71 = dktX2_copy_3 := dk_seg dksX2_copy_2 23 rfl rfl
theorem dX2_copy_0 : decode cX2_copy 0 = .ok (.new 11, 3) := dk_187 0 11 (dk_at dksX2_copy_0 0 rfl rfl)
theorem dX2_copy_3 : decode cX2_copy 3 = .ok (.dup, 1) := dk_89 (dk_at dksX2_copy_0 3 rfl rfl)
theorem dX2_copy_4 : decode cX2_copy 4 = .ok (.invokespecial 33, 3) := dk_183 0 33 (dk_at dksX2_copy_0 4 rfl rfl)
theorem dX2_copy_7 : decode cX2_copy 7 = .ok (.astore_n 1, 1) := dk_76 (dk_at dksX2_copy_0 7 rfl rfl)
theorem dX2_copy_8 : decode cX2_copy 8 = .ok (.aload_n 1, 1) := dk_43 (dk_at dksX2_copy_0 8 rfl rfl)
theorem dX2_copy_9 : decode cX2_copy 9 = .ok (.getfield 10, 3) := dk_180 0 10 (dk_at dksX2_copy_0 9 rfl rfl)
theorem dX2_copy_12 : decode cX2_copy 12 = .ok (.aload_n 0, 1) := dk_42 (dk_at dksX2_copy_0 12 rfl rfl)
theorem dX2_copy_13 : decode cX2_copy 13 = .ok (.getfield 10, 3) := dk_180 0 10 (dk_at dksX2_copy_0 13 rfl rfl)
theorem dX2_copy_16 : decode cX2_copy 16 = .ok (.invokevirtual 34, 3) := dk_182 0 34 (dk_at dksX2_copy_0 16 rfl rfl)
theorem dX2_copy_19 : decode cX2_copy 19 = .ok (.pop, 1) := dk_87 (dk_at dksX2_copy_0 19 rfl rfl)
theorem dX2_copy_20 : decode cX2_copy 20 = .ok (.iconst 0, 1) := dk_3 (dk_at dksX2_copy_0 20 rfl rfl)
theorem dX2_copy_21 : decode cX2_copy 21 = .ok (.istore_n 2, 1) := dk_61 (dk_at dksX2_copy_0 21 rfl rfl)
theorem dX2_copy_22 : decode cX2_copy 22 = .ok (.iload_n 2, 1) := dk_28 (dk_at dksX2_copy_0 22 rfl rfl)
theorem dX2_copy_23 : decode cX2_copy 23 = .ok (.aload_n 0, 1) := dk_42 (dk_at dksX2_copy_0 23 rfl rfl)
theorem dX2_copy_24 : decode cX2_copy 24 = .ok (.getfield 16, 3) := dk_180 0 16 (dk_at dksX2_copy_1 0 rfl rfl)
theorem dX2_copy_27 : decode cX2_copy 27 = .ok (.invokevirtual 38, 3) := dk_182 0 38 (dk_at dksX2_copy_1 3 rfl rfl)
theorem dX2_copy_30 : decode cX2_copy 30 = .ok (.if_icmp .ge 31, 3) := dk_162 0 31 (dk_at dksX2_copy_1 6 rfl rfl)
theorem dX2_copy_33 : decode cX2_copy 33 = .ok (.aload_n 1, 1) := dk_43 (dk_at dksX2_copy_1 9 rfl rfl)
theorem dX2_copy_34 : decode cX2_copy 34 = .ok (.getfield 16, 3) := dk_180 0 16 (dk_at dksX2_copy_1 10 rfl rfl)
theorem dX2_copy_37 : decode cX2_copy 37 = .ok (.aload_n 0, 1) := dk_42 (dk_at dksX2_copy_1 13 rfl rfl)
theorem dX2_copy_38 : decode cX2_copy 38 = .ok (.getfield 16, 3) := dk_180 0 16 (dk_at dksX2_copy_1 14 rfl rfl)
theorem dX2_copy_41 : decode cX2_copy 41 = .ok (.iload_n 2, 1) := dk_28 (dk_at dksX2_copy_1 17 rfl rfl)
theorem dX2_copy_42 : decode cX2_copy 42 = .ok (.invokevirtual 42, 3) := dk_182 0 42 (dk_at dksX2_copy_1 18 rfl rfl)
theorem dX2_copy_45 : decode cX2_copy 45 = .ok (.checkcast 46, 3) := dk_192 0 46 (dk_at dksX2_copy_1 21 rfl rfl)
theorem dX2_copy_48 : decode cX2_copy 48 = .ok (.invokevirtual 48, 3) := dk_182 0 48 (dk_at dksX2_copy_2 0 rfl rfl)
theorem dX2_copy_51 : decode cX2_copy 51 = .ok (.invokevirtual 52, 3) := dk_182 0 52 (dk_at dksX2_copy_2 3 rfl rfl)
theorem dX2_copy_54 : decode cX2_copy 54 = .ok (.pop, 1) := dk_87 (dk_at dksX2_copy_2 6 rfl rfl)
theorem dX2_copy_55 : decode cX2_copy 55 = .ok (.iinc 2 1, 3) := dk_132 2 1 (dk_at dksX2_copy_2 7 rfl rfl)
theorem dX2_copy_58 : decode cX2_copy 58 = .ok (.goto (-36), 3) := dk_167 255 220 (dk_at dksX2_copy_2 10 rfl rfl)
theorem dX2_copy_61 : decode cX2_copy 61 = .ok (.aload_n 1, 1) := dk_43 (dk_at dksX2_copy_2 13 rfl rfl)
theorem dX2_copy_62 : decode cX2_copy 62 = .ok (.aload_n 0, 1) := dk_42 (dk_at dksX2_copy_2 14 rfl rfl)
theorem dX2_copy_63 : decode cX2_copy 63 = .ok (.getfield 19, 3) := dk_180 0 19 (dk_at dksX2_copy_2 15 rfl rfl)
theorem dX2_copy_66 : decode cX2_copy 66 = .ok (.putfield 19, 3) := dk_181 0 19 (dk_at dksX2_copy_2 18 rfl rfl)
theorem dX2_copy_69 : decode cX2_copy 69 = .ok (.aload_n 1, 1) := dk_43 (dk_at dksX2_copy_2 21 rfl rfl)
theorem dX2_copy_70 : decode cX2_copy 70 = .ok (.aload_n 0, 1) := dk_42 (dk_at dksX2_copy_2 22 rfl rfl)
theorem dX2_copy_71 : decode cX2_copy 71 = .ok (.getfield 23, 3) := dk_180 0 23 (dk_at dksX2_copy_3 0 rfl rfl)
theorem dX2_copy_74 : decode cX2_copy 74 = .ok (.putfield 23, 3) := dk_181 0 23 (dk_at dksX2_copy_3 3 rfl rfl)
theorem dX2_copy_77 : decode cX2_copy 77 = .ok (.aload_n 1, 1) := dk_43 (dk_at dksX2_copy_3 6 rfl rfl)
theorem dX2_copy_78 : decode cX2_copy 78 = .ok (.getfield 29, 3) := dk_180 0 29 (dk_at dksX2_copy_3 7 rfl rfl)
theorem dX2_copy_81 : decode cX2_copy 81 = .ok (.aload_n 0, 1) := dk_42 (dk_at dksX2_copy_3 10 rfl rfl)
theorem dX2_copy_82 : decode cX2_copy 82 = .ok (.getfield 29, 3) := dk_180 0 29 (dk_at dksX2_copy_3 11 rfl rfl)
theorem dX2_copy_85 : decode cX2_copy 85 = .ok (.invokevirtual 56, 3) := dk_182 0 56 (dk_at dksX2_copy_3 14 rfl rfl)
theorem dX2_copy_88 : decode cX2_copy 88 = .ok (.pop, 1) := dk_87 (dk_at dksX2_copy_3 17 rfl rfl)
theorem dX2_copy_89 : decode cX2_copy 89 = .ok (.aload_n 1, 1) := dk_43 (dk_at dksX2_copy_3 18 rfl rfl)
theorem dX2_copy_90 : decode cX2_copy 90 = .ok (.areturn, 1) := dk_176 (dk_at dksX2_copy_3 19 rfl rfl)
abbrev cX2_usable : ByteArray := prog_7_method_3_code
def yX2_usable : MethodName := ⟨RX2, "usable", "()I"⟩
def dkwX2_usable_0 : List UInt8 := [42, 180, 0, 29, 42, 180, 0, 10, 182, 0, 38, 42, 180, 0, 19, 182, 0, 60, 172]
abbrev dktX2_usable_0 : List UInt8 := dkwX2_usable_0 ++ []
theorem dksX2_usable_0 : cX2_usable.data.toList.drop 0 = dktX2_usable_0 := by decide +kernel
theorem dX2_usable_0 : decode cX2_usable 0 = .ok (.aload_n 0, 1) := dk_42 (dk_at dksX2_usable_0 0 rfl rfl)
theorem dX2_usable_1 : decode cX2_usable 1 = .ok (.getfield 29, 3) := dk_180 0 29 (dk_at dksX2_usable_0 1 rfl rfl)
theorem dX2_usable_4 : decode cX2_usable 4 = .ok (.aload_n 0, 1) := dk_42 (dk_at dksX2_usable_0 4 rfl rfl)
theorem dX2_usable_5 : decode cX2_usable 5 = .ok (.getfield 10, 3) := dk_180 0 10 (dk_at dksX2_usable_0 5 rfl rfl)
theorem dX2_usable_8 : decode cX2_usable 8 = .ok (.invokevirtual 38, 3) := dk_182 0 38 (dk_at dksX2_usable_0 8 rfl rfl)
theorem dX2_usable_11 : decode cX2_usable 11 = .ok (.aload_n 0, 1) := dk_42 (dk_at dksX2_usable_0 11 rfl rfl)
theorem dX2_usable_12 : decode cX2_usable 12 = .ok (.getfield 19, 3) := dk_180 0 19 (dk_at dksX2_usable_0 12 rfl rfl)
theorem dX2_usable_15 : decode cX2_usable 15 = .ok (.invokevirtual 60, 3) := dk_182 0 60 (dk_at dksX2_usable_0 15 rfl rfl)
theorem dX2_usable_18 : decode cX2_usable 18 = .ok (.ireturn, 1) := dk_172 (dk_at dksX2_usable_0 18 rfl rfl)
abbrev cX2_stamp : ByteArray := prog_7_method_4_code
def yX2_stamp : MethodName := ⟨RX2, "stamp", "(II)I"⟩
def dkwX2_stamp_5 : List UInt8 := [180, 0, 19, 161, 0, 7, 4, 167, 0, 4, 3, 172]
abbrev dktX2_stamp_5 : List UInt8 := dkwX2_stamp_5 ++ []
def dkwX2_stamp_4 : List UInt8 := [180, 0, 85, 199, 0, 7, 3, 167, 0, 28, 4, 167, 0, 24, 42, 180, 0, 29, 180, 0, 82, 27, 46, 42]
abbrev dktX2_stamp_4 : List UInt8 := dkwX2_stamp_4 ++ dktX2_stamp_5
def dkwX2_stamp_3 : List UInt8 := [180, 0, 29, 180, 0, 79, 27, 46, 167, 0, 51, 42, 180, 0, 29, 180, 0, 82, 27, 46, 167, 0, 39, 45]
abbrev dktX2_stamp_3 : List UInt8 := dkwX2_stamp_3 ++ dktX2_stamp_4
def dkwX2_stamp_2 : List UInt8 := [45, 180, 0, 66, 182, 0, 70, 167, 0, 75, 42, 180, 0, 29, 180, 0, 75, 27, 46, 167, 0, 63, 42]
abbrev dktX2_stamp_2 : List UInt8 := dkwX2_stamp_2 ++ dktX2_stamp_3
def dkwX2_stamp_1 : List UInt8 := [170, 0, 0, 0, 0, 0, 96, 0, 0, 0, 0, 0, 0, 0, 4, 0, 0, 0, 35, 0, 0, 0, 45, 0, 0, 0, 57, 0, 0, 0, 69, 0, 0, 0, 81]
abbrev dktX2_stamp_1 : List UInt8 := dkwX2_stamp_1 ++ dktX2_stamp_2
def dkwX2_stamp_0 : List UInt8 := [42, 180, 0, 10, 27, 182, 0, 42, 192, 0, 64, 78, 28]
abbrev dktX2_stamp_0 : List UInt8 := dkwX2_stamp_0 ++ dktX2_stamp_1
theorem dksX2_stamp_0 : cX2_stamp.data.toList.drop 0 = dktX2_stamp_0 := by decide +kernel
theorem dksX2_stamp_1 : cX2_stamp.data.toList.drop 13 = dktX2_stamp_1 := dk_seg dksX2_stamp_0 13 rfl rfl
theorem dksX2_stamp_2 : cX2_stamp.data.toList.drop 48 = dktX2_stamp_2 := dk_seg dksX2_stamp_1 35 rfl rfl
theorem dksX2_stamp_3 : cX2_stamp.data.toList.drop 71 = dktX2_stamp_3 := dk_seg dksX2_stamp_2 23 rfl rfl
theorem dksX2_stamp_4 : cX2_stamp.data.toList.drop 95 = dktX2_stamp_4 := dk_seg dksX2_stamp_3 24 rfl rfl
theorem dksX2_stamp_5 : cX2_stamp.data.toList.drop 119 = dktX2_stamp_5 := dk_seg dksX2_stamp_4 24 rfl rfl
theorem dX2_stamp_0 : decode cX2_stamp 0 = .ok (.aload_n 0, 1) := dk_42 (dk_at dksX2_stamp_0 0 rfl rfl)
theorem dX2_stamp_1 : decode cX2_stamp 1 = .ok (.getfield 10, 3) := dk_180 0 10 (dk_at dksX2_stamp_0 1 rfl rfl)
theorem dX2_stamp_4 : decode cX2_stamp 4 = .ok (.iload_n 1, 1) := dk_27 (dk_at dksX2_stamp_0 4 rfl rfl)
theorem dX2_stamp_5 : decode cX2_stamp 5 = .ok (.invokevirtual 42, 3) := dk_182 0 42 (dk_at dksX2_stamp_0 5 rfl rfl)
theorem dX2_stamp_8 : decode cX2_stamp 8 = .ok (.checkcast 64, 3) := dk_192 0 64 (dk_at dksX2_stamp_0 8 rfl rfl)
theorem dX2_stamp_11 : decode cX2_stamp 11 = .ok (.astore_n 3, 1) := dk_78 (dk_at dksX2_stamp_0 11 rfl rfl)
theorem dX2_stamp_12 : decode cX2_stamp 12 = .ok (.iload_n 2, 1) := dk_28 (dk_at dksX2_stamp_0 12 rfl rfl)
theorem dX2_stamp_13 : decode cX2_stamp 13 = .ok (.tableswitch 96 0 4 #[35, 45, 57, 69, 81], 35) := by decide +kernel
theorem dX2_stamp_48 : decode cX2_stamp 48 = .ok (.aload_n 3, 1) := dk_45 (dk_at dksX2_stamp_2 0 rfl rfl)
theorem dX2_stamp_49 : decode cX2_stamp 49 = .ok (.getfield 66, 3) := dk_180 0 66 (dk_at dksX2_stamp_2 1 rfl rfl)
theorem dX2_stamp_52 : decode cX2_stamp 52 = .ok (.invokevirtual 70, 3) := dk_182 0 70 (dk_at dksX2_stamp_2 4 rfl rfl)
theorem dX2_stamp_55 : decode cX2_stamp 55 = .ok (.goto 75, 3) := dk_167 0 75 (dk_at dksX2_stamp_2 7 rfl rfl)
theorem dX2_stamp_58 : decode cX2_stamp 58 = .ok (.aload_n 0, 1) := dk_42 (dk_at dksX2_stamp_2 10 rfl rfl)
theorem dX2_stamp_59 : decode cX2_stamp 59 = .ok (.getfield 29, 3) := dk_180 0 29 (dk_at dksX2_stamp_2 11 rfl rfl)
theorem dX2_stamp_62 : decode cX2_stamp 62 = .ok (.getfield 75, 3) := dk_180 0 75 (dk_at dksX2_stamp_2 14 rfl rfl)
theorem dX2_stamp_65 : decode cX2_stamp 65 = .ok (.iload_n 1, 1) := dk_27 (dk_at dksX2_stamp_2 17 rfl rfl)
theorem dX2_stamp_66 : decode cX2_stamp 66 = .ok (.iaload, 1) := dk_46 (dk_at dksX2_stamp_2 18 rfl rfl)
theorem dX2_stamp_67 : decode cX2_stamp 67 = .ok (.goto 63, 3) := dk_167 0 63 (dk_at dksX2_stamp_2 19 rfl rfl)
theorem dX2_stamp_70 : decode cX2_stamp 70 = .ok (.aload_n 0, 1) := dk_42 (dk_at dksX2_stamp_2 22 rfl rfl)
theorem dX2_stamp_71 : decode cX2_stamp 71 = .ok (.getfield 29, 3) := dk_180 0 29 (dk_at dksX2_stamp_3 0 rfl rfl)
theorem dX2_stamp_74 : decode cX2_stamp 74 = .ok (.getfield 79, 3) := dk_180 0 79 (dk_at dksX2_stamp_3 3 rfl rfl)
theorem dX2_stamp_77 : decode cX2_stamp 77 = .ok (.iload_n 1, 1) := dk_27 (dk_at dksX2_stamp_3 6 rfl rfl)
theorem dX2_stamp_78 : decode cX2_stamp 78 = .ok (.iaload, 1) := dk_46 (dk_at dksX2_stamp_3 7 rfl rfl)
theorem dX2_stamp_79 : decode cX2_stamp 79 = .ok (.goto 51, 3) := dk_167 0 51 (dk_at dksX2_stamp_3 8 rfl rfl)
theorem dX2_stamp_82 : decode cX2_stamp 82 = .ok (.aload_n 0, 1) := dk_42 (dk_at dksX2_stamp_3 11 rfl rfl)
theorem dX2_stamp_83 : decode cX2_stamp 83 = .ok (.getfield 29, 3) := dk_180 0 29 (dk_at dksX2_stamp_3 12 rfl rfl)
theorem dX2_stamp_86 : decode cX2_stamp 86 = .ok (.getfield 82, 3) := dk_180 0 82 (dk_at dksX2_stamp_3 15 rfl rfl)
theorem dX2_stamp_89 : decode cX2_stamp 89 = .ok (.iload_n 1, 1) := dk_27 (dk_at dksX2_stamp_3 18 rfl rfl)
theorem dX2_stamp_90 : decode cX2_stamp 90 = .ok (.iaload, 1) := dk_46 (dk_at dksX2_stamp_3 19 rfl rfl)
theorem dX2_stamp_91 : decode cX2_stamp 91 = .ok (.goto 39, 3) := dk_167 0 39 (dk_at dksX2_stamp_3 20 rfl rfl)
theorem dX2_stamp_94 : decode cX2_stamp 94 = .ok (.aload_n 3, 1) := dk_45 (dk_at dksX2_stamp_3 23 rfl rfl)
theorem dX2_stamp_95 : decode cX2_stamp 95 = .ok (.getfield 85, 3) := dk_180 0 85 (dk_at dksX2_stamp_4 0 rfl rfl)
theorem dX2_stamp_98 : decode cX2_stamp 98 = .ok (.ifnonnull 7, 3) := dk_199 0 7 (dk_at dksX2_stamp_4 3 rfl rfl)
theorem dX2_stamp_101 : decode cX2_stamp 101 = .ok (.iconst 0, 1) := dk_3 (dk_at dksX2_stamp_4 6 rfl rfl)
theorem dX2_stamp_102 : decode cX2_stamp 102 = .ok (.goto 28, 3) := dk_167 0 28 (dk_at dksX2_stamp_4 7 rfl rfl)
theorem dX2_stamp_105 : decode cX2_stamp 105 = .ok (.iconst 1, 1) := dk_4 (dk_at dksX2_stamp_4 10 rfl rfl)
theorem dX2_stamp_106 : decode cX2_stamp 106 = .ok (.goto 24, 3) := dk_167 0 24 (dk_at dksX2_stamp_4 11 rfl rfl)
theorem dX2_stamp_109 : decode cX2_stamp 109 = .ok (.aload_n 0, 1) := dk_42 (dk_at dksX2_stamp_4 14 rfl rfl)
theorem dX2_stamp_110 : decode cX2_stamp 110 = .ok (.getfield 29, 3) := dk_180 0 29 (dk_at dksX2_stamp_4 15 rfl rfl)
theorem dX2_stamp_113 : decode cX2_stamp 113 = .ok (.getfield 82, 3) := dk_180 0 82 (dk_at dksX2_stamp_4 18 rfl rfl)
theorem dX2_stamp_116 : decode cX2_stamp 116 = .ok (.iload_n 1, 1) := dk_27 (dk_at dksX2_stamp_4 21 rfl rfl)
theorem dX2_stamp_117 : decode cX2_stamp 117 = .ok (.iaload, 1) := dk_46 (dk_at dksX2_stamp_4 22 rfl rfl)
theorem dX2_stamp_118 : decode cX2_stamp 118 = .ok (.aload_n 0, 1) := dk_42 (dk_at dksX2_stamp_4 23 rfl rfl)
theorem dX2_stamp_119 : decode cX2_stamp 119 = .ok (.getfield 19, 3) := dk_180 0 19 (dk_at dksX2_stamp_5 0 rfl rfl)
theorem dX2_stamp_122 : decode cX2_stamp 122 = .ok (.if_icmp .lt 7, 3) := dk_161 0 7 (dk_at dksX2_stamp_5 3 rfl rfl)
theorem dX2_stamp_125 : decode cX2_stamp 125 = .ok (.iconst 1, 1) := dk_4 (dk_at dksX2_stamp_5 6 rfl rfl)
theorem dX2_stamp_126 : decode cX2_stamp 126 = .ok (.goto 4, 3) := dk_167 0 4 (dk_at dksX2_stamp_5 7 rfl rfl)
theorem dX2_stamp_129 : decode cX2_stamp 129 = .ok (.iconst 0, 1) := dk_3 (dk_at dksX2_stamp_5 10 rfl rfl)
theorem dX2_stamp_130 : decode cX2_stamp 130 = .ok (.ireturn, 1) := dk_172 (dk_at dksX2_stamp_5 11 rfl rfl)
theorem q63 : (Jvm.Cond.initialized "RubberStamps$State") ∈ lw_all := lw_g (lw_at lw_m1 2 rfl) rfl
theorem q108 : (Jvm.Cond.instantiable "RubberStamps$State" (5 : Nat)) ∈ lw_all := lw_g (lw_at lw_m1 47 rfl) rfl
theorem q110 : (Jvm.Cond.instanceMethod ({ cls := "RubberStamps$State", name := "<init>", desc := "()V" } : Jvm.MethodName)) ∈ lw_all := lw_g (lw_at lw_m1 49 rfl) rfl
theorem q111 : (Jvm.Cond.code ({ cls := "RubberStamps$State", name := "<init>", desc := "()V" } : Jvm.MethodName) prog_7_method_1_code (1 : Nat) (Option.none : Option Jvm.ClassFile.FieldType)) ∈ lw_all := lw_g (lw_at lw_m1 50 rfl) rfl
theorem q112 : (Jvm.Cond.methodLink "RubberStamps$State" (1 : Nat) ({ cls := "java/lang/Object", name := "<init>", desc := "()V" } : Jvm.MethodName)) ∈ lw_all := lw_g (lw_at lw_m1 51 rfl) rfl
theorem q113 : (Jvm.Cond.classLink "RubberStamps$State" (7 : Nat) "java/util/ArrayList") ∈ lw_all := lw_g (lw_at lw_m1 52 rfl) rfl
theorem q115 : (Jvm.Cond.methodLink "RubberStamps$State" (9 : Nat) ({ cls := "java/util/ArrayList", name := "<init>", desc := "()V" } : Jvm.MethodName)) ∈ lw_all := lw_g (lw_at lw_m1 54 rfl) rfl
theorem q139 : (Jvm.Cond.classLink "RubberStamps$State" (26 : Nat) "RubberStamps$Inks") ∈ lw_all := lw_g (lw_at lw_m1 78 rfl) rfl
theorem q141 : (Jvm.Cond.methodLink "RubberStamps$State" (28 : Nat) ({ cls := "RubberStamps$Inks", name := "<init>", desc := "()V" } : Jvm.MethodName)) ∈ lw_all := lw_g (lw_at lw_m1 80 rfl) rfl
theorem q149 : (Jvm.Cond.fieldLinkNest "RubberStamps$State" (75 : Nat) "RubberStamps$Inks" "ink" "[I" "RubberStamps") ∈ lw_tbl := lw_at lw_m1 88 rfl
theorem q151 : (Jvm.Cond.fieldLinkNest "RubberStamps$State" (79 : Nat) "RubberStamps$Inks" "amount" "[I" "RubberStamps") ∈ lw_tbl := lw_at lw_m1 90 rfl
theorem q153 : (Jvm.Cond.fieldLinkNest "RubberStamps$State" (82 : Nat) "RubberStamps$Inks" "wear" "[I" "RubberStamps") ∈ lw_tbl := lw_at lw_m1 92 rfl
theorem q176 : (Jvm.Cond.fieldLink "RubberStamps$State" (10 : Nat) "RubberStamps$State" "stamps" "Ljava/util/ArrayList;") ∈ lw_all := lw_g (lw_at lw_m1 115 rfl) rfl
theorem q179 : (Jvm.Cond.fieldLink "RubberStamps$State" (16 : Nat) "RubberStamps$State" "words" "Ljava/util/ArrayList;") ∈ lw_all := lw_g (lw_at lw_m1 118 rfl) rfl
theorem q183 : (Jvm.Cond.fieldLink "RubberStamps$State" (19 : Nat) "RubberStamps$State" "limit" "I") ∈ lw_all := lw_g (lw_at lw_m1 122 rfl) rfl
theorem q186 : (Jvm.Cond.fieldLink "RubberStamps$State" (23 : Nat) "RubberStamps$State" "load" "I") ∈ lw_all := lw_g (lw_at lw_m1 125 rfl) rfl
theorem q189 : (Jvm.Cond.fieldLink "RubberStamps$State" (29 : Nat) "RubberStamps$State" "inks" "LRubberStamps$Inks;") ∈ lw_all := lw_g (lw_at lw_m1 128 rfl) rfl
theorem q192 : (Jvm.Cond.laysFinal "RubberStamps$State" "RubberStamps$State" "stamps" "Ljava/util/ArrayList;") ∈ lw_all := lw_g (lw_at lw_m1 131 rfl) rfl
theorem q193 : (Jvm.Cond.soleField "RubberStamps$State" "stamps") ∈ lw_all := lw_g (lw_at lw_m1 132 rfl) rfl
theorem q194 : (Jvm.Cond.laysFinal "RubberStamps$State" "RubberStamps$State" "words" "Ljava/util/ArrayList;") ∈ lw_all := lw_g (lw_at lw_m1 133 rfl) rfl
theorem q195 : (Jvm.Cond.soleField "RubberStamps$State" "words") ∈ lw_all := lw_g (lw_at lw_m1 134 rfl) rfl
theorem q196 : (Jvm.Cond.lays "RubberStamps$State" "RubberStamps$State" "limit" "I") ∈ lw_all := lw_g (lw_at lw_m1 135 rfl) rfl
theorem q197 : (Jvm.Cond.soleField "RubberStamps$State" "limit") ∈ lw_all := lw_g (lw_at lw_m1 136 rfl) rfl
theorem q198 : (Jvm.Cond.lays "RubberStamps$State" "RubberStamps$State" "load" "I") ∈ lw_all := lw_g (lw_at lw_m1 137 rfl) rfl
theorem q199 : (Jvm.Cond.soleField "RubberStamps$State" "load") ∈ lw_all := lw_g (lw_at lw_m1 138 rfl) rfl
theorem q200 : (Jvm.Cond.laysFinal "RubberStamps$State" "RubberStamps$State" "inks" "LRubberStamps$Inks;") ∈ lw_all := lw_g (lw_at lw_m1 139 rfl) rfl
theorem q201 : (Jvm.Cond.soleField "RubberStamps$State" "inks") ∈ lw_all := lw_g (lw_at lw_m1 140 rfl) rfl
theorem q202 : (Jvm.Cond.superclass "RubberStamps$State" "java/lang/Object") ∈ lw_all := lw_g (lw_at lw_m1 141 rfl) rfl
theorem q748 : (Jvm.Cond.fieldLinkNest "RubberStamps$State" (66 : Nat) "RubberStamps$Stamp" "letters" "Ljava/lang/String;" "RubberStamps") ∈ lw_tbl := lw_at lw_m3 207 rfl
theorem q752 : (Jvm.Cond.fieldLinkNest "RubberStamps$State" (85 : Nat) "RubberStamps$Stamp" "turned" "Ljava/lang/String;" "RubberStamps") ∈ lw_tbl := lw_at lw_m3 211 rfl
theorem q788 : (Jvm.Cond.selects "RubberStamps$State" ({ cls := "java/lang/Object", name := "getClass", desc := "()Ljava/lang/Class;" } : Jvm.MethodName) ({ cls := "java/lang/Object", name := "getClass", desc := "()Ljava/lang/Class;" } : Jvm.MethodName)) ∈ lw_all := lw_g (lw_at lw_m4 7 rfl) rfl
theorem q852 : (Jvm.Cond.instanceMethod ({ cls := "RubberStamps$State", name := "copy", desc := "()LRubberStamps$State;" } : Jvm.MethodName)) ∈ lw_all := lw_g (lw_at lw_m4 71 rfl) rfl
theorem q853 : (Jvm.Cond.selects "RubberStamps$State" ({ cls := "RubberStamps$State", name := "copy", desc := "()LRubberStamps$State;" } : Jvm.MethodName) ({ cls := "RubberStamps$State", name := "copy", desc := "()LRubberStamps$State;" } : Jvm.MethodName)) ∈ lw_all := lw_g (lw_at lw_m4 72 rfl) rfl
theorem q854 : (Jvm.Cond.code ({ cls := "RubberStamps$State", name := "copy", desc := "()LRubberStamps$State;" } : Jvm.MethodName) prog_7_method_2_code (3 : Nat) (Option.some (Jvm.ClassFile.FieldType.object "RubberStamps$State"))) ∈ lw_all := lw_g (lw_at lw_m4 73 rfl) rfl
theorem q855 : (Jvm.Cond.classLink "RubberStamps$State" (11 : Nat) "RubberStamps$State") ∈ lw_all := lw_g (lw_at lw_m4 74 rfl) rfl
theorem q856 : (Jvm.Cond.methodLink "RubberStamps$State" (33 : Nat) ({ cls := "RubberStamps$State", name := "<init>", desc := "()V" } : Jvm.MethodName)) ∈ lw_all := lw_g (lw_at lw_m4 75 rfl) rfl
theorem q857 : (Jvm.Cond.methodLink "RubberStamps$State" (34 : Nat) ({ cls := "java/util/ArrayList", name := "addAll", desc := "(Ljava/util/Collection;)Z" } : Jvm.MethodName)) ∈ lw_all := lw_g (lw_at lw_m4 76 rfl) rfl
theorem q887 : (Jvm.Cond.methodLink "RubberStamps$State" (38 : Nat) ({ cls := "java/util/ArrayList", name := "size", desc := "()I" } : Jvm.MethodName)) ∈ lw_all := lw_g (lw_at lw_m4 106 rfl) rfl
theorem q888 : (Jvm.Cond.methodLink "RubberStamps$State" (42 : Nat) ({ cls := "java/util/ArrayList", name := "get", desc := "(I)Ljava/lang/Object;" } : Jvm.MethodName)) ∈ lw_all := lw_g (lw_at lw_m4 107 rfl) rfl
theorem q900 : (Jvm.Cond.classLink "RubberStamps$State" (46 : Nat) "RubberStamps$Word") ∈ lw_all := lw_g (lw_at lw_m4 119 rfl) rfl
theorem q901 : (Jvm.Cond.methodLink "RubberStamps$State" (48 : Nat) ({ cls := "RubberStamps$Word", name := "copy", desc := "()LRubberStamps$Word;" } : Jvm.MethodName)) ∈ lw_all := lw_g (lw_at lw_m4 120 rfl) rfl
theorem q907 : (Jvm.Cond.methodLink "RubberStamps$State" (52 : Nat) ({ cls := "java/util/ArrayList", name := "add", desc := "(Ljava/lang/Object;)Z" } : Jvm.MethodName)) ∈ lw_all := lw_g (lw_at lw_m4 126 rfl) rfl
theorem q908 : (Jvm.Cond.methodLink "RubberStamps$State" (56 : Nat) ({ cls := "RubberStamps$Inks", name := "takes", desc := "(LRubberStamps$Inks;)LRubberStamps$Inks;" } : Jvm.MethodName)) ∈ lw_all := lw_g (lw_at lw_m4 127 rfl) rfl
theorem q1128 : (Jvm.Cond.instanceMethod ({ cls := "RubberStamps$State", name := "usable", desc := "()I" } : Jvm.MethodName)) ∈ lw_all := lw_g (lw_at lw_m5 107 rfl) rfl
theorem q1129 : (Jvm.Cond.selects "RubberStamps$State" ({ cls := "RubberStamps$State", name := "usable", desc := "()I" } : Jvm.MethodName) ({ cls := "RubberStamps$State", name := "usable", desc := "()I" } : Jvm.MethodName)) ∈ lw_all := lw_g (lw_at lw_m5 108 rfl) rfl
theorem q1130 : (Jvm.Cond.code ({ cls := "RubberStamps$State", name := "usable", desc := "()I" } : Jvm.MethodName) prog_7_method_3_code (1 : Nat) (Option.some Jvm.ClassFile.FieldType.int)) ∈ lw_all := lw_g (lw_at lw_m5 109 rfl) rfl
theorem q1131 : (Jvm.Cond.methodLink "RubberStamps$State" (60 : Nat) ({ cls := "RubberStamps$Inks", name := "usable", desc := "(II)I" } : Jvm.MethodName)) ∈ lw_all := lw_g (lw_at lw_m5 110 rfl) rfl
theorem q1182 : (Jvm.Cond.instanceMethod ({ cls := "RubberStamps$State", name := "stamp", desc := "(II)I" } : Jvm.MethodName)) ∈ lw_all := lw_g (lw_at lw_m5 161 rfl) rfl
theorem q1183 : (Jvm.Cond.selects "RubberStamps$State" ({ cls := "RubberStamps$State", name := "stamp", desc := "(II)I" } : Jvm.MethodName) ({ cls := "RubberStamps$State", name := "stamp", desc := "(II)I" } : Jvm.MethodName)) ∈ lw_all := lw_g (lw_at lw_m5 162 rfl) rfl
theorem q1184 : (Jvm.Cond.code ({ cls := "RubberStamps$State", name := "stamp", desc := "(II)I" } : Jvm.MethodName) prog_7_method_4_code (4 : Nat) (Option.some Jvm.ClassFile.FieldType.int)) ∈ lw_all := lw_g (lw_at lw_m5 163 rfl) rfl
theorem q1185 : (Jvm.Cond.classLink "RubberStamps$State" (64 : Nat) "RubberStamps$Stamp") ∈ lw_all := lw_g (lw_at lw_m5 164 rfl) rfl
theorem q1186 : (Jvm.Cond.methodLink "RubberStamps$State" (70 : Nat) ({ cls := "java/lang/String", name := "length", desc := "()I" } : Jvm.MethodName)) ∈ lw_all := lw_g (lw_at lw_m5 165 rfl) rfl
theorem q1802 : (Jvm.Cond.castable "RubberStamps$State" "java/lang/Object") ∈ lw_tbl := lw_at lw_m8 61 rfl
theorem in_X2 : ∀ w ∈ wsX20, w ∈ lw_all := lw_in wsX20 [192, 194, 196, 198, 200] (by decide +kernel) (by decide +kernel)
/-! RubberStamps$Inks -/
set_option maxRecDepth 100000
def RX3 : String := "RubberStamps$Inks"
def TX3 : u_T := fun k => match k with
  | 0 => ("RubberStamps$Inks", "ink", "[I", true)
  | 1 => ("RubberStamps$Inks", "amount", "[I", true)
  | 2 => ("RubberStamps$Inks", "wear", "[I", true)
  | 3 => ("RubberStamps$Inks", "presses", "I", false)
  | 4 => ("RubberStamps$Inks", "inkings", "I", false)
  | _ => ("RubberStamps$Inks", "cleanings", "I", false)
def tyX3 : Nat → FieldType := fun k => match k with
  | 0 => .array .int
  | 1 => .array .int
  | 2 => .array .int
  | 3 => .int
  | 4 => .int
  | _ => .int
abbrev wsX30 : List Cond := u_ws RX3 TX3 6
theorem nmX3 : ∀ a, a < 6 → ∀ b, b < 6 → a ≠ b → (TX3 a).2.1 ≠ (TX3 b).2.1 := by decide +kernel
theorem tyX3_ok : ∀ k, k < 6 → parseFieldDescriptor (TX3 k).2.2.1 = some (tyX3 k) := by decide +kernel
abbrev cX3_init : ByteArray := prog_2_method_1_code
def yX3_init : MethodName := ⟨RX3, "<init>", "()V"⟩
def dkwX3_init_1 : List UInt8 := [188, 10, 181, 0, 18, 42, 180, 0, 9, 2, 184, 0, 21, 177]
abbrev dktX3_init_1 : List UInt8 := dkwX3_init_1 ++ []
def dkwX3_init_0 : List UInt8 := [42, 183, 0, 3, 42, 16, 10, 188, 10, 181, 0, 9, 42, 16, 10, 188, 10, 181, 0, 15, 42, 16, 10]
abbrev dktX3_init_0 : List UInt8 := dkwX3_init_0 ++ dktX3_init_1
theorem dksX3_init_0 : cX3_init.data.toList.drop 0 = dktX3_init_0 := by decide +kernel
theorem dksX3_init_1 : cX3_init.data.toList.drop 23 = dktX3_init_1 := dk_seg dksX3_init_0 23 rfl rfl
theorem dX3_init_0 : decode cX3_init 0 = .ok (.aload_n 0, 1) := dk_42 (dk_at dksX3_init_0 0 rfl rfl)
theorem dX3_init_1 : decode cX3_init 1 = .ok (.invokespecial 3, 3) := dk_183 0 3 (dk_at dksX3_init_0 1 rfl rfl)
theorem dX3_init_4 : decode cX3_init 4 = .ok (.aload_n 0, 1) := dk_42 (dk_at dksX3_init_0 4 rfl rfl)
theorem dX3_init_5 : decode cX3_init 5 = .ok (.bipush 10, 2) := dk_16 10 (dk_at dksX3_init_0 5 rfl rfl)
theorem dX3_init_7 : decode cX3_init 7 = .ok (.newarray .int, 2) := dk_188_10 (dk_at dksX3_init_0 7 rfl rfl)
theorem dX3_init_9 : decode cX3_init 9 = .ok (.putfield 9, 3) := dk_181 0 9 (dk_at dksX3_init_0 9 rfl rfl)
theorem dX3_init_12 : decode cX3_init 12 = .ok (.aload_n 0, 1) := dk_42 (dk_at dksX3_init_0 12 rfl rfl)
theorem dX3_init_13 : decode cX3_init 13 = .ok (.bipush 10, 2) := dk_16 10 (dk_at dksX3_init_0 13 rfl rfl)
theorem dX3_init_15 : decode cX3_init 15 = .ok (.newarray .int, 2) := dk_188_10 (dk_at dksX3_init_0 15 rfl rfl)
theorem dX3_init_17 : decode cX3_init 17 = .ok (.putfield 15, 3) := dk_181 0 15 (dk_at dksX3_init_0 17 rfl rfl)
theorem dX3_init_20 : decode cX3_init 20 = .ok (.aload_n 0, 1) := dk_42 (dk_at dksX3_init_0 20 rfl rfl)
theorem dX3_init_21 : decode cX3_init 21 = .ok (.bipush 10, 2) := dk_16 10 (dk_at dksX3_init_0 21 rfl rfl)
theorem dX3_init_23 : decode cX3_init 23 = .ok (.newarray .int, 2) := dk_188_10 (dk_at dksX3_init_1 0 rfl rfl)
theorem dX3_init_25 : decode cX3_init 25 = .ok (.putfield 18, 3) := dk_181 0 18 (dk_at dksX3_init_1 2 rfl rfl)
theorem dX3_init_28 : decode cX3_init 28 = .ok (.aload_n 0, 1) := dk_42 (dk_at dksX3_init_1 5 rfl rfl)
theorem dX3_init_29 : decode cX3_init 29 = .ok (.getfield 9, 3) := dk_180 0 9 (dk_at dksX3_init_1 6 rfl rfl)
theorem dX3_init_32 : decode cX3_init 32 = .ok (.iconst (-1), 1) := dk_2 (dk_at dksX3_init_1 9 rfl rfl)
theorem dX3_init_33 : decode cX3_init 33 = .ok (.invokestatic 21, 3) := dk_184 0 21 (dk_at dksX3_init_1 10 rfl rfl)
theorem dX3_init_36 : decode cX3_init 36 = .ok (.return_, 1) := dk_177 (dk_at dksX3_init_1 13 rfl rfl)
abbrev cX3_takes : ByteArray := prog_2_method_2_code
def yX3_takes : MethodName := ⟨RX3, "takes", "(LRubberStamps$Inks;)LRubberStamps$Inks;"⟩
def dkwX3_takes_2 : List UInt8 := [180, 0, 33, 181, 0, 33, 42, 43, 180, 0, 37, 181, 0, 37, 42, 43, 180, 0, 40, 181, 0, 40, 42, 176]
abbrev dktX3_takes_2 : List UInt8 := dkwX3_takes_2 ++ []
def dkwX3_takes_1 : List UInt8 := [3, 16, 10, 184, 0, 27, 43, 180, 0, 18, 3, 42, 180, 0, 18, 3, 16, 10, 184, 0, 27, 42, 43]
abbrev dktX3_takes_1 : List UInt8 := dkwX3_takes_1 ++ dktX3_takes_2
def dkwX3_takes_0 : List UInt8 := [43, 180, 0, 9, 3, 42, 180, 0, 9, 3, 16, 10, 184, 0, 27, 43, 180, 0, 15, 3, 42, 180, 0, 15]
abbrev dktX3_takes_0 : List UInt8 := dkwX3_takes_0 ++ dktX3_takes_1
theorem dksX3_takes_0 : cX3_takes.data.toList.drop 0 = dktX3_takes_0 := by decide +kernel
theorem dksX3_takes_1 : cX3_takes.data.toList.drop 24 = dktX3_takes_1 := dk_seg dksX3_takes_0 24 rfl rfl
theorem dksX3_takes_2 : cX3_takes.data.toList.drop 47 = dktX3_takes_2 := dk_seg dksX3_takes_1 23 rfl rfl
theorem dX3_takes_0 : decode cX3_takes 0 = .ok (.aload_n 1, 1) := dk_43 (dk_at dksX3_takes_0 0 rfl rfl)
theorem dX3_takes_1 : decode cX3_takes 1 = .ok (.getfield 9, 3) := dk_180 0 9 (dk_at dksX3_takes_0 1 rfl rfl)
theorem dX3_takes_4 : decode cX3_takes 4 = .ok (.iconst 0, 1) := dk_3 (dk_at dksX3_takes_0 4 rfl rfl)
theorem dX3_takes_5 : decode cX3_takes 5 = .ok (.aload_n 0, 1) := dk_42 (dk_at dksX3_takes_0 5 rfl rfl)
theorem dX3_takes_6 : decode cX3_takes 6 = .ok (.getfield 9, 3) := dk_180 0 9 (dk_at dksX3_takes_0 6 rfl rfl)
theorem dX3_takes_9 : decode cX3_takes 9 = .ok (.iconst 0, 1) := dk_3 (dk_at dksX3_takes_0 9 rfl rfl)
theorem dX3_takes_10 : decode cX3_takes 10 = .ok (.bipush 10, 2) := dk_16 10 (dk_at dksX3_takes_0 10 rfl rfl)
theorem dX3_takes_12 : decode cX3_takes 12 = .ok (.invokestatic 27, 3) := dk_184 0 27 (dk_at dksX3_takes_0 12 rfl rfl)
theorem dX3_takes_15 : decode cX3_takes 15 = .ok (.aload_n 1, 1) := dk_43 (dk_at dksX3_takes_0 15 rfl rfl)
theorem dX3_takes_16 : decode cX3_takes 16 = .ok (.getfield 15, 3) := dk_180 0 15 (dk_at dksX3_takes_0 16 rfl rfl)
theorem dX3_takes_19 : decode cX3_takes 19 = .ok (.iconst 0, 1) := dk_3 (dk_at dksX3_takes_0 19 rfl rfl)
theorem dX3_takes_20 : decode cX3_takes 20 = .ok (.aload_n 0, 1) := dk_42 (dk_at dksX3_takes_0 20 rfl rfl)
theorem dX3_takes_21 : decode cX3_takes 21 = .ok (.getfield 15, 3) := dk_180 0 15 (dk_at dksX3_takes_0 21 rfl rfl)
theorem dX3_takes_24 : decode cX3_takes 24 = .ok (.iconst 0, 1) := dk_3 (dk_at dksX3_takes_1 0 rfl rfl)
theorem dX3_takes_25 : decode cX3_takes 25 = .ok (.bipush 10, 2) := dk_16 10 (dk_at dksX3_takes_1 1 rfl rfl)
theorem dX3_takes_27 : decode cX3_takes 27 = .ok (.invokestatic 27, 3) := dk_184 0 27 (dk_at dksX3_takes_1 3 rfl rfl)
theorem dX3_takes_30 : decode cX3_takes 30 = .ok (.aload_n 1, 1) := dk_43 (dk_at dksX3_takes_1 6 rfl rfl)
theorem dX3_takes_31 : decode cX3_takes 31 = .ok (.getfield 18, 3) := dk_180 0 18 (dk_at dksX3_takes_1 7 rfl rfl)
theorem dX3_takes_34 : decode cX3_takes 34 = .ok (.iconst 0, 1) := dk_3 (dk_at dksX3_takes_1 10 rfl rfl)
theorem dX3_takes_35 : decode cX3_takes 35 = .ok (.aload_n 0, 1) := dk_42 (dk_at dksX3_takes_1 11 rfl rfl)
theorem dX3_takes_36 : decode cX3_takes 36 = .ok (.getfield 18, 3) := dk_180 0 18 (dk_at dksX3_takes_1 12 rfl rfl)
theorem dX3_takes_39 : decode cX3_takes 39 = .ok (.iconst 0, 1) := dk_3 (dk_at dksX3_takes_1 15 rfl rfl)
theorem dX3_takes_40 : decode cX3_takes 40 = .ok (.bipush 10, 2) := dk_16 10 (dk_at dksX3_takes_1 16 rfl rfl)
theorem dX3_takes_42 : decode cX3_takes 42 = .ok (.invokestatic 27, 3) := dk_184 0 27 (dk_at dksX3_takes_1 18 rfl rfl)
theorem dX3_takes_45 : decode cX3_takes 45 = .ok (.aload_n 0, 1) := dk_42 (dk_at dksX3_takes_1 21 rfl rfl)
theorem dX3_takes_46 : decode cX3_takes 46 = .ok (.aload_n 1, 1) := dk_43 (dk_at dksX3_takes_1 22 rfl rfl)
theorem dX3_takes_47 : decode cX3_takes 47 = .ok (.getfield 33, 3) := dk_180 0 33 (dk_at dksX3_takes_2 0 rfl rfl)
theorem dX3_takes_50 : decode cX3_takes 50 = .ok (.putfield 33, 3) := dk_181 0 33 (dk_at dksX3_takes_2 3 rfl rfl)
theorem dX3_takes_53 : decode cX3_takes 53 = .ok (.aload_n 0, 1) := dk_42 (dk_at dksX3_takes_2 6 rfl rfl)
theorem dX3_takes_54 : decode cX3_takes 54 = .ok (.aload_n 1, 1) := dk_43 (dk_at dksX3_takes_2 7 rfl rfl)
theorem dX3_takes_55 : decode cX3_takes 55 = .ok (.getfield 37, 3) := dk_180 0 37 (dk_at dksX3_takes_2 8 rfl rfl)
theorem dX3_takes_58 : decode cX3_takes 58 = .ok (.putfield 37, 3) := dk_181 0 37 (dk_at dksX3_takes_2 11 rfl rfl)
theorem dX3_takes_61 : decode cX3_takes 61 = .ok (.aload_n 0, 1) := dk_42 (dk_at dksX3_takes_2 14 rfl rfl)
theorem dX3_takes_62 : decode cX3_takes 62 = .ok (.aload_n 1, 1) := dk_43 (dk_at dksX3_takes_2 15 rfl rfl)
theorem dX3_takes_63 : decode cX3_takes 63 = .ok (.getfield 40, 3) := dk_180 0 40 (dk_at dksX3_takes_2 16 rfl rfl)
theorem dX3_takes_66 : decode cX3_takes 66 = .ok (.putfield 40, 3) := dk_181 0 40 (dk_at dksX3_takes_2 19 rfl rfl)
theorem dX3_takes_69 : decode cX3_takes 69 = .ok (.aload_n 0, 1) := dk_42 (dk_at dksX3_takes_2 22 rfl rfl)
theorem dX3_takes_70 : decode cX3_takes 70 = .ok (.areturn, 1) := dk_176 (dk_at dksX3_takes_2 23 rfl rfl)
abbrev cX3_usable : ByteArray := prog_2_method_6_code
def yX3_usable : MethodName := ⟨RX3, "usable", "(II)I"⟩
def dkwX3_usable_1 : List UInt8 := [167, 0, 7, 4, 21, 4, 120, 128, 62, 132, 4, 1, 167, 255, 225, 29, 172]
abbrev dktX3_usable_1 : List UInt8 := dkwX3_usable_1 ++ []
def dkwX3_usable_0 : List UInt8 := [3, 62, 3, 54, 4, 21, 4, 27, 162, 0, 31, 29, 42, 180, 0, 18, 21, 4, 46, 28, 161, 0, 7, 3]
abbrev dktX3_usable_0 : List UInt8 := dkwX3_usable_0 ++ dktX3_usable_1
theorem dksX3_usable_0 : cX3_usable.data.toList.drop 0 = dktX3_usable_0 := by decide +kernel
theorem dksX3_usable_1 : cX3_usable.data.toList.drop 24 = dktX3_usable_1 := dk_seg dksX3_usable_0 24 rfl rfl
theorem dX3_usable_0 : decode cX3_usable 0 = .ok (.iconst 0, 1) := dk_3 (dk_at dksX3_usable_0 0 rfl rfl)
theorem dX3_usable_1 : decode cX3_usable 1 = .ok (.istore_n 3, 1) := dk_62 (dk_at dksX3_usable_0 1 rfl rfl)
theorem dX3_usable_2 : decode cX3_usable 2 = .ok (.iconst 0, 1) := dk_3 (dk_at dksX3_usable_0 2 rfl rfl)
theorem dX3_usable_3 : decode cX3_usable 3 = .ok (.istore 4, 2) := dk_54 4 (dk_at dksX3_usable_0 3 rfl rfl)
theorem dX3_usable_5 : decode cX3_usable 5 = .ok (.iload 4, 2) := dk_21 4 (dk_at dksX3_usable_0 5 rfl rfl)
theorem dX3_usable_7 : decode cX3_usable 7 = .ok (.iload_n 1, 1) := dk_27 (dk_at dksX3_usable_0 7 rfl rfl)
theorem dX3_usable_8 : decode cX3_usable 8 = .ok (.if_icmp .ge 31, 3) := dk_162 0 31 (dk_at dksX3_usable_0 8 rfl rfl)
theorem dX3_usable_11 : decode cX3_usable 11 = .ok (.iload_n 3, 1) := dk_29 (dk_at dksX3_usable_0 11 rfl rfl)
theorem dX3_usable_12 : decode cX3_usable 12 = .ok (.aload_n 0, 1) := dk_42 (dk_at dksX3_usable_0 12 rfl rfl)
theorem dX3_usable_13 : decode cX3_usable 13 = .ok (.getfield 18, 3) := dk_180 0 18 (dk_at dksX3_usable_0 13 rfl rfl)
theorem dX3_usable_16 : decode cX3_usable 16 = .ok (.iload 4, 2) := dk_21 4 (dk_at dksX3_usable_0 16 rfl rfl)
theorem dX3_usable_18 : decode cX3_usable 18 = .ok (.iaload, 1) := dk_46 (dk_at dksX3_usable_0 18 rfl rfl)
theorem dX3_usable_19 : decode cX3_usable 19 = .ok (.iload_n 2, 1) := dk_28 (dk_at dksX3_usable_0 19 rfl rfl)
theorem dX3_usable_20 : decode cX3_usable 20 = .ok (.if_icmp .lt 7, 3) := dk_161 0 7 (dk_at dksX3_usable_0 20 rfl rfl)
theorem dX3_usable_23 : decode cX3_usable 23 = .ok (.iconst 0, 1) := dk_3 (dk_at dksX3_usable_0 23 rfl rfl)
theorem dX3_usable_24 : decode cX3_usable 24 = .ok (.goto 7, 3) := dk_167 0 7 (dk_at dksX3_usable_1 0 rfl rfl)
theorem dX3_usable_27 : decode cX3_usable 27 = .ok (.iconst 1, 1) := dk_4 (dk_at dksX3_usable_1 3 rfl rfl)
theorem dX3_usable_28 : decode cX3_usable 28 = .ok (.iload 4, 2) := dk_21 4 (dk_at dksX3_usable_1 4 rfl rfl)
theorem dX3_usable_30 : decode cX3_usable 30 = .ok (.ishl, 1) := dk_120 (dk_at dksX3_usable_1 6 rfl rfl)
theorem dX3_usable_31 : decode cX3_usable 31 = .ok (.ior, 1) := dk_128 (dk_at dksX3_usable_1 7 rfl rfl)
theorem dX3_usable_32 : decode cX3_usable 32 = .ok (.istore_n 3, 1) := dk_62 (dk_at dksX3_usable_1 8 rfl rfl)
theorem dX3_usable_33 : decode cX3_usable 33 = .ok (.iinc 4 1, 3) := dk_132 4 1 (dk_at dksX3_usable_1 9 rfl rfl)
theorem dX3_usable_36 : decode cX3_usable 36 = .ok (.goto (-31), 3) := dk_167 255 225 (dk_at dksX3_usable_1 12 rfl rfl)
theorem dX3_usable_39 : decode cX3_usable 39 = .ok (.iload_n 3, 1) := dk_29 (dk_at dksX3_usable_1 15 rfl rfl)
theorem dX3_usable_40 : decode cX3_usable 40 = .ok (.ireturn, 1) := dk_172 (dk_at dksX3_usable_1 16 rfl rfl)
abbrev cX3_press : ByteArray := prog_2_method_4_code
def yX3_press : MethodName := ⟨RX3, "press", "(III)V"⟩
def dkwX3_press_4 : List UInt8 := [96, 79, 42, 89, 180, 0, 33, 4, 96, 181, 0, 33, 177]
abbrev dktX3_press_4 : List UInt8 := dkwX3_press_4 ++ []
def dkwX3_press_3 : List UInt8 := [180, 0, 15, 27, 29, 79, 42, 180, 0, 15, 27, 92, 46, 4, 100, 79, 42, 180, 0, 18, 27, 92, 46, 4]
abbrev dktX3_press_3 : List UInt8 := dkwX3_press_3 ++ dktX3_press_4
def dkwX3_press_2 : List UInt8 := [27, 46, 2, 159, 0, 7, 4, 167, 0, 4, 3, 96, 181, 0, 40, 42, 180, 0, 9, 27, 28, 79, 42]
abbrev dktX3_press_2 : List UInt8 := dkwX3_press_2 ++ dktX3_press_3
def dkwX3_press_1 : List UInt8 := [4, 96, 181, 0, 37, 42, 89, 180, 0, 40, 42, 180, 0, 9, 27, 46, 28, 159, 0, 17, 42, 180, 0, 9]
abbrev dktX3_press_1 : List UInt8 := dkwX3_press_1 ++ dktX3_press_2
def dkwX3_press_0 : List UInt8 := [42, 180, 0, 9, 27, 46, 28, 160, 0, 12, 42, 180, 0, 15, 27, 46, 154, 0, 61, 42, 89, 180, 0, 37]
abbrev dktX3_press_0 : List UInt8 := dkwX3_press_0 ++ dktX3_press_1
theorem dksX3_press_0 : cX3_press.data.toList.drop 0 = dktX3_press_0 := by decide +kernel
theorem dksX3_press_1 : cX3_press.data.toList.drop 24 = dktX3_press_1 := dk_seg dksX3_press_0 24 rfl rfl
theorem dksX3_press_2 : cX3_press.data.toList.drop 48 = dktX3_press_2 := dk_seg dksX3_press_1 24 rfl rfl
theorem dksX3_press_3 : cX3_press.data.toList.drop 71 = dktX3_press_3 := dk_seg dksX3_press_2 23 rfl rfl
theorem dksX3_press_4 : cX3_press.data.toList.drop 95 = dktX3_press_4 := dk_seg dksX3_press_3 24 rfl rfl
theorem dX3_press_0 : decode cX3_press 0 = .ok (.aload_n 0, 1) := dk_42 (dk_at dksX3_press_0 0 rfl rfl)
theorem dX3_press_1 : decode cX3_press 1 = .ok (.getfield 9, 3) := dk_180 0 9 (dk_at dksX3_press_0 1 rfl rfl)
theorem dX3_press_4 : decode cX3_press 4 = .ok (.iload_n 1, 1) := dk_27 (dk_at dksX3_press_0 4 rfl rfl)
theorem dX3_press_5 : decode cX3_press 5 = .ok (.iaload, 1) := dk_46 (dk_at dksX3_press_0 5 rfl rfl)
theorem dX3_press_6 : decode cX3_press 6 = .ok (.iload_n 2, 1) := dk_28 (dk_at dksX3_press_0 6 rfl rfl)
theorem dX3_press_7 : decode cX3_press 7 = .ok (.if_icmp .ne 12, 3) := dk_160 0 12 (dk_at dksX3_press_0 7 rfl rfl)
theorem dX3_press_10 : decode cX3_press 10 = .ok (.aload_n 0, 1) := dk_42 (dk_at dksX3_press_0 10 rfl rfl)
theorem dX3_press_11 : decode cX3_press 11 = .ok (.getfield 15, 3) := dk_180 0 15 (dk_at dksX3_press_0 11 rfl rfl)
theorem dX3_press_14 : decode cX3_press 14 = .ok (.iload_n 1, 1) := dk_27 (dk_at dksX3_press_0 14 rfl rfl)
theorem dX3_press_15 : decode cX3_press 15 = .ok (.iaload, 1) := dk_46 (dk_at dksX3_press_0 15 rfl rfl)
theorem dX3_press_16 : decode cX3_press 16 = .ok (.ifCond .ne 61, 3) := dk_154 0 61 (dk_at dksX3_press_0 16 rfl rfl)
theorem dX3_press_19 : decode cX3_press 19 = .ok (.aload_n 0, 1) := dk_42 (dk_at dksX3_press_0 19 rfl rfl)
theorem dX3_press_20 : decode cX3_press 20 = .ok (.dup, 1) := dk_89 (dk_at dksX3_press_0 20 rfl rfl)
theorem dX3_press_21 : decode cX3_press 21 = .ok (.getfield 37, 3) := dk_180 0 37 (dk_at dksX3_press_0 21 rfl rfl)
theorem dX3_press_24 : decode cX3_press 24 = .ok (.iconst 1, 1) := dk_4 (dk_at dksX3_press_1 0 rfl rfl)
theorem dX3_press_25 : decode cX3_press 25 = .ok (.iadd, 1) := dk_96 (dk_at dksX3_press_1 1 rfl rfl)
theorem dX3_press_26 : decode cX3_press 26 = .ok (.putfield 37, 3) := dk_181 0 37 (dk_at dksX3_press_1 2 rfl rfl)
theorem dX3_press_29 : decode cX3_press 29 = .ok (.aload_n 0, 1) := dk_42 (dk_at dksX3_press_1 5 rfl rfl)
theorem dX3_press_30 : decode cX3_press 30 = .ok (.dup, 1) := dk_89 (dk_at dksX3_press_1 6 rfl rfl)
theorem dX3_press_31 : decode cX3_press 31 = .ok (.getfield 40, 3) := dk_180 0 40 (dk_at dksX3_press_1 7 rfl rfl)
theorem dX3_press_34 : decode cX3_press 34 = .ok (.aload_n 0, 1) := dk_42 (dk_at dksX3_press_1 10 rfl rfl)
theorem dX3_press_35 : decode cX3_press 35 = .ok (.getfield 9, 3) := dk_180 0 9 (dk_at dksX3_press_1 11 rfl rfl)
theorem dX3_press_38 : decode cX3_press 38 = .ok (.iload_n 1, 1) := dk_27 (dk_at dksX3_press_1 14 rfl rfl)
theorem dX3_press_39 : decode cX3_press 39 = .ok (.iaload, 1) := dk_46 (dk_at dksX3_press_1 15 rfl rfl)
theorem dX3_press_40 : decode cX3_press 40 = .ok (.iload_n 2, 1) := dk_28 (dk_at dksX3_press_1 16 rfl rfl)
theorem dX3_press_41 : decode cX3_press 41 = .ok (.if_icmp .eq 17, 3) := dk_159 0 17 (dk_at dksX3_press_1 17 rfl rfl)
theorem dX3_press_44 : decode cX3_press 44 = .ok (.aload_n 0, 1) := dk_42 (dk_at dksX3_press_1 20 rfl rfl)
theorem dX3_press_45 : decode cX3_press 45 = .ok (.getfield 9, 3) := dk_180 0 9 (dk_at dksX3_press_1 21 rfl rfl)
theorem dX3_press_48 : decode cX3_press 48 = .ok (.iload_n 1, 1) := dk_27 (dk_at dksX3_press_2 0 rfl rfl)
theorem dX3_press_49 : decode cX3_press 49 = .ok (.iaload, 1) := dk_46 (dk_at dksX3_press_2 1 rfl rfl)
theorem dX3_press_50 : decode cX3_press 50 = .ok (.iconst (-1), 1) := dk_2 (dk_at dksX3_press_2 2 rfl rfl)
theorem dX3_press_51 : decode cX3_press 51 = .ok (.if_icmp .eq 7, 3) := dk_159 0 7 (dk_at dksX3_press_2 3 rfl rfl)
theorem dX3_press_54 : decode cX3_press 54 = .ok (.iconst 1, 1) := dk_4 (dk_at dksX3_press_2 6 rfl rfl)
theorem dX3_press_55 : decode cX3_press 55 = .ok (.goto 4, 3) := dk_167 0 4 (dk_at dksX3_press_2 7 rfl rfl)
theorem dX3_press_58 : decode cX3_press 58 = .ok (.iconst 0, 1) := dk_3 (dk_at dksX3_press_2 10 rfl rfl)
theorem dX3_press_59 : decode cX3_press 59 = .ok (.iadd, 1) := dk_96 (dk_at dksX3_press_2 11 rfl rfl)
theorem dX3_press_60 : decode cX3_press 60 = .ok (.putfield 40, 3) := dk_181 0 40 (dk_at dksX3_press_2 12 rfl rfl)
theorem dX3_press_63 : decode cX3_press 63 = .ok (.aload_n 0, 1) := dk_42 (dk_at dksX3_press_2 15 rfl rfl)
theorem dX3_press_64 : decode cX3_press 64 = .ok (.getfield 9, 3) := dk_180 0 9 (dk_at dksX3_press_2 16 rfl rfl)
theorem dX3_press_67 : decode cX3_press 67 = .ok (.iload_n 1, 1) := dk_27 (dk_at dksX3_press_2 19 rfl rfl)
theorem dX3_press_68 : decode cX3_press 68 = .ok (.iload_n 2, 1) := dk_28 (dk_at dksX3_press_2 20 rfl rfl)
theorem dX3_press_69 : decode cX3_press 69 = .ok (.iastore, 1) := dk_79 (dk_at dksX3_press_2 21 rfl rfl)
theorem dX3_press_70 : decode cX3_press 70 = .ok (.aload_n 0, 1) := dk_42 (dk_at dksX3_press_2 22 rfl rfl)
theorem dX3_press_71 : decode cX3_press 71 = .ok (.getfield 15, 3) := dk_180 0 15 (dk_at dksX3_press_3 0 rfl rfl)
theorem dX3_press_74 : decode cX3_press 74 = .ok (.iload_n 1, 1) := dk_27 (dk_at dksX3_press_3 3 rfl rfl)
theorem dX3_press_75 : decode cX3_press 75 = .ok (.iload_n 3, 1) := dk_29 (dk_at dksX3_press_3 4 rfl rfl)
theorem dX3_press_76 : decode cX3_press 76 = .ok (.iastore, 1) := dk_79 (dk_at dksX3_press_3 5 rfl rfl)
theorem dX3_press_77 : decode cX3_press 77 = .ok (.aload_n 0, 1) := dk_42 (dk_at dksX3_press_3 6 rfl rfl)
theorem dX3_press_78 : decode cX3_press 78 = .ok (.getfield 15, 3) := dk_180 0 15 (dk_at dksX3_press_3 7 rfl rfl)
theorem dX3_press_81 : decode cX3_press 81 = .ok (.iload_n 1, 1) := dk_27 (dk_at dksX3_press_3 10 rfl rfl)
theorem dX3_press_82 : decode cX3_press 82 = .ok (.dup2, 1) := dk_92 (dk_at dksX3_press_3 11 rfl rfl)
theorem dX3_press_83 : decode cX3_press 83 = .ok (.iaload, 1) := dk_46 (dk_at dksX3_press_3 12 rfl rfl)
theorem dX3_press_84 : decode cX3_press 84 = .ok (.iconst 1, 1) := dk_4 (dk_at dksX3_press_3 13 rfl rfl)
theorem dX3_press_85 : decode cX3_press 85 = .ok (.isub, 1) := dk_100 (dk_at dksX3_press_3 14 rfl rfl)
theorem dX3_press_86 : decode cX3_press 86 = .ok (.iastore, 1) := dk_79 (dk_at dksX3_press_3 15 rfl rfl)
theorem dX3_press_87 : decode cX3_press 87 = .ok (.aload_n 0, 1) := dk_42 (dk_at dksX3_press_3 16 rfl rfl)
theorem dX3_press_88 : decode cX3_press 88 = .ok (.getfield 18, 3) := dk_180 0 18 (dk_at dksX3_press_3 17 rfl rfl)
theorem dX3_press_91 : decode cX3_press 91 = .ok (.iload_n 1, 1) := dk_27 (dk_at dksX3_press_3 20 rfl rfl)
theorem dX3_press_92 : decode cX3_press 92 = .ok (.dup2, 1) := dk_92 (dk_at dksX3_press_3 21 rfl rfl)
theorem dX3_press_93 : decode cX3_press 93 = .ok (.iaload, 1) := dk_46 (dk_at dksX3_press_3 22 rfl rfl)
theorem dX3_press_94 : decode cX3_press 94 = .ok (.iconst 1, 1) := dk_4 (dk_at dksX3_press_3 23 rfl rfl)
theorem dX3_press_95 : decode cX3_press 95 = .ok (.iadd, 1) := dk_96 (dk_at dksX3_press_4 0 rfl rfl)
theorem dX3_press_96 : decode cX3_press 96 = .ok (.iastore, 1) := dk_79 (dk_at dksX3_press_4 1 rfl rfl)
theorem dX3_press_97 : decode cX3_press 97 = .ok (.aload_n 0, 1) := dk_42 (dk_at dksX3_press_4 2 rfl rfl)
theorem dX3_press_98 : decode cX3_press 98 = .ok (.dup, 1) := dk_89 (dk_at dksX3_press_4 3 rfl rfl)
theorem dX3_press_99 : decode cX3_press 99 = .ok (.getfield 33, 3) := dk_180 0 33 (dk_at dksX3_press_4 4 rfl rfl)
theorem dX3_press_102 : decode cX3_press 102 = .ok (.iconst 1, 1) := dk_4 (dk_at dksX3_press_4 7 rfl rfl)
theorem dX3_press_103 : decode cX3_press 103 = .ok (.iadd, 1) := dk_96 (dk_at dksX3_press_4 8 rfl rfl)
theorem dX3_press_104 : decode cX3_press 104 = .ok (.putfield 33, 3) := dk_181 0 33 (dk_at dksX3_press_4 9 rfl rfl)
theorem dX3_press_107 : decode cX3_press 107 = .ok (.return_, 1) := dk_177 (dk_at dksX3_press_4 12 rfl rfl)
abbrev cX3_remove : ByteArray := prog_2_method_3_code
def yX3_remove : MethodName := ⟨RX3, "remove", "(I)V"⟩
def dkwX3_remove_3 : List UInt8 := [153, 0, 7, 3, 167, 0, 11, 42, 180, 0, 18, 28, 4, 96, 46, 79, 132, 2, 1, 167, 255, 169, 177]
abbrev dktX3_remove_3 : List UInt8 := dkwX3_remove_3 ++ []
def dkwX3_remove_2 : List UInt8 := [153, 0, 7, 3, 167, 0, 11, 42, 180, 0, 15, 28, 4, 96, 46, 79, 42, 180, 0, 18, 28, 29]
abbrev dktX3_remove_2 : List UInt8 := dkwX3_remove_2 ++ dktX3_remove_3
def dkwX3_remove_1 : List UInt8 := [28, 29, 153, 0, 7, 2, 167, 0, 11, 42, 180, 0, 9, 28, 4, 96, 46, 79, 42, 180, 0, 15, 28, 29]
abbrev dktX3_remove_1 : List UInt8 := dkwX3_remove_1 ++ dktX3_remove_2
def dkwX3_remove_0 : List UInt8 := [27, 61, 28, 16, 10, 162, 0, 87, 28, 16, 9, 160, 0, 7, 4, 167, 0, 4, 3, 62, 42, 180, 0, 9]
abbrev dktX3_remove_0 : List UInt8 := dkwX3_remove_0 ++ dktX3_remove_1
theorem dksX3_remove_0 : cX3_remove.data.toList.drop 0 = dktX3_remove_0 := by decide +kernel
theorem dksX3_remove_1 : cX3_remove.data.toList.drop 24 = dktX3_remove_1 := dk_seg dksX3_remove_0 24 rfl rfl
theorem dksX3_remove_2 : cX3_remove.data.toList.drop 48 = dktX3_remove_2 := dk_seg dksX3_remove_1 24 rfl rfl
theorem dksX3_remove_3 : cX3_remove.data.toList.drop 70 = dktX3_remove_3 := dk_seg dksX3_remove_2 22 rfl rfl
theorem dX3_remove_0 : decode cX3_remove 0 = .ok (.iload_n 1, 1) := dk_27 (dk_at dksX3_remove_0 0 rfl rfl)
theorem dX3_remove_1 : decode cX3_remove 1 = .ok (.istore_n 2, 1) := dk_61 (dk_at dksX3_remove_0 1 rfl rfl)
theorem dX3_remove_2 : decode cX3_remove 2 = .ok (.iload_n 2, 1) := dk_28 (dk_at dksX3_remove_0 2 rfl rfl)
theorem dX3_remove_3 : decode cX3_remove 3 = .ok (.bipush 10, 2) := dk_16 10 (dk_at dksX3_remove_0 3 rfl rfl)
theorem dX3_remove_5 : decode cX3_remove 5 = .ok (.if_icmp .ge 87, 3) := dk_162 0 87 (dk_at dksX3_remove_0 5 rfl rfl)
theorem dX3_remove_8 : decode cX3_remove 8 = .ok (.iload_n 2, 1) := dk_28 (dk_at dksX3_remove_0 8 rfl rfl)
theorem dX3_remove_9 : decode cX3_remove 9 = .ok (.bipush 9, 2) := dk_16 9 (dk_at dksX3_remove_0 9 rfl rfl)
theorem dX3_remove_11 : decode cX3_remove 11 = .ok (.if_icmp .ne 7, 3) := dk_160 0 7 (dk_at dksX3_remove_0 11 rfl rfl)
theorem dX3_remove_14 : decode cX3_remove 14 = .ok (.iconst 1, 1) := dk_4 (dk_at dksX3_remove_0 14 rfl rfl)
theorem dX3_remove_15 : decode cX3_remove 15 = .ok (.goto 4, 3) := dk_167 0 4 (dk_at dksX3_remove_0 15 rfl rfl)
theorem dX3_remove_18 : decode cX3_remove 18 = .ok (.iconst 0, 1) := dk_3 (dk_at dksX3_remove_0 18 rfl rfl)
theorem dX3_remove_19 : decode cX3_remove 19 = .ok (.istore_n 3, 1) := dk_62 (dk_at dksX3_remove_0 19 rfl rfl)
theorem dX3_remove_20 : decode cX3_remove 20 = .ok (.aload_n 0, 1) := dk_42 (dk_at dksX3_remove_0 20 rfl rfl)
theorem dX3_remove_21 : decode cX3_remove 21 = .ok (.getfield 9, 3) := dk_180 0 9 (dk_at dksX3_remove_0 21 rfl rfl)
theorem dX3_remove_24 : decode cX3_remove 24 = .ok (.iload_n 2, 1) := dk_28 (dk_at dksX3_remove_1 0 rfl rfl)
theorem dX3_remove_25 : decode cX3_remove 25 = .ok (.iload_n 3, 1) := dk_29 (dk_at dksX3_remove_1 1 rfl rfl)
theorem dX3_remove_26 : decode cX3_remove 26 = .ok (.ifCond .eq 7, 3) := dk_153 0 7 (dk_at dksX3_remove_1 2 rfl rfl)
theorem dX3_remove_29 : decode cX3_remove 29 = .ok (.iconst (-1), 1) := dk_2 (dk_at dksX3_remove_1 5 rfl rfl)
theorem dX3_remove_30 : decode cX3_remove 30 = .ok (.goto 11, 3) := dk_167 0 11 (dk_at dksX3_remove_1 6 rfl rfl)
theorem dX3_remove_33 : decode cX3_remove 33 = .ok (.aload_n 0, 1) := dk_42 (dk_at dksX3_remove_1 9 rfl rfl)
theorem dX3_remove_34 : decode cX3_remove 34 = .ok (.getfield 9, 3) := dk_180 0 9 (dk_at dksX3_remove_1 10 rfl rfl)
theorem dX3_remove_37 : decode cX3_remove 37 = .ok (.iload_n 2, 1) := dk_28 (dk_at dksX3_remove_1 13 rfl rfl)
theorem dX3_remove_38 : decode cX3_remove 38 = .ok (.iconst 1, 1) := dk_4 (dk_at dksX3_remove_1 14 rfl rfl)
theorem dX3_remove_39 : decode cX3_remove 39 = .ok (.iadd, 1) := dk_96 (dk_at dksX3_remove_1 15 rfl rfl)
theorem dX3_remove_40 : decode cX3_remove 40 = .ok (.iaload, 1) := dk_46 (dk_at dksX3_remove_1 16 rfl rfl)
theorem dX3_remove_41 : decode cX3_remove 41 = .ok (.iastore, 1) := dk_79 (dk_at dksX3_remove_1 17 rfl rfl)
theorem dX3_remove_42 : decode cX3_remove 42 = .ok (.aload_n 0, 1) := dk_42 (dk_at dksX3_remove_1 18 rfl rfl)
theorem dX3_remove_43 : decode cX3_remove 43 = .ok (.getfield 15, 3) := dk_180 0 15 (dk_at dksX3_remove_1 19 rfl rfl)
theorem dX3_remove_46 : decode cX3_remove 46 = .ok (.iload_n 2, 1) := dk_28 (dk_at dksX3_remove_1 22 rfl rfl)
theorem dX3_remove_47 : decode cX3_remove 47 = .ok (.iload_n 3, 1) := dk_29 (dk_at dksX3_remove_1 23 rfl rfl)
theorem dX3_remove_48 : decode cX3_remove 48 = .ok (.ifCond .eq 7, 3) := dk_153 0 7 (dk_at dksX3_remove_2 0 rfl rfl)
theorem dX3_remove_51 : decode cX3_remove 51 = .ok (.iconst 0, 1) := dk_3 (dk_at dksX3_remove_2 3 rfl rfl)
theorem dX3_remove_52 : decode cX3_remove 52 = .ok (.goto 11, 3) := dk_167 0 11 (dk_at dksX3_remove_2 4 rfl rfl)
theorem dX3_remove_55 : decode cX3_remove 55 = .ok (.aload_n 0, 1) := dk_42 (dk_at dksX3_remove_2 7 rfl rfl)
theorem dX3_remove_56 : decode cX3_remove 56 = .ok (.getfield 15, 3) := dk_180 0 15 (dk_at dksX3_remove_2 8 rfl rfl)
theorem dX3_remove_59 : decode cX3_remove 59 = .ok (.iload_n 2, 1) := dk_28 (dk_at dksX3_remove_2 11 rfl rfl)
theorem dX3_remove_60 : decode cX3_remove 60 = .ok (.iconst 1, 1) := dk_4 (dk_at dksX3_remove_2 12 rfl rfl)
theorem dX3_remove_61 : decode cX3_remove 61 = .ok (.iadd, 1) := dk_96 (dk_at dksX3_remove_2 13 rfl rfl)
theorem dX3_remove_62 : decode cX3_remove 62 = .ok (.iaload, 1) := dk_46 (dk_at dksX3_remove_2 14 rfl rfl)
theorem dX3_remove_63 : decode cX3_remove 63 = .ok (.iastore, 1) := dk_79 (dk_at dksX3_remove_2 15 rfl rfl)
theorem dX3_remove_64 : decode cX3_remove 64 = .ok (.aload_n 0, 1) := dk_42 (dk_at dksX3_remove_2 16 rfl rfl)
theorem dX3_remove_65 : decode cX3_remove 65 = .ok (.getfield 18, 3) := dk_180 0 18 (dk_at dksX3_remove_2 17 rfl rfl)
theorem dX3_remove_68 : decode cX3_remove 68 = .ok (.iload_n 2, 1) := dk_28 (dk_at dksX3_remove_2 20 rfl rfl)
theorem dX3_remove_69 : decode cX3_remove 69 = .ok (.iload_n 3, 1) := dk_29 (dk_at dksX3_remove_2 21 rfl rfl)
theorem dX3_remove_70 : decode cX3_remove 70 = .ok (.ifCond .eq 7, 3) := dk_153 0 7 (dk_at dksX3_remove_3 0 rfl rfl)
theorem dX3_remove_73 : decode cX3_remove 73 = .ok (.iconst 0, 1) := dk_3 (dk_at dksX3_remove_3 3 rfl rfl)
theorem dX3_remove_74 : decode cX3_remove 74 = .ok (.goto 11, 3) := dk_167 0 11 (dk_at dksX3_remove_3 4 rfl rfl)
theorem dX3_remove_77 : decode cX3_remove 77 = .ok (.aload_n 0, 1) := dk_42 (dk_at dksX3_remove_3 7 rfl rfl)
theorem dX3_remove_78 : decode cX3_remove 78 = .ok (.getfield 18, 3) := dk_180 0 18 (dk_at dksX3_remove_3 8 rfl rfl)
theorem dX3_remove_81 : decode cX3_remove 81 = .ok (.iload_n 2, 1) := dk_28 (dk_at dksX3_remove_3 11 rfl rfl)
theorem dX3_remove_82 : decode cX3_remove 82 = .ok (.iconst 1, 1) := dk_4 (dk_at dksX3_remove_3 12 rfl rfl)
theorem dX3_remove_83 : decode cX3_remove 83 = .ok (.iadd, 1) := dk_96 (dk_at dksX3_remove_3 13 rfl rfl)
theorem dX3_remove_84 : decode cX3_remove 84 = .ok (.iaload, 1) := dk_46 (dk_at dksX3_remove_3 14 rfl rfl)
theorem dX3_remove_85 : decode cX3_remove 85 = .ok (.iastore, 1) := dk_79 (dk_at dksX3_remove_3 15 rfl rfl)
theorem dX3_remove_86 : decode cX3_remove 86 = .ok (.iinc 2 1, 3) := dk_132 2 1 (dk_at dksX3_remove_3 16 rfl rfl)
theorem dX3_remove_89 : decode cX3_remove 89 = .ok (.goto (-87), 3) := dk_167 255 169 (dk_at dksX3_remove_3 19 rfl rfl)
theorem dX3_remove_92 : decode cX3_remove 92 = .ok (.return_, 1) := dk_177 (dk_at dksX3_remove_3 22 rfl rfl)
abbrev cX3_clean : ByteArray := prog_2_method_5_code
def yX3_clean : MethodName := ⟨RX3, "clean", "(I)I"⟩
def dkwX3_clean_1 : List UInt8 := [180, 0, 15, 27, 3, 79, 42, 89, 180, 0, 40, 28, 96, 181, 0, 40, 28, 172]
abbrev dktX3_clean_1 : List UInt8 := dkwX3_clean_1 ++ []
def dkwX3_clean_0 : List UInt8 := [42, 180, 0, 9, 27, 46, 2, 160, 0, 7, 3, 167, 0, 4, 4, 61, 42, 180, 0, 9, 27, 2, 79, 42]
abbrev dktX3_clean_0 : List UInt8 := dkwX3_clean_0 ++ dktX3_clean_1
theorem dksX3_clean_0 : cX3_clean.data.toList.drop 0 = dktX3_clean_0 := by decide +kernel
theorem dksX3_clean_1 : cX3_clean.data.toList.drop 24 = dktX3_clean_1 := dk_seg dksX3_clean_0 24 rfl rfl
theorem dX3_clean_0 : decode cX3_clean 0 = .ok (.aload_n 0, 1) := dk_42 (dk_at dksX3_clean_0 0 rfl rfl)
theorem dX3_clean_1 : decode cX3_clean 1 = .ok (.getfield 9, 3) := dk_180 0 9 (dk_at dksX3_clean_0 1 rfl rfl)
theorem dX3_clean_4 : decode cX3_clean 4 = .ok (.iload_n 1, 1) := dk_27 (dk_at dksX3_clean_0 4 rfl rfl)
theorem dX3_clean_5 : decode cX3_clean 5 = .ok (.iaload, 1) := dk_46 (dk_at dksX3_clean_0 5 rfl rfl)
theorem dX3_clean_6 : decode cX3_clean 6 = .ok (.iconst (-1), 1) := dk_2 (dk_at dksX3_clean_0 6 rfl rfl)
theorem dX3_clean_7 : decode cX3_clean 7 = .ok (.if_icmp .ne 7, 3) := dk_160 0 7 (dk_at dksX3_clean_0 7 rfl rfl)
theorem dX3_clean_10 : decode cX3_clean 10 = .ok (.iconst 0, 1) := dk_3 (dk_at dksX3_clean_0 10 rfl rfl)
theorem dX3_clean_11 : decode cX3_clean 11 = .ok (.goto 4, 3) := dk_167 0 4 (dk_at dksX3_clean_0 11 rfl rfl)
theorem dX3_clean_14 : decode cX3_clean 14 = .ok (.iconst 1, 1) := dk_4 (dk_at dksX3_clean_0 14 rfl rfl)
theorem dX3_clean_15 : decode cX3_clean 15 = .ok (.istore_n 2, 1) := dk_61 (dk_at dksX3_clean_0 15 rfl rfl)
theorem dX3_clean_16 : decode cX3_clean 16 = .ok (.aload_n 0, 1) := dk_42 (dk_at dksX3_clean_0 16 rfl rfl)
theorem dX3_clean_17 : decode cX3_clean 17 = .ok (.getfield 9, 3) := dk_180 0 9 (dk_at dksX3_clean_0 17 rfl rfl)
theorem dX3_clean_20 : decode cX3_clean 20 = .ok (.iload_n 1, 1) := dk_27 (dk_at dksX3_clean_0 20 rfl rfl)
theorem dX3_clean_21 : decode cX3_clean 21 = .ok (.iconst (-1), 1) := dk_2 (dk_at dksX3_clean_0 21 rfl rfl)
theorem dX3_clean_22 : decode cX3_clean 22 = .ok (.iastore, 1) := dk_79 (dk_at dksX3_clean_0 22 rfl rfl)
theorem dX3_clean_23 : decode cX3_clean 23 = .ok (.aload_n 0, 1) := dk_42 (dk_at dksX3_clean_0 23 rfl rfl)
theorem dX3_clean_24 : decode cX3_clean 24 = .ok (.getfield 15, 3) := dk_180 0 15 (dk_at dksX3_clean_1 0 rfl rfl)
theorem dX3_clean_27 : decode cX3_clean 27 = .ok (.iload_n 1, 1) := dk_27 (dk_at dksX3_clean_1 3 rfl rfl)
theorem dX3_clean_28 : decode cX3_clean 28 = .ok (.iconst 0, 1) := dk_3 (dk_at dksX3_clean_1 4 rfl rfl)
theorem dX3_clean_29 : decode cX3_clean 29 = .ok (.iastore, 1) := dk_79 (dk_at dksX3_clean_1 5 rfl rfl)
theorem dX3_clean_30 : decode cX3_clean 30 = .ok (.aload_n 0, 1) := dk_42 (dk_at dksX3_clean_1 6 rfl rfl)
theorem dX3_clean_31 : decode cX3_clean 31 = .ok (.dup, 1) := dk_89 (dk_at dksX3_clean_1 7 rfl rfl)
theorem dX3_clean_32 : decode cX3_clean 32 = .ok (.getfield 40, 3) := dk_180 0 40 (dk_at dksX3_clean_1 8 rfl rfl)
theorem dX3_clean_35 : decode cX3_clean 35 = .ok (.iload_n 2, 1) := dk_28 (dk_at dksX3_clean_1 11 rfl rfl)
theorem dX3_clean_36 : decode cX3_clean 36 = .ok (.iadd, 1) := dk_96 (dk_at dksX3_clean_1 12 rfl rfl)
theorem dX3_clean_37 : decode cX3_clean 37 = .ok (.putfield 40, 3) := dk_181 0 40 (dk_at dksX3_clean_1 13 rfl rfl)
theorem dX3_clean_40 : decode cX3_clean 40 = .ok (.iload_n 2, 1) := dk_28 (dk_at dksX3_clean_1 16 rfl rfl)
theorem dX3_clean_41 : decode cX3_clean 41 = .ok (.ireturn, 1) := dk_172 (dk_at dksX3_clean_1 17 rfl rfl)
theorem q67 : (Jvm.Cond.initialized "RubberStamps$Inks") ∈ lw_all := lw_g (lw_at lw_m1 6 rfl) rfl
theorem q140 : (Jvm.Cond.instantiable "RubberStamps$Inks" (6 : Nat)) ∈ lw_all := lw_g (lw_at lw_m1 79 rfl) rfl
theorem q142 : (Jvm.Cond.instanceMethod ({ cls := "RubberStamps$Inks", name := "<init>", desc := "()V" } : Jvm.MethodName)) ∈ lw_all := lw_g (lw_at lw_m1 81 rfl) rfl
theorem q143 : (Jvm.Cond.code ({ cls := "RubberStamps$Inks", name := "<init>", desc := "()V" } : Jvm.MethodName) prog_2_method_1_code (1 : Nat) (Option.none : Option Jvm.ClassFile.FieldType)) ∈ lw_all := lw_g (lw_at lw_m1 82 rfl) rfl
theorem q144 : (Jvm.Cond.methodLink "RubberStamps$Inks" (3 : Nat) ({ cls := "java/lang/Object", name := "<init>", desc := "()V" } : Jvm.MethodName)) ∈ lw_all := lw_g (lw_at lw_m1 83 rfl) rfl
theorem q145 : (Jvm.Cond.methodLink "RubberStamps$Inks" (21 : Nat) ({ cls := "java/util/Arrays", name := "fill", desc := "([II)V" } : Jvm.MethodName)) ∈ lw_all := lw_g (lw_at lw_m1 84 rfl) rfl
theorem q148 : (Jvm.Cond.fieldLink "RubberStamps$Inks" (9 : Nat) "RubberStamps$Inks" "ink" "[I") ∈ lw_all := lw_g (lw_at lw_m1 87 rfl) rfl
theorem q150 : (Jvm.Cond.fieldLink "RubberStamps$Inks" (15 : Nat) "RubberStamps$Inks" "amount" "[I") ∈ lw_all := lw_g (lw_at lw_m1 89 rfl) rfl
theorem q152 : (Jvm.Cond.fieldLink "RubberStamps$Inks" (18 : Nat) "RubberStamps$Inks" "wear" "[I") ∈ lw_all := lw_g (lw_at lw_m1 91 rfl) rfl
theorem q155 : (Jvm.Cond.fieldLink "RubberStamps$Inks" (33 : Nat) "RubberStamps$Inks" "presses" "I") ∈ lw_all := lw_g (lw_at lw_m1 94 rfl) rfl
theorem q157 : (Jvm.Cond.fieldLink "RubberStamps$Inks" (37 : Nat) "RubberStamps$Inks" "inkings" "I") ∈ lw_all := lw_g (lw_at lw_m1 96 rfl) rfl
theorem q159 : (Jvm.Cond.fieldLink "RubberStamps$Inks" (40 : Nat) "RubberStamps$Inks" "cleanings" "I") ∈ lw_all := lw_g (lw_at lw_m1 98 rfl) rfl
theorem q162 : (Jvm.Cond.laysFinal "RubberStamps$Inks" "RubberStamps$Inks" "ink" "[I") ∈ lw_all := lw_g (lw_at lw_m1 101 rfl) rfl
theorem q163 : (Jvm.Cond.soleField "RubberStamps$Inks" "ink") ∈ lw_all := lw_g (lw_at lw_m1 102 rfl) rfl
theorem q164 : (Jvm.Cond.laysFinal "RubberStamps$Inks" "RubberStamps$Inks" "amount" "[I") ∈ lw_all := lw_g (lw_at lw_m1 103 rfl) rfl
theorem q165 : (Jvm.Cond.soleField "RubberStamps$Inks" "amount") ∈ lw_all := lw_g (lw_at lw_m1 104 rfl) rfl
theorem q166 : (Jvm.Cond.laysFinal "RubberStamps$Inks" "RubberStamps$Inks" "wear" "[I") ∈ lw_all := lw_g (lw_at lw_m1 105 rfl) rfl
theorem q167 : (Jvm.Cond.soleField "RubberStamps$Inks" "wear") ∈ lw_all := lw_g (lw_at lw_m1 106 rfl) rfl
theorem q168 : (Jvm.Cond.lays "RubberStamps$Inks" "RubberStamps$Inks" "presses" "I") ∈ lw_all := lw_g (lw_at lw_m1 107 rfl) rfl
theorem q169 : (Jvm.Cond.soleField "RubberStamps$Inks" "presses") ∈ lw_all := lw_g (lw_at lw_m1 108 rfl) rfl
theorem q170 : (Jvm.Cond.lays "RubberStamps$Inks" "RubberStamps$Inks" "inkings" "I") ∈ lw_all := lw_g (lw_at lw_m1 109 rfl) rfl
theorem q171 : (Jvm.Cond.soleField "RubberStamps$Inks" "inkings") ∈ lw_all := lw_g (lw_at lw_m1 110 rfl) rfl
theorem q172 : (Jvm.Cond.lays "RubberStamps$Inks" "RubberStamps$Inks" "cleanings" "I") ∈ lw_all := lw_g (lw_at lw_m1 111 rfl) rfl
theorem q173 : (Jvm.Cond.soleField "RubberStamps$Inks" "cleanings") ∈ lw_all := lw_g (lw_at lw_m1 112 rfl) rfl
theorem q174 : (Jvm.Cond.superclass "RubberStamps$Inks" "java/lang/Object") ∈ lw_all := lw_g (lw_at lw_m1 113 rfl) rfl
theorem q783 : (Jvm.Cond.selects "RubberStamps$Inks" ({ cls := "java/lang/Object", name := "getClass", desc := "()Ljava/lang/Class;" } : Jvm.MethodName) ({ cls := "java/lang/Object", name := "getClass", desc := "()Ljava/lang/Class;" } : Jvm.MethodName)) ∈ lw_all := lw_g (lw_at lw_m4 2 rfl) rfl
theorem q909 : (Jvm.Cond.instanceMethod ({ cls := "RubberStamps$Inks", name := "takes", desc := "(LRubberStamps$Inks;)LRubberStamps$Inks;" } : Jvm.MethodName)) ∈ lw_all := lw_g (lw_at lw_m4 128 rfl) rfl
theorem q910 : (Jvm.Cond.selects "RubberStamps$Inks" ({ cls := "RubberStamps$Inks", name := "takes", desc := "(LRubberStamps$Inks;)LRubberStamps$Inks;" } : Jvm.MethodName) ({ cls := "RubberStamps$Inks", name := "takes", desc := "(LRubberStamps$Inks;)LRubberStamps$Inks;" } : Jvm.MethodName)) ∈ lw_all := lw_g (lw_at lw_m4 129 rfl) rfl
theorem q911 : (Jvm.Cond.code ({ cls := "RubberStamps$Inks", name := "takes", desc := "(LRubberStamps$Inks;)LRubberStamps$Inks;" } : Jvm.MethodName) prog_2_method_2_code (2 : Nat) (Option.some (Jvm.ClassFile.FieldType.object "RubberStamps$Inks"))) ∈ lw_all := lw_g (lw_at lw_m4 130 rfl) rfl
theorem q912 : (Jvm.Cond.methodLink "RubberStamps$Inks" (27 : Nat) ({ cls := "java/lang/System", name := "arraycopy", desc := "(Ljava/lang/Object;ILjava/lang/Object;II)V" } : Jvm.MethodName)) ∈ lw_all := lw_g (lw_at lw_m4 131 rfl) rfl
theorem q1091 : (Jvm.Cond.instanceMethod ({ cls := "RubberStamps$Inks", name := "usable", desc := "(II)I" } : Jvm.MethodName)) ∈ lw_all := lw_g (lw_at lw_m5 70 rfl) rfl
theorem q1092 : (Jvm.Cond.selects "RubberStamps$Inks" ({ cls := "RubberStamps$Inks", name := "usable", desc := "(II)I" } : Jvm.MethodName) ({ cls := "RubberStamps$Inks", name := "usable", desc := "(II)I" } : Jvm.MethodName)) ∈ lw_all := lw_g (lw_at lw_m5 71 rfl) rfl
theorem q1093 : (Jvm.Cond.code ({ cls := "RubberStamps$Inks", name := "usable", desc := "(II)I" } : Jvm.MethodName) prog_2_method_6_code (5 : Nat) (Option.some Jvm.ClassFile.FieldType.int)) ∈ lw_all := lw_g (lw_at lw_m5 72 rfl) rfl
theorem q1116 : (Jvm.Cond.instanceMethod ({ cls := "RubberStamps$Inks", name := "press", desc := "(III)V" } : Jvm.MethodName)) ∈ lw_all := lw_g (lw_at lw_m5 95 rfl) rfl
theorem q1117 : (Jvm.Cond.selects "RubberStamps$Inks" ({ cls := "RubberStamps$Inks", name := "press", desc := "(III)V" } : Jvm.MethodName) ({ cls := "RubberStamps$Inks", name := "press", desc := "(III)V" } : Jvm.MethodName)) ∈ lw_all := lw_g (lw_at lw_m5 96 rfl) rfl
theorem q1118 : (Jvm.Cond.code ({ cls := "RubberStamps$Inks", name := "press", desc := "(III)V" } : Jvm.MethodName) prog_2_method_4_code (4 : Nat) (Option.none : Option Jvm.ClassFile.FieldType)) ∈ lw_all := lw_g (lw_at lw_m5 97 rfl) rfl
theorem q1313 : (Jvm.Cond.instanceMethod ({ cls := "RubberStamps$Inks", name := "remove", desc := "(I)V" } : Jvm.MethodName)) ∈ lw_all := lw_g (lw_at lw_m6 52 rfl) rfl
theorem q1314 : (Jvm.Cond.selects "RubberStamps$Inks" ({ cls := "RubberStamps$Inks", name := "remove", desc := "(I)V" } : Jvm.MethodName) ({ cls := "RubberStamps$Inks", name := "remove", desc := "(I)V" } : Jvm.MethodName)) ∈ lw_all := lw_g (lw_at lw_m6 53 rfl) rfl
theorem q1315 : (Jvm.Cond.code ({ cls := "RubberStamps$Inks", name := "remove", desc := "(I)V" } : Jvm.MethodName) prog_2_method_3_code (4 : Nat) (Option.none : Option Jvm.ClassFile.FieldType)) ∈ lw_all := lw_g (lw_at lw_m6 54 rfl) rfl
theorem q1345 : (Jvm.Cond.instanceMethod ({ cls := "RubberStamps$Inks", name := "clean", desc := "(I)I" } : Jvm.MethodName)) ∈ lw_all := lw_g (lw_at lw_m6 84 rfl) rfl
theorem q1346 : (Jvm.Cond.selects "RubberStamps$Inks" ({ cls := "RubberStamps$Inks", name := "clean", desc := "(I)I" } : Jvm.MethodName) ({ cls := "RubberStamps$Inks", name := "clean", desc := "(I)I" } : Jvm.MethodName)) ∈ lw_all := lw_g (lw_at lw_m6 85 rfl) rfl
theorem q1347 : (Jvm.Cond.code ({ cls := "RubberStamps$Inks", name := "clean", desc := "(I)I" } : Jvm.MethodName) prog_2_method_5_code (3 : Nat) (Option.some Jvm.ClassFile.FieldType.int)) ∈ lw_all := lw_g (lw_at lw_m6 86 rfl) rfl
theorem q1800 : (Jvm.Cond.castable "RubberStamps$Inks" "java/lang/Object") ∈ lw_tbl := lw_at lw_m8 59 rfl
theorem in_X3 : ∀ w ∈ wsX30, w ∈ lw_all := lw_in wsX30 [162, 164, 166, 168, 170, 172] (by decide +kernel) (by decide +kernel)
/-! RubberStamps$Plans -/
set_option maxRecDepth 100000
def RX4 : String := "RubberStamps$Plans"
def TX4 : u_T := fun k => match k with
  | 0 => ("RubberStamps$Plans", "state", "LRubberStamps$State;", false)
  | 1 => ("RubberStamps$Plans", "fits", "[I", true)
  | 2 => ("RubberStamps$Plans", "lengths", "[I", true)
  | 3 => ("RubberStamps$Plans", "least", "[I", true)
  | 4 => ("RubberStamps$Plans", "plan", "[I", true)
  | _ => ("RubberStamps$Plans", "presses", "I", false)
def tyX4 : Nat → FieldType := fun k => match k with
  | 0 => .object "RubberStamps$State"
  | 1 => .array .int
  | 2 => .array .int
  | 3 => .array .int
  | 4 => .array .int
  | _ => .int
abbrev wsX40 : List Cond := u_ws RX4 TX4 6
theorem nmX4 : ∀ a, a < 6 → ∀ b, b < 6 → a ≠ b → (TX4 a).2.1 ≠ (TX4 b).2.1 := by decide +kernel
theorem tyX4_ok : ∀ k, k < 6 → parseFieldDescriptor (TX4 k).2.2.1 = some (tyX4 k) := by decide +kernel
abbrev cX4_init : ByteArray := prog_5_method_1_code
def yX4_init : MethodName := ⟨RX4, "<init>", "()V"⟩
def dkwX4_init_1 : List UInt8 := [188, 10, 181, 0, 18, 42, 16, 12, 188, 10, 181, 0, 21, 177]
abbrev dktX4_init_1 : List UInt8 := dkwX4_init_1 ++ []
def dkwX4_init_0 : List UInt8 := [42, 183, 0, 3, 42, 16, 84, 188, 10, 181, 0, 9, 42, 16, 22, 188, 10, 181, 0, 15, 42, 16, 13]
abbrev dktX4_init_0 : List UInt8 := dkwX4_init_0 ++ dktX4_init_1
theorem dksX4_init_0 : cX4_init.data.toList.drop 0 = dktX4_init_0 := by decide +kernel
theorem dksX4_init_1 : cX4_init.data.toList.drop 23 = dktX4_init_1 := dk_seg dksX4_init_0 23 rfl rfl
theorem dX4_init_0 : decode cX4_init 0 = .ok (.aload_n 0, 1) := dk_42 (dk_at dksX4_init_0 0 rfl rfl)
theorem dX4_init_1 : decode cX4_init 1 = .ok (.invokespecial 3, 3) := dk_183 0 3 (dk_at dksX4_init_0 1 rfl rfl)
theorem dX4_init_4 : decode cX4_init 4 = .ok (.aload_n 0, 1) := dk_42 (dk_at dksX4_init_0 4 rfl rfl)
theorem dX4_init_5 : decode cX4_init 5 = .ok (.bipush 84, 2) := dk_16 84 (dk_at dksX4_init_0 5 rfl rfl)
theorem dX4_init_7 : decode cX4_init 7 = .ok (.newarray .int, 2) := dk_188_10 (dk_at dksX4_init_0 7 rfl rfl)
theorem dX4_init_9 : decode cX4_init 9 = .ok (.putfield 9, 3) := dk_181 0 9 (dk_at dksX4_init_0 9 rfl rfl)
theorem dX4_init_12 : decode cX4_init 12 = .ok (.aload_n 0, 1) := dk_42 (dk_at dksX4_init_0 12 rfl rfl)
theorem dX4_init_13 : decode cX4_init 13 = .ok (.bipush 22, 2) := dk_16 22 (dk_at dksX4_init_0 13 rfl rfl)
theorem dX4_init_15 : decode cX4_init 15 = .ok (.newarray .int, 2) := dk_188_10 (dk_at dksX4_init_0 15 rfl rfl)
theorem dX4_init_17 : decode cX4_init 17 = .ok (.putfield 15, 3) := dk_181 0 15 (dk_at dksX4_init_0 17 rfl rfl)
theorem dX4_init_20 : decode cX4_init 20 = .ok (.aload_n 0, 1) := dk_42 (dk_at dksX4_init_0 20 rfl rfl)
theorem dX4_init_21 : decode cX4_init 21 = .ok (.bipush 13, 2) := dk_16 13 (dk_at dksX4_init_0 21 rfl rfl)
theorem dX4_init_23 : decode cX4_init 23 = .ok (.newarray .int, 2) := dk_188_10 (dk_at dksX4_init_1 0 rfl rfl)
theorem dX4_init_25 : decode cX4_init 25 = .ok (.putfield 18, 3) := dk_181 0 18 (dk_at dksX4_init_1 2 rfl rfl)
theorem dX4_init_28 : decode cX4_init 28 = .ok (.aload_n 0, 1) := dk_42 (dk_at dksX4_init_1 5 rfl rfl)
theorem dX4_init_29 : decode cX4_init 29 = .ok (.bipush 12, 2) := dk_16 12 (dk_at dksX4_init_1 6 rfl rfl)
theorem dX4_init_31 : decode cX4_init 31 = .ok (.newarray .int, 2) := dk_188_10 (dk_at dksX4_init_1 8 rfl rfl)
theorem dX4_init_33 : decode cX4_init 33 = .ok (.putfield 21, 3) := dk_181 0 21 (dk_at dksX4_init_1 10 rfl rfl)
theorem dX4_init_36 : decode cX4_init 36 = .ok (.return_, 1) := dk_177 (dk_at dksX4_init_1 13 rfl rfl)
abbrev cX4_make : ByteArray := prog_5_method_2_code
def yX4_make : MethodName := ⟨RX4, "make", "(LRubberStamps$State;)LRubberStamps$Plans;"⟩
def dkwX4_make_3 : List UInt8 := [132, 2, 1, 167, 255, 200, 42, 176]
abbrev dktX4_make_3 : List UInt8 := dkwX4_make_3 ++ []
def dkwX4_make_2 : List UInt8 := [180, 0, 52, 42, 180, 0, 24, 180, 0, 34, 28, 182, 0, 46, 192, 0, 50, 180, 0, 56, 182, 0, 59]
abbrev dktX4_make_2 : List UInt8 := dkwX4_make_2 ++ dktX4_make_3
def dkwX4_make_1 : List UInt8 := [182, 0, 40, 162, 0, 48, 42, 28, 42, 180, 0, 24, 180, 0, 34, 28, 182, 0, 46, 192, 0, 50]
abbrev dktX4_make_1 : List UInt8 := dkwX4_make_1 ++ dktX4_make_2
def dkwX4_make_0 : List UInt8 := [42, 43, 181, 0, 24, 42, 180, 0, 9, 3, 184, 0, 28, 3, 61, 28, 42, 180, 0, 24, 180, 0, 34]
abbrev dktX4_make_0 : List UInt8 := dkwX4_make_0 ++ dktX4_make_1
theorem dksX4_make_0 : cX4_make.data.toList.drop 0 = dktX4_make_0 := by decide +kernel
theorem dksX4_make_1 : cX4_make.data.toList.drop 23 = dktX4_make_1 := dk_seg dksX4_make_0 23 rfl rfl
theorem dksX4_make_2 : cX4_make.data.toList.drop 45 = dktX4_make_2 := dk_seg dksX4_make_1 22 rfl rfl
theorem dksX4_make_3 : cX4_make.data.toList.drop 68 = dktX4_make_3 := dk_seg dksX4_make_2 23 rfl rfl
theorem dX4_make_0 : decode cX4_make 0 = .ok (.aload_n 0, 1) := dk_42 (dk_at dksX4_make_0 0 rfl rfl)
theorem dX4_make_1 : decode cX4_make 1 = .ok (.aload_n 1, 1) := dk_43 (dk_at dksX4_make_0 1 rfl rfl)
theorem dX4_make_2 : decode cX4_make 2 = .ok (.putfield 24, 3) := dk_181 0 24 (dk_at dksX4_make_0 2 rfl rfl)
theorem dX4_make_5 : decode cX4_make 5 = .ok (.aload_n 0, 1) := dk_42 (dk_at dksX4_make_0 5 rfl rfl)
theorem dX4_make_6 : decode cX4_make 6 = .ok (.getfield 9, 3) := dk_180 0 9 (dk_at dksX4_make_0 6 rfl rfl)
theorem dX4_make_9 : decode cX4_make 9 = .ok (.iconst 0, 1) := dk_3 (dk_at dksX4_make_0 9 rfl rfl)
theorem dX4_make_10 : decode cX4_make 10 = .ok (.invokestatic 28, 3) := dk_184 0 28 (dk_at dksX4_make_0 10 rfl rfl)
theorem dX4_make_13 : decode cX4_make 13 = .ok (.iconst 0, 1) := dk_3 (dk_at dksX4_make_0 13 rfl rfl)
theorem dX4_make_14 : decode cX4_make 14 = .ok (.istore_n 2, 1) := dk_61 (dk_at dksX4_make_0 14 rfl rfl)
theorem dX4_make_15 : decode cX4_make 15 = .ok (.iload_n 2, 1) := dk_28 (dk_at dksX4_make_0 15 rfl rfl)
theorem dX4_make_16 : decode cX4_make 16 = .ok (.aload_n 0, 1) := dk_42 (dk_at dksX4_make_0 16 rfl rfl)
theorem dX4_make_17 : decode cX4_make 17 = .ok (.getfield 24, 3) := dk_180 0 24 (dk_at dksX4_make_0 17 rfl rfl)
theorem dX4_make_20 : decode cX4_make 20 = .ok (.getfield 34, 3) := dk_180 0 34 (dk_at dksX4_make_0 20 rfl rfl)
theorem dX4_make_23 : decode cX4_make 23 = .ok (.invokevirtual 40, 3) := dk_182 0 40 (dk_at dksX4_make_1 0 rfl rfl)
theorem dX4_make_26 : decode cX4_make 26 = .ok (.if_icmp .ge 48, 3) := dk_162 0 48 (dk_at dksX4_make_1 3 rfl rfl)
theorem dX4_make_29 : decode cX4_make 29 = .ok (.aload_n 0, 1) := dk_42 (dk_at dksX4_make_1 6 rfl rfl)
theorem dX4_make_30 : decode cX4_make 30 = .ok (.iload_n 2, 1) := dk_28 (dk_at dksX4_make_1 7 rfl rfl)
theorem dX4_make_31 : decode cX4_make 31 = .ok (.aload_n 0, 1) := dk_42 (dk_at dksX4_make_1 8 rfl rfl)
theorem dX4_make_32 : decode cX4_make 32 = .ok (.getfield 24, 3) := dk_180 0 24 (dk_at dksX4_make_1 9 rfl rfl)
theorem dX4_make_35 : decode cX4_make 35 = .ok (.getfield 34, 3) := dk_180 0 34 (dk_at dksX4_make_1 12 rfl rfl)
theorem dX4_make_38 : decode cX4_make 38 = .ok (.iload_n 2, 1) := dk_28 (dk_at dksX4_make_1 15 rfl rfl)
theorem dX4_make_39 : decode cX4_make 39 = .ok (.invokevirtual 46, 3) := dk_182 0 46 (dk_at dksX4_make_1 16 rfl rfl)
theorem dX4_make_42 : decode cX4_make 42 = .ok (.checkcast 50, 3) := dk_192 0 50 (dk_at dksX4_make_1 19 rfl rfl)
theorem dX4_make_45 : decode cX4_make 45 = .ok (.getfield 52, 3) := dk_180 0 52 (dk_at dksX4_make_2 0 rfl rfl)
theorem dX4_make_48 : decode cX4_make 48 = .ok (.aload_n 0, 1) := dk_42 (dk_at dksX4_make_2 3 rfl rfl)
theorem dX4_make_49 : decode cX4_make 49 = .ok (.getfield 24, 3) := dk_180 0 24 (dk_at dksX4_make_2 4 rfl rfl)
theorem dX4_make_52 : decode cX4_make 52 = .ok (.getfield 34, 3) := dk_180 0 34 (dk_at dksX4_make_2 7 rfl rfl)
theorem dX4_make_55 : decode cX4_make 55 = .ok (.iload_n 2, 1) := dk_28 (dk_at dksX4_make_2 10 rfl rfl)
theorem dX4_make_56 : decode cX4_make 56 = .ok (.invokevirtual 46, 3) := dk_182 0 46 (dk_at dksX4_make_2 11 rfl rfl)
theorem dX4_make_59 : decode cX4_make 59 = .ok (.checkcast 50, 3) := dk_192 0 50 (dk_at dksX4_make_2 14 rfl rfl)
theorem dX4_make_62 : decode cX4_make 62 = .ok (.getfield 56, 3) := dk_180 0 56 (dk_at dksX4_make_2 17 rfl rfl)
theorem dX4_make_65 : decode cX4_make 65 = .ok (.invokevirtual 59, 3) := dk_182 0 59 (dk_at dksX4_make_2 20 rfl rfl)
theorem dX4_make_68 : decode cX4_make 68 = .ok (.iinc 2 1, 3) := dk_132 2 1 (dk_at dksX4_make_3 0 rfl rfl)
theorem dX4_make_71 : decode cX4_make 71 = .ok (.goto (-56), 3) := dk_167 255 200 (dk_at dksX4_make_3 3 rfl rfl)
theorem dX4_make_74 : decode cX4_make 74 = .ok (.aload_n 0, 1) := dk_42 (dk_at dksX4_make_3 6 rfl rfl)
theorem dX4_make_75 : decode cX4_make 75 = .ok (.areturn, 1) := dk_176 (dk_at dksX4_make_3 7 rfl rfl)
abbrev cX4_add : ByteArray := prog_5_method_3_code
def yX4_add : MethodName := ⟨RX4, "add", "(ILjava/lang/String;Ljava/lang/String;)V"⟩
def dkwX4_add_1 : List UInt8 := [4, 96, 45, 182, 0, 63, 177]
abbrev dktX4_add_1 : List UInt8 := dkwX4_add_1 ++ []
def dkwX4_add_0 : List UInt8 := [42, 5, 27, 104, 44, 182, 0, 63, 45, 198, 0, 21, 45, 44, 182, 0, 67, 154, 0, 13, 42, 5, 27, 104]
abbrev dktX4_add_0 : List UInt8 := dkwX4_add_0 ++ dktX4_add_1
theorem dksX4_add_0 : cX4_add.data.toList.drop 0 = dktX4_add_0 := by decide +kernel
theorem dksX4_add_1 : cX4_add.data.toList.drop 24 = dktX4_add_1 := dk_seg dksX4_add_0 24 rfl rfl
theorem dX4_add_0 : decode cX4_add 0 = .ok (.aload_n 0, 1) := dk_42 (dk_at dksX4_add_0 0 rfl rfl)
theorem dX4_add_1 : decode cX4_add 1 = .ok (.iconst 2, 1) := dk_5 (dk_at dksX4_add_0 1 rfl rfl)
theorem dX4_add_2 : decode cX4_add 2 = .ok (.iload_n 1, 1) := dk_27 (dk_at dksX4_add_0 2 rfl rfl)
theorem dX4_add_3 : decode cX4_add 3 = .ok (.imul, 1) := dk_104 (dk_at dksX4_add_0 3 rfl rfl)
theorem dX4_add_4 : decode cX4_add 4 = .ok (.aload_n 2, 1) := dk_44 (dk_at dksX4_add_0 4 rfl rfl)
theorem dX4_add_5 : decode cX4_add 5 = .ok (.invokevirtual 63, 3) := dk_182 0 63 (dk_at dksX4_add_0 5 rfl rfl)
theorem dX4_add_8 : decode cX4_add 8 = .ok (.aload_n 3, 1) := dk_45 (dk_at dksX4_add_0 8 rfl rfl)
theorem dX4_add_9 : decode cX4_add 9 = .ok (.ifnull 21, 3) := dk_198 0 21 (dk_at dksX4_add_0 9 rfl rfl)
theorem dX4_add_12 : decode cX4_add 12 = .ok (.aload_n 3, 1) := dk_45 (dk_at dksX4_add_0 12 rfl rfl)
theorem dX4_add_13 : decode cX4_add 13 = .ok (.aload_n 2, 1) := dk_44 (dk_at dksX4_add_0 13 rfl rfl)
theorem dX4_add_14 : decode cX4_add 14 = .ok (.invokevirtual 67, 3) := dk_182 0 67 (dk_at dksX4_add_0 14 rfl rfl)
theorem dX4_add_17 : decode cX4_add 17 = .ok (.ifCond .ne 13, 3) := dk_154 0 13 (dk_at dksX4_add_0 17 rfl rfl)
theorem dX4_add_20 : decode cX4_add 20 = .ok (.aload_n 0, 1) := dk_42 (dk_at dksX4_add_0 20 rfl rfl)
theorem dX4_add_21 : decode cX4_add 21 = .ok (.iconst 2, 1) := dk_5 (dk_at dksX4_add_0 21 rfl rfl)
theorem dX4_add_22 : decode cX4_add 22 = .ok (.iload_n 1, 1) := dk_27 (dk_at dksX4_add_0 22 rfl rfl)
theorem dX4_add_23 : decode cX4_add 23 = .ok (.imul, 1) := dk_104 (dk_at dksX4_add_0 23 rfl rfl)
theorem dX4_add_24 : decode cX4_add 24 = .ok (.iconst 1, 1) := dk_4 (dk_at dksX4_add_1 0 rfl rfl)
theorem dX4_add_25 : decode cX4_add 25 = .ok (.iadd, 1) := dk_96 (dk_at dksX4_add_1 1 rfl rfl)
theorem dX4_add_26 : decode cX4_add 26 = .ok (.aload_n 3, 1) := dk_45 (dk_at dksX4_add_1 2 rfl rfl)
theorem dX4_add_27 : decode cX4_add 27 = .ok (.invokevirtual 63, 3) := dk_182 0 63 (dk_at dksX4_add_1 3 rfl rfl)
theorem dX4_add_30 : decode cX4_add 30 = .ok (.return_, 1) := dk_177 (dk_at dksX4_add_1 6 rfl rfl)
abbrev cX4_mark : ByteArray := prog_5_method_4_code
def yX4_mark : MethodName := ⟨RX4, "mark", "(ILjava/lang/String;)V"⟩
def dkwX4_mark_4 : List UInt8 := [167, 255, 210, 132, 3, 1, 167, 255, 168, 177]
abbrev dktX4_mark_4 : List UInt8 := dkwX4_mark_4 ++ []
def dkwX4_mark_3 : List UInt8 := [46, 25, 4, 44, 21, 5, 182, 0, 82, 153, 0, 9, 4, 27, 120, 167, 0, 4, 3, 128, 79, 132, 5, 1]
abbrev dktX4_mark_3 : List UInt8 := dkwX4_mark_3 ++ dktX4_mark_4
def dkwX4_mark_2 : List UInt8 := [54, 5, 21, 5, 25, 4, 182, 0, 73, 162, 0, 42, 42, 180, 0, 9, 29, 16, 12, 104, 21, 5, 96, 92]
abbrev dktX4_mark_2 : List UInt8 := dkwX4_mark_2 ++ dktX4_mark_3
def dkwX4_mark_1 : List UInt8 := [162, 0, 80, 42, 180, 0, 24, 180, 0, 76, 29, 182, 0, 46, 192, 0, 79, 180, 0, 81, 58, 4, 3]
abbrev dktX4_mark_1 : List UInt8 := dkwX4_mark_1 ++ dktX4_mark_2
def dkwX4_mark_0 : List UInt8 := [42, 180, 0, 15, 27, 44, 182, 0, 73, 79, 3, 62, 29, 42, 180, 0, 24, 180, 0, 76, 182, 0, 40]
abbrev dktX4_mark_0 : List UInt8 := dkwX4_mark_0 ++ dktX4_mark_1
theorem dksX4_mark_0 : cX4_mark.data.toList.drop 0 = dktX4_mark_0 := by decide +kernel
theorem dksX4_mark_1 : cX4_mark.data.toList.drop 23 = dktX4_mark_1 := dk_seg dksX4_mark_0 23 rfl rfl
theorem dksX4_mark_2 : cX4_mark.data.toList.drop 46 = dktX4_mark_2 := dk_seg dksX4_mark_1 23 rfl rfl
theorem dksX4_mark_3 : cX4_mark.data.toList.drop 70 = dktX4_mark_3 := dk_seg dksX4_mark_2 24 rfl rfl
theorem dksX4_mark_4 : cX4_mark.data.toList.drop 94 = dktX4_mark_4 := dk_seg dksX4_mark_3 24 rfl rfl
theorem dX4_mark_0 : decode cX4_mark 0 = .ok (.aload_n 0, 1) := dk_42 (dk_at dksX4_mark_0 0 rfl rfl)
theorem dX4_mark_1 : decode cX4_mark 1 = .ok (.getfield 15, 3) := dk_180 0 15 (dk_at dksX4_mark_0 1 rfl rfl)
theorem dX4_mark_4 : decode cX4_mark 4 = .ok (.iload_n 1, 1) := dk_27 (dk_at dksX4_mark_0 4 rfl rfl)
theorem dX4_mark_5 : decode cX4_mark 5 = .ok (.aload_n 2, 1) := dk_44 (dk_at dksX4_mark_0 5 rfl rfl)
theorem dX4_mark_6 : decode cX4_mark 6 = .ok (.invokevirtual 73, 3) := dk_182 0 73 (dk_at dksX4_mark_0 6 rfl rfl)
theorem dX4_mark_9 : decode cX4_mark 9 = .ok (.iastore, 1) := dk_79 (dk_at dksX4_mark_0 9 rfl rfl)
theorem dX4_mark_10 : decode cX4_mark 10 = .ok (.iconst 0, 1) := dk_3 (dk_at dksX4_mark_0 10 rfl rfl)
theorem dX4_mark_11 : decode cX4_mark 11 = .ok (.istore_n 3, 1) := dk_62 (dk_at dksX4_mark_0 11 rfl rfl)
theorem dX4_mark_12 : decode cX4_mark 12 = .ok (.iload_n 3, 1) := dk_29 (dk_at dksX4_mark_0 12 rfl rfl)
theorem dX4_mark_13 : decode cX4_mark 13 = .ok (.aload_n 0, 1) := dk_42 (dk_at dksX4_mark_0 13 rfl rfl)
theorem dX4_mark_14 : decode cX4_mark 14 = .ok (.getfield 24, 3) := dk_180 0 24 (dk_at dksX4_mark_0 14 rfl rfl)
theorem dX4_mark_17 : decode cX4_mark 17 = .ok (.getfield 76, 3) := dk_180 0 76 (dk_at dksX4_mark_0 17 rfl rfl)
theorem dX4_mark_20 : decode cX4_mark 20 = .ok (.invokevirtual 40, 3) := dk_182 0 40 (dk_at dksX4_mark_0 20 rfl rfl)
theorem dX4_mark_23 : decode cX4_mark 23 = .ok (.if_icmp .ge 80, 3) := dk_162 0 80 (dk_at dksX4_mark_1 0 rfl rfl)
theorem dX4_mark_26 : decode cX4_mark 26 = .ok (.aload_n 0, 1) := dk_42 (dk_at dksX4_mark_1 3 rfl rfl)
theorem dX4_mark_27 : decode cX4_mark 27 = .ok (.getfield 24, 3) := dk_180 0 24 (dk_at dksX4_mark_1 4 rfl rfl)
theorem dX4_mark_30 : decode cX4_mark 30 = .ok (.getfield 76, 3) := dk_180 0 76 (dk_at dksX4_mark_1 7 rfl rfl)
theorem dX4_mark_33 : decode cX4_mark 33 = .ok (.iload_n 3, 1) := dk_29 (dk_at dksX4_mark_1 10 rfl rfl)
theorem dX4_mark_34 : decode cX4_mark 34 = .ok (.invokevirtual 46, 3) := dk_182 0 46 (dk_at dksX4_mark_1 11 rfl rfl)
theorem dX4_mark_37 : decode cX4_mark 37 = .ok (.checkcast 79, 3) := dk_192 0 79 (dk_at dksX4_mark_1 14 rfl rfl)
theorem dX4_mark_40 : decode cX4_mark 40 = .ok (.getfield 81, 3) := dk_180 0 81 (dk_at dksX4_mark_1 17 rfl rfl)
theorem dX4_mark_43 : decode cX4_mark 43 = .ok (.astore 4, 2) := dk_58 4 (dk_at dksX4_mark_1 20 rfl rfl)
theorem dX4_mark_45 : decode cX4_mark 45 = .ok (.iconst 0, 1) := dk_3 (dk_at dksX4_mark_1 22 rfl rfl)
theorem dX4_mark_46 : decode cX4_mark 46 = .ok (.istore 5, 2) := dk_54 5 (dk_at dksX4_mark_2 0 rfl rfl)
theorem dX4_mark_48 : decode cX4_mark 48 = .ok (.iload 5, 2) := dk_21 5 (dk_at dksX4_mark_2 2 rfl rfl)
theorem dX4_mark_50 : decode cX4_mark 50 = .ok (.aload 4, 2) := dk_25 4 (dk_at dksX4_mark_2 4 rfl rfl)
theorem dX4_mark_52 : decode cX4_mark 52 = .ok (.invokevirtual 73, 3) := dk_182 0 73 (dk_at dksX4_mark_2 6 rfl rfl)
theorem dX4_mark_55 : decode cX4_mark 55 = .ok (.if_icmp .ge 42, 3) := dk_162 0 42 (dk_at dksX4_mark_2 9 rfl rfl)
theorem dX4_mark_58 : decode cX4_mark 58 = .ok (.aload_n 0, 1) := dk_42 (dk_at dksX4_mark_2 12 rfl rfl)
theorem dX4_mark_59 : decode cX4_mark 59 = .ok (.getfield 9, 3) := dk_180 0 9 (dk_at dksX4_mark_2 13 rfl rfl)
theorem dX4_mark_62 : decode cX4_mark 62 = .ok (.iload_n 3, 1) := dk_29 (dk_at dksX4_mark_2 16 rfl rfl)
theorem dX4_mark_63 : decode cX4_mark 63 = .ok (.bipush 12, 2) := dk_16 12 (dk_at dksX4_mark_2 17 rfl rfl)
theorem dX4_mark_65 : decode cX4_mark 65 = .ok (.imul, 1) := dk_104 (dk_at dksX4_mark_2 19 rfl rfl)
theorem dX4_mark_66 : decode cX4_mark 66 = .ok (.iload 5, 2) := dk_21 5 (dk_at dksX4_mark_2 20 rfl rfl)
theorem dX4_mark_68 : decode cX4_mark 68 = .ok (.iadd, 1) := dk_96 (dk_at dksX4_mark_2 22 rfl rfl)
theorem dX4_mark_69 : decode cX4_mark 69 = .ok (.dup2, 1) := dk_92 (dk_at dksX4_mark_2 23 rfl rfl)
theorem dX4_mark_70 : decode cX4_mark 70 = .ok (.iaload, 1) := dk_46 (dk_at dksX4_mark_3 0 rfl rfl)
theorem dX4_mark_71 : decode cX4_mark 71 = .ok (.aload 4, 2) := dk_25 4 (dk_at dksX4_mark_3 1 rfl rfl)
theorem dX4_mark_73 : decode cX4_mark 73 = .ok (.aload_n 2, 1) := dk_44 (dk_at dksX4_mark_3 3 rfl rfl)
theorem dX4_mark_74 : decode cX4_mark 74 = .ok (.iload 5, 2) := dk_21 5 (dk_at dksX4_mark_3 4 rfl rfl)
theorem dX4_mark_76 : decode cX4_mark 76 = .ok (.invokevirtual 82, 3) := dk_182 0 82 (dk_at dksX4_mark_3 6 rfl rfl)
theorem dX4_mark_79 : decode cX4_mark 79 = .ok (.ifCond .eq 9, 3) := dk_153 0 9 (dk_at dksX4_mark_3 9 rfl rfl)
theorem dX4_mark_82 : decode cX4_mark 82 = .ok (.iconst 1, 1) := dk_4 (dk_at dksX4_mark_3 12 rfl rfl)
theorem dX4_mark_83 : decode cX4_mark 83 = .ok (.iload_n 1, 1) := dk_27 (dk_at dksX4_mark_3 13 rfl rfl)
theorem dX4_mark_84 : decode cX4_mark 84 = .ok (.ishl, 1) := dk_120 (dk_at dksX4_mark_3 14 rfl rfl)
theorem dX4_mark_85 : decode cX4_mark 85 = .ok (.goto 4, 3) := dk_167 0 4 (dk_at dksX4_mark_3 15 rfl rfl)
theorem dX4_mark_88 : decode cX4_mark 88 = .ok (.iconst 0, 1) := dk_3 (dk_at dksX4_mark_3 18 rfl rfl)
theorem dX4_mark_89 : decode cX4_mark 89 = .ok (.ior, 1) := dk_128 (dk_at dksX4_mark_3 19 rfl rfl)
theorem dX4_mark_90 : decode cX4_mark 90 = .ok (.iastore, 1) := dk_79 (dk_at dksX4_mark_3 20 rfl rfl)
theorem dX4_mark_91 : decode cX4_mark 91 = .ok (.iinc 5 1, 3) := dk_132 5 1 (dk_at dksX4_mark_3 21 rfl rfl)
theorem dX4_mark_94 : decode cX4_mark 94 = .ok (.goto (-46), 3) := dk_167 255 210 (dk_at dksX4_mark_4 0 rfl rfl)
theorem dX4_mark_97 : decode cX4_mark 97 = .ok (.iinc 3 1, 3) := dk_132 3 1 (dk_at dksX4_mark_4 3 rfl rfl)
theorem dX4_mark_100 : decode cX4_mark 100 = .ok (.goto (-88), 3) := dk_167 255 168 (dk_at dksX4_mark_4 6 rfl rfl)
theorem dX4_mark_103 : decode cX4_mark 103 = .ok (.return_, 1) := dk_177 (dk_at dksX4_mark_4 9 rfl rfl)
abbrev cX4_isPossible : ByteArray := prog_5_method_12_code
def yX4_isPossible : MethodName := ⟨RX4, "isPossible", "(ILRubberStamps$Inks;)Z"⟩
def dkwX4_isPossible_1 : List UInt8 := [182, 0, 114, 153, 0, 15, 42, 44, 182, 0, 118, 153, 0, 7, 4, 167, 0, 4, 3, 172]
abbrev dktX4_isPossible_1 : List UInt8 := dkwX4_isPossible_1 ++ []
def dkwX4_isPossible_0 : List UInt8 := [42, 27, 44, 42, 180, 0, 24, 180, 0, 34, 182, 0, 40, 42, 180, 0, 24, 180, 0, 108, 182, 0, 111]
abbrev dktX4_isPossible_0 : List UInt8 := dkwX4_isPossible_0 ++ dktX4_isPossible_1
theorem dksX4_isPossible_0 : cX4_isPossible.data.toList.drop 0 = dktX4_isPossible_0 := by decide +kernel
theorem dksX4_isPossible_1 : cX4_isPossible.data.toList.drop 23 = dktX4_isPossible_1 := dk_seg dksX4_isPossible_0 23 rfl rfl
theorem dX4_isPossible_0 : decode cX4_isPossible 0 = .ok (.aload_n 0, 1) := dk_42 (dk_at dksX4_isPossible_0 0 rfl rfl)
theorem dX4_isPossible_1 : decode cX4_isPossible 1 = .ok (.iload_n 1, 1) := dk_27 (dk_at dksX4_isPossible_0 1 rfl rfl)
theorem dX4_isPossible_2 : decode cX4_isPossible 2 = .ok (.aload_n 2, 1) := dk_44 (dk_at dksX4_isPossible_0 2 rfl rfl)
theorem dX4_isPossible_3 : decode cX4_isPossible 3 = .ok (.aload_n 0, 1) := dk_42 (dk_at dksX4_isPossible_0 3 rfl rfl)
theorem dX4_isPossible_4 : decode cX4_isPossible 4 = .ok (.getfield 24, 3) := dk_180 0 24 (dk_at dksX4_isPossible_0 4 rfl rfl)
theorem dX4_isPossible_7 : decode cX4_isPossible 7 = .ok (.getfield 34, 3) := dk_180 0 34 (dk_at dksX4_isPossible_0 7 rfl rfl)
theorem dX4_isPossible_10 : decode cX4_isPossible 10 = .ok (.invokevirtual 40, 3) := dk_182 0 40 (dk_at dksX4_isPossible_0 10 rfl rfl)
theorem dX4_isPossible_13 : decode cX4_isPossible 13 = .ok (.aload_n 0, 1) := dk_42 (dk_at dksX4_isPossible_0 13 rfl rfl)
theorem dX4_isPossible_14 : decode cX4_isPossible 14 = .ok (.getfield 24, 3) := dk_180 0 24 (dk_at dksX4_isPossible_0 14 rfl rfl)
theorem dX4_isPossible_17 : decode cX4_isPossible 17 = .ok (.getfield 108, 3) := dk_180 0 108 (dk_at dksX4_isPossible_0 17 rfl rfl)
theorem dX4_isPossible_20 : decode cX4_isPossible 20 = .ok (.invokevirtual 111, 3) := dk_182 0 111 (dk_at dksX4_isPossible_0 20 rfl rfl)
theorem dX4_isPossible_23 : decode cX4_isPossible 23 = .ok (.invokevirtual 114, 3) := dk_182 0 114 (dk_at dksX4_isPossible_1 0 rfl rfl)
theorem dX4_isPossible_26 : decode cX4_isPossible 26 = .ok (.ifCond .eq 15, 3) := dk_153 0 15 (dk_at dksX4_isPossible_1 3 rfl rfl)
theorem dX4_isPossible_29 : decode cX4_isPossible 29 = .ok (.aload_n 0, 1) := dk_42 (dk_at dksX4_isPossible_1 6 rfl rfl)
theorem dX4_isPossible_30 : decode cX4_isPossible 30 = .ok (.aload_n 2, 1) := dk_44 (dk_at dksX4_isPossible_1 7 rfl rfl)
theorem dX4_isPossible_31 : decode cX4_isPossible 31 = .ok (.invokevirtual 118, 3) := dk_182 0 118 (dk_at dksX4_isPossible_1 8 rfl rfl)
theorem dX4_isPossible_34 : decode cX4_isPossible 34 = .ok (.ifCond .eq 7, 3) := dk_153 0 7 (dk_at dksX4_isPossible_1 11 rfl rfl)
theorem dX4_isPossible_37 : decode cX4_isPossible 37 = .ok (.iconst 1, 1) := dk_4 (dk_at dksX4_isPossible_1 14 rfl rfl)
theorem dX4_isPossible_38 : decode cX4_isPossible 38 = .ok (.goto 4, 3) := dk_167 0 4 (dk_at dksX4_isPossible_1 15 rfl rfl)
theorem dX4_isPossible_41 : decode cX4_isPossible 41 = .ok (.iconst 0, 1) := dk_3 (dk_at dksX4_isPossible_1 18 rfl rfl)
theorem dX4_isPossible_42 : decode cX4_isPossible 42 = .ok (.ireturn, 1) := dk_172 (dk_at dksX4_isPossible_1 19 rfl rfl)
abbrev cX4_lay : ByteArray := prog_5_method_8_code
def yX4_lay : MethodName := ⟨RX4, "lay", "(II)Z"⟩
def dkwX4_lay_5 : List UInt8 := [181, 0, 96, 21, 4, 42, 180, 0, 15, 21, 5, 46, 96, 54, 4, 167, 255, 168, 4, 172]
abbrev dktX4_lay_5 : List UInt8 := dkwX4_lay_5 ++ []
def dkwX4_lay_4 : List UInt8 := [132, 5, 1, 167, 255, 213, 42, 180, 0, 21, 42, 180, 0, 96, 21, 5, 79, 42, 89, 180, 0, 96, 4, 96]
abbrev dktX4_lay_4 : List UInt8 := dkwX4_lay_4 ++ dktX4_lay_5
def dkwX4_lay_3 : List UInt8 := [21, 4, 42, 180, 0, 15, 21, 5, 46, 96, 46, 42, 180, 0, 18, 21, 4, 46, 4, 100, 159, 0, 9]
abbrev dktX4_lay_3 : List UInt8 := dkwX4_lay_3 ++ dktX4_lay_4
def dkwX4_lay_2 : List UInt8 := [162, 0, 88, 3, 54, 5, 42, 27, 21, 4, 21, 5, 28, 182, 0, 86, 153, 0, 30, 42, 180, 0, 18]
abbrev dktX4_lay_2 : List UInt8 := dkwX4_lay_2 ++ dktX4_lay_3
def dkwX4_lay_1 : List UInt8 := [180, 0, 76, 27, 182, 0, 46, 192, 0, 79, 180, 0, 81, 182, 0, 73, 62, 3, 54, 4, 21, 4, 29]
abbrev dktX4_lay_1 : List UInt8 := dkwX4_lay_1 ++ dktX4_lay_2
def dkwX4_lay_0 : List UInt8 := [42, 3, 181, 0, 96, 42, 27, 28, 182, 0, 100, 16, 100, 160, 0, 5, 3, 172, 42, 180, 0, 24]
abbrev dktX4_lay_0 : List UInt8 := dkwX4_lay_0 ++ dktX4_lay_1
theorem dksX4_lay_0 : cX4_lay.data.toList.drop 0 = dktX4_lay_0 := by decide +kernel
theorem dksX4_lay_1 : cX4_lay.data.toList.drop 22 = dktX4_lay_1 := dk_seg dksX4_lay_0 22 rfl rfl
theorem dksX4_lay_2 : cX4_lay.data.toList.drop 45 = dktX4_lay_2 := dk_seg dksX4_lay_1 23 rfl rfl
theorem dksX4_lay_3 : cX4_lay.data.toList.drop 68 = dktX4_lay_3 := dk_seg dksX4_lay_2 23 rfl rfl
theorem dksX4_lay_4 : cX4_lay.data.toList.drop 91 = dktX4_lay_4 := dk_seg dksX4_lay_3 23 rfl rfl
theorem dksX4_lay_5 : cX4_lay.data.toList.drop 115 = dktX4_lay_5 := dk_seg dksX4_lay_4 24 rfl rfl
theorem dX4_lay_0 : decode cX4_lay 0 = .ok (.aload_n 0, 1) := dk_42 (dk_at dksX4_lay_0 0 rfl rfl)
theorem dX4_lay_1 : decode cX4_lay 1 = .ok (.iconst 0, 1) := dk_3 (dk_at dksX4_lay_0 1 rfl rfl)
theorem dX4_lay_2 : decode cX4_lay 2 = .ok (.putfield 96, 3) := dk_181 0 96 (dk_at dksX4_lay_0 2 rfl rfl)
theorem dX4_lay_5 : decode cX4_lay 5 = .ok (.aload_n 0, 1) := dk_42 (dk_at dksX4_lay_0 5 rfl rfl)
theorem dX4_lay_6 : decode cX4_lay 6 = .ok (.iload_n 1, 1) := dk_27 (dk_at dksX4_lay_0 6 rfl rfl)
theorem dX4_lay_7 : decode cX4_lay 7 = .ok (.iload_n 2, 1) := dk_28 (dk_at dksX4_lay_0 7 rfl rfl)
theorem dX4_lay_8 : decode cX4_lay 8 = .ok (.invokevirtual 100, 3) := dk_182 0 100 (dk_at dksX4_lay_0 8 rfl rfl)
theorem dX4_lay_11 : decode cX4_lay 11 = .ok (.bipush 100, 2) := dk_16 100 (dk_at dksX4_lay_0 11 rfl rfl)
theorem dX4_lay_13 : decode cX4_lay 13 = .ok (.if_icmp .ne 5, 3) := dk_160 0 5 (dk_at dksX4_lay_0 13 rfl rfl)
theorem dX4_lay_16 : decode cX4_lay 16 = .ok (.iconst 0, 1) := dk_3 (dk_at dksX4_lay_0 16 rfl rfl)
theorem dX4_lay_17 : decode cX4_lay 17 = .ok (.ireturn, 1) := dk_172 (dk_at dksX4_lay_0 17 rfl rfl)
theorem dX4_lay_18 : decode cX4_lay 18 = .ok (.aload_n 0, 1) := dk_42 (dk_at dksX4_lay_0 18 rfl rfl)
theorem dX4_lay_19 : decode cX4_lay 19 = .ok (.getfield 24, 3) := dk_180 0 24 (dk_at dksX4_lay_0 19 rfl rfl)
theorem dX4_lay_22 : decode cX4_lay 22 = .ok (.getfield 76, 3) := dk_180 0 76 (dk_at dksX4_lay_1 0 rfl rfl)
theorem dX4_lay_25 : decode cX4_lay 25 = .ok (.iload_n 1, 1) := dk_27 (dk_at dksX4_lay_1 3 rfl rfl)
theorem dX4_lay_26 : decode cX4_lay 26 = .ok (.invokevirtual 46, 3) := dk_182 0 46 (dk_at dksX4_lay_1 4 rfl rfl)
theorem dX4_lay_29 : decode cX4_lay 29 = .ok (.checkcast 79, 3) := dk_192 0 79 (dk_at dksX4_lay_1 7 rfl rfl)
theorem dX4_lay_32 : decode cX4_lay 32 = .ok (.getfield 81, 3) := dk_180 0 81 (dk_at dksX4_lay_1 10 rfl rfl)
theorem dX4_lay_35 : decode cX4_lay 35 = .ok (.invokevirtual 73, 3) := dk_182 0 73 (dk_at dksX4_lay_1 13 rfl rfl)
theorem dX4_lay_38 : decode cX4_lay 38 = .ok (.istore_n 3, 1) := dk_62 (dk_at dksX4_lay_1 16 rfl rfl)
theorem dX4_lay_39 : decode cX4_lay 39 = .ok (.iconst 0, 1) := dk_3 (dk_at dksX4_lay_1 17 rfl rfl)
theorem dX4_lay_40 : decode cX4_lay 40 = .ok (.istore 4, 2) := dk_54 4 (dk_at dksX4_lay_1 18 rfl rfl)
theorem dX4_lay_42 : decode cX4_lay 42 = .ok (.iload 4, 2) := dk_21 4 (dk_at dksX4_lay_1 20 rfl rfl)
theorem dX4_lay_44 : decode cX4_lay 44 = .ok (.iload_n 3, 1) := dk_29 (dk_at dksX4_lay_1 22 rfl rfl)
theorem dX4_lay_45 : decode cX4_lay 45 = .ok (.if_icmp .ge 88, 3) := dk_162 0 88 (dk_at dksX4_lay_2 0 rfl rfl)
theorem dX4_lay_48 : decode cX4_lay 48 = .ok (.iconst 0, 1) := dk_3 (dk_at dksX4_lay_2 3 rfl rfl)
theorem dX4_lay_49 : decode cX4_lay 49 = .ok (.istore 5, 2) := dk_54 5 (dk_at dksX4_lay_2 4 rfl rfl)
theorem dX4_lay_51 : decode cX4_lay 51 = .ok (.aload_n 0, 1) := dk_42 (dk_at dksX4_lay_2 6 rfl rfl)
theorem dX4_lay_52 : decode cX4_lay 52 = .ok (.iload_n 1, 1) := dk_27 (dk_at dksX4_lay_2 7 rfl rfl)
theorem dX4_lay_53 : decode cX4_lay 53 = .ok (.iload 4, 2) := dk_21 4 (dk_at dksX4_lay_2 8 rfl rfl)
theorem dX4_lay_55 : decode cX4_lay 55 = .ok (.iload 5, 2) := dk_21 5 (dk_at dksX4_lay_2 10 rfl rfl)
theorem dX4_lay_57 : decode cX4_lay 57 = .ok (.iload_n 2, 1) := dk_28 (dk_at dksX4_lay_2 12 rfl rfl)
theorem dX4_lay_58 : decode cX4_lay 58 = .ok (.invokevirtual 86, 3) := dk_182 0 86 (dk_at dksX4_lay_2 13 rfl rfl)
theorem dX4_lay_61 : decode cX4_lay 61 = .ok (.ifCond .eq 30, 3) := dk_153 0 30 (dk_at dksX4_lay_2 16 rfl rfl)
theorem dX4_lay_64 : decode cX4_lay 64 = .ok (.aload_n 0, 1) := dk_42 (dk_at dksX4_lay_2 19 rfl rfl)
theorem dX4_lay_65 : decode cX4_lay 65 = .ok (.getfield 18, 3) := dk_180 0 18 (dk_at dksX4_lay_2 20 rfl rfl)
theorem dX4_lay_68 : decode cX4_lay 68 = .ok (.iload 4, 2) := dk_21 4 (dk_at dksX4_lay_3 0 rfl rfl)
theorem dX4_lay_70 : decode cX4_lay 70 = .ok (.aload_n 0, 1) := dk_42 (dk_at dksX4_lay_3 2 rfl rfl)
theorem dX4_lay_71 : decode cX4_lay 71 = .ok (.getfield 15, 3) := dk_180 0 15 (dk_at dksX4_lay_3 3 rfl rfl)
theorem dX4_lay_74 : decode cX4_lay 74 = .ok (.iload 5, 2) := dk_21 5 (dk_at dksX4_lay_3 6 rfl rfl)
theorem dX4_lay_76 : decode cX4_lay 76 = .ok (.iaload, 1) := dk_46 (dk_at dksX4_lay_3 8 rfl rfl)
theorem dX4_lay_77 : decode cX4_lay 77 = .ok (.iadd, 1) := dk_96 (dk_at dksX4_lay_3 9 rfl rfl)
theorem dX4_lay_78 : decode cX4_lay 78 = .ok (.iaload, 1) := dk_46 (dk_at dksX4_lay_3 10 rfl rfl)
theorem dX4_lay_79 : decode cX4_lay 79 = .ok (.aload_n 0, 1) := dk_42 (dk_at dksX4_lay_3 11 rfl rfl)
theorem dX4_lay_80 : decode cX4_lay 80 = .ok (.getfield 18, 3) := dk_180 0 18 (dk_at dksX4_lay_3 12 rfl rfl)
theorem dX4_lay_83 : decode cX4_lay 83 = .ok (.iload 4, 2) := dk_21 4 (dk_at dksX4_lay_3 15 rfl rfl)
theorem dX4_lay_85 : decode cX4_lay 85 = .ok (.iaload, 1) := dk_46 (dk_at dksX4_lay_3 17 rfl rfl)
theorem dX4_lay_86 : decode cX4_lay 86 = .ok (.iconst 1, 1) := dk_4 (dk_at dksX4_lay_3 18 rfl rfl)
theorem dX4_lay_87 : decode cX4_lay 87 = .ok (.isub, 1) := dk_100 (dk_at dksX4_lay_3 19 rfl rfl)
theorem dX4_lay_88 : decode cX4_lay 88 = .ok (.if_icmp .eq 9, 3) := dk_159 0 9 (dk_at dksX4_lay_3 20 rfl rfl)
theorem dX4_lay_91 : decode cX4_lay 91 = .ok (.iinc 5 1, 3) := dk_132 5 1 (dk_at dksX4_lay_4 0 rfl rfl)
theorem dX4_lay_94 : decode cX4_lay 94 = .ok (.goto (-43), 3) := dk_167 255 213 (dk_at dksX4_lay_4 3 rfl rfl)
theorem dX4_lay_97 : decode cX4_lay 97 = .ok (.aload_n 0, 1) := dk_42 (dk_at dksX4_lay_4 6 rfl rfl)
theorem dX4_lay_98 : decode cX4_lay 98 = .ok (.getfield 21, 3) := dk_180 0 21 (dk_at dksX4_lay_4 7 rfl rfl)
theorem dX4_lay_101 : decode cX4_lay 101 = .ok (.aload_n 0, 1) := dk_42 (dk_at dksX4_lay_4 10 rfl rfl)
theorem dX4_lay_102 : decode cX4_lay 102 = .ok (.getfield 96, 3) := dk_180 0 96 (dk_at dksX4_lay_4 11 rfl rfl)
theorem dX4_lay_105 : decode cX4_lay 105 = .ok (.iload 5, 2) := dk_21 5 (dk_at dksX4_lay_4 14 rfl rfl)
theorem dX4_lay_107 : decode cX4_lay 107 = .ok (.iastore, 1) := dk_79 (dk_at dksX4_lay_4 16 rfl rfl)
theorem dX4_lay_108 : decode cX4_lay 108 = .ok (.aload_n 0, 1) := dk_42 (dk_at dksX4_lay_4 17 rfl rfl)
theorem dX4_lay_109 : decode cX4_lay 109 = .ok (.dup, 1) := dk_89 (dk_at dksX4_lay_4 18 rfl rfl)
theorem dX4_lay_110 : decode cX4_lay 110 = .ok (.getfield 96, 3) := dk_180 0 96 (dk_at dksX4_lay_4 19 rfl rfl)
theorem dX4_lay_113 : decode cX4_lay 113 = .ok (.iconst 1, 1) := dk_4 (dk_at dksX4_lay_4 22 rfl rfl)
theorem dX4_lay_114 : decode cX4_lay 114 = .ok (.iadd, 1) := dk_96 (dk_at dksX4_lay_4 23 rfl rfl)
theorem dX4_lay_115 : decode cX4_lay 115 = .ok (.putfield 96, 3) := dk_181 0 96 (dk_at dksX4_lay_5 0 rfl rfl)
theorem dX4_lay_118 : decode cX4_lay 118 = .ok (.iload 4, 2) := dk_21 4 (dk_at dksX4_lay_5 3 rfl rfl)
theorem dX4_lay_120 : decode cX4_lay 120 = .ok (.aload_n 0, 1) := dk_42 (dk_at dksX4_lay_5 5 rfl rfl)
theorem dX4_lay_121 : decode cX4_lay 121 = .ok (.getfield 15, 3) := dk_180 0 15 (dk_at dksX4_lay_5 6 rfl rfl)
theorem dX4_lay_124 : decode cX4_lay 124 = .ok (.iload 5, 2) := dk_21 5 (dk_at dksX4_lay_5 9 rfl rfl)
theorem dX4_lay_126 : decode cX4_lay 126 = .ok (.iaload, 1) := dk_46 (dk_at dksX4_lay_5 11 rfl rfl)
theorem dX4_lay_127 : decode cX4_lay 127 = .ok (.iadd, 1) := dk_96 (dk_at dksX4_lay_5 12 rfl rfl)
theorem dX4_lay_128 : decode cX4_lay 128 = .ok (.istore 4, 2) := dk_54 4 (dk_at dksX4_lay_5 13 rfl rfl)
theorem dX4_lay_130 : decode cX4_lay 130 = .ok (.goto (-88), 3) := dk_167 255 168 (dk_at dksX4_lay_5 15 rfl rfl)
theorem dX4_lay_133 : decode cX4_lay 133 = .ok (.iconst 1, 1) := dk_4 (dk_at dksX4_lay_5 18 rfl rfl)
theorem dX4_lay_134 : decode cX4_lay 134 = .ok (.ireturn, 1) := dk_172 (dk_at dksX4_lay_5 19 rfl rfl)
abbrev cX4_fewest : ByteArray := prog_5_method_7_code
def yX4_fewest : MethodName := ⟨RX4, "fewest", "(II)I"⟩
def dkwX4_fewest_5 : List UInt8 := [132, 4, 255, 167, 255, 168, 42, 180, 0, 18, 3, 46, 172]
abbrev dktX4_fewest_5 : List UInt8 := dkwX4_fewest_5 ++ []
def dkwX4_fewest_4 : List UInt8 := [42, 180, 0, 15, 21, 5, 46, 96, 46, 4, 96, 184, 0, 90, 184, 0, 90, 79, 132, 5, 1, 167, 255, 191]
abbrev dktX4_fewest_4 : List UInt8 := dkwX4_fewest_4 ++ dktX4_fewest_5
def dkwX4_fewest_3 : List UInt8 := [153, 0, 42, 42, 180, 0, 18, 21, 4, 42, 180, 0, 18, 21, 4, 46, 16, 100, 42, 180, 0, 18, 21, 4]
abbrev dktX4_fewest_3 : List UInt8 := dkwX4_fewest_3 ++ dktX4_fewest_4
def dkwX4_fewest_2 : List UInt8 := [79, 3, 54, 5, 21, 5, 42, 180, 0, 15, 190, 162, 0, 61, 42, 27, 21, 4, 21, 5, 28, 182, 0, 86]
abbrev dktX4_fewest_2 : List UInt8 := dkwX4_fewest_2 ++ dktX4_fewest_3
def dkwX4_fewest_1 : List UInt8 := [180, 0, 18, 29, 3, 79, 29, 4, 100, 54, 4, 21, 4, 155, 0, 89, 42, 180, 0, 18, 21, 4, 16, 100]
abbrev dktX4_fewest_1 : List UInt8 := dkwX4_fewest_1 ++ dktX4_fewest_2
def dkwX4_fewest_0 : List UInt8 := [42, 180, 0, 24, 180, 0, 76, 27, 182, 0, 46, 192, 0, 79, 180, 0, 81, 182, 0, 73, 62, 42]
abbrev dktX4_fewest_0 : List UInt8 := dkwX4_fewest_0 ++ dktX4_fewest_1
theorem dksX4_fewest_0 : cX4_fewest.data.toList.drop 0 = dktX4_fewest_0 := by decide +kernel
theorem dksX4_fewest_1 : cX4_fewest.data.toList.drop 22 = dktX4_fewest_1 := dk_seg dksX4_fewest_0 22 rfl rfl
theorem dksX4_fewest_2 : cX4_fewest.data.toList.drop 46 = dktX4_fewest_2 := dk_seg dksX4_fewest_1 24 rfl rfl
theorem dksX4_fewest_3 : cX4_fewest.data.toList.drop 70 = dktX4_fewest_3 := dk_seg dksX4_fewest_2 24 rfl rfl
theorem dksX4_fewest_4 : cX4_fewest.data.toList.drop 94 = dktX4_fewest_4 := dk_seg dksX4_fewest_3 24 rfl rfl
theorem dksX4_fewest_5 : cX4_fewest.data.toList.drop 118 = dktX4_fewest_5 := dk_seg dksX4_fewest_4 24 rfl rfl
theorem dX4_fewest_0 : decode cX4_fewest 0 = .ok (.aload_n 0, 1) := dk_42 (dk_at dksX4_fewest_0 0 rfl rfl)
theorem dX4_fewest_1 : decode cX4_fewest 1 = .ok (.getfield 24, 3) := dk_180 0 24 (dk_at dksX4_fewest_0 1 rfl rfl)
theorem dX4_fewest_4 : decode cX4_fewest 4 = .ok (.getfield 76, 3) := dk_180 0 76 (dk_at dksX4_fewest_0 4 rfl rfl)
theorem dX4_fewest_7 : decode cX4_fewest 7 = .ok (.iload_n 1, 1) := dk_27 (dk_at dksX4_fewest_0 7 rfl rfl)
theorem dX4_fewest_8 : decode cX4_fewest 8 = .ok (.invokevirtual 46, 3) := dk_182 0 46 (dk_at dksX4_fewest_0 8 rfl rfl)
theorem dX4_fewest_11 : decode cX4_fewest 11 = .ok (.checkcast 79, 3) := dk_192 0 79 (dk_at dksX4_fewest_0 11 rfl rfl)
theorem dX4_fewest_14 : decode cX4_fewest 14 = .ok (.getfield 81, 3) := dk_180 0 81 (dk_at dksX4_fewest_0 14 rfl rfl)
theorem dX4_fewest_17 : decode cX4_fewest 17 = .ok (.invokevirtual 73, 3) := dk_182 0 73 (dk_at dksX4_fewest_0 17 rfl rfl)
theorem dX4_fewest_20 : decode cX4_fewest 20 = .ok (.istore_n 3, 1) := dk_62 (dk_at dksX4_fewest_0 20 rfl rfl)
theorem dX4_fewest_21 : decode cX4_fewest 21 = .ok (.aload_n 0, 1) := dk_42 (dk_at dksX4_fewest_0 21 rfl rfl)
theorem dX4_fewest_22 : decode cX4_fewest 22 = .ok (.getfield 18, 3) := dk_180 0 18 (dk_at dksX4_fewest_1 0 rfl rfl)
theorem dX4_fewest_25 : decode cX4_fewest 25 = .ok (.iload_n 3, 1) := dk_29 (dk_at dksX4_fewest_1 3 rfl rfl)
theorem dX4_fewest_26 : decode cX4_fewest 26 = .ok (.iconst 0, 1) := dk_3 (dk_at dksX4_fewest_1 4 rfl rfl)
theorem dX4_fewest_27 : decode cX4_fewest 27 = .ok (.iastore, 1) := dk_79 (dk_at dksX4_fewest_1 5 rfl rfl)
theorem dX4_fewest_28 : decode cX4_fewest 28 = .ok (.iload_n 3, 1) := dk_29 (dk_at dksX4_fewest_1 6 rfl rfl)
theorem dX4_fewest_29 : decode cX4_fewest 29 = .ok (.iconst 1, 1) := dk_4 (dk_at dksX4_fewest_1 7 rfl rfl)
theorem dX4_fewest_30 : decode cX4_fewest 30 = .ok (.isub, 1) := dk_100 (dk_at dksX4_fewest_1 8 rfl rfl)
theorem dX4_fewest_31 : decode cX4_fewest 31 = .ok (.istore 4, 2) := dk_54 4 (dk_at dksX4_fewest_1 9 rfl rfl)
theorem dX4_fewest_33 : decode cX4_fewest 33 = .ok (.iload 4, 2) := dk_21 4 (dk_at dksX4_fewest_1 11 rfl rfl)
theorem dX4_fewest_35 : decode cX4_fewest 35 = .ok (.ifCond .lt 89, 3) := dk_155 0 89 (dk_at dksX4_fewest_1 13 rfl rfl)
theorem dX4_fewest_38 : decode cX4_fewest 38 = .ok (.aload_n 0, 1) := dk_42 (dk_at dksX4_fewest_1 16 rfl rfl)
theorem dX4_fewest_39 : decode cX4_fewest 39 = .ok (.getfield 18, 3) := dk_180 0 18 (dk_at dksX4_fewest_1 17 rfl rfl)
theorem dX4_fewest_42 : decode cX4_fewest 42 = .ok (.iload 4, 2) := dk_21 4 (dk_at dksX4_fewest_1 20 rfl rfl)
theorem dX4_fewest_44 : decode cX4_fewest 44 = .ok (.bipush 100, 2) := dk_16 100 (dk_at dksX4_fewest_1 22 rfl rfl)
theorem dX4_fewest_46 : decode cX4_fewest 46 = .ok (.iastore, 1) := dk_79 (dk_at dksX4_fewest_2 0 rfl rfl)
theorem dX4_fewest_47 : decode cX4_fewest 47 = .ok (.iconst 0, 1) := dk_3 (dk_at dksX4_fewest_2 1 rfl rfl)
theorem dX4_fewest_48 : decode cX4_fewest 48 = .ok (.istore 5, 2) := dk_54 5 (dk_at dksX4_fewest_2 2 rfl rfl)
theorem dX4_fewest_50 : decode cX4_fewest 50 = .ok (.iload 5, 2) := dk_21 5 (dk_at dksX4_fewest_2 4 rfl rfl)
theorem dX4_fewest_52 : decode cX4_fewest 52 = .ok (.aload_n 0, 1) := dk_42 (dk_at dksX4_fewest_2 6 rfl rfl)
theorem dX4_fewest_53 : decode cX4_fewest 53 = .ok (.getfield 15, 3) := dk_180 0 15 (dk_at dksX4_fewest_2 7 rfl rfl)
theorem dX4_fewest_56 : decode cX4_fewest 56 = .ok (.arraylength, 1) := dk_190 (dk_at dksX4_fewest_2 10 rfl rfl)
theorem dX4_fewest_57 : decode cX4_fewest 57 = .ok (.if_icmp .ge 61, 3) := dk_162 0 61 (dk_at dksX4_fewest_2 11 rfl rfl)
theorem dX4_fewest_60 : decode cX4_fewest 60 = .ok (.aload_n 0, 1) := dk_42 (dk_at dksX4_fewest_2 14 rfl rfl)
theorem dX4_fewest_61 : decode cX4_fewest 61 = .ok (.iload_n 1, 1) := dk_27 (dk_at dksX4_fewest_2 15 rfl rfl)
theorem dX4_fewest_62 : decode cX4_fewest 62 = .ok (.iload 4, 2) := dk_21 4 (dk_at dksX4_fewest_2 16 rfl rfl)
theorem dX4_fewest_64 : decode cX4_fewest 64 = .ok (.iload 5, 2) := dk_21 5 (dk_at dksX4_fewest_2 18 rfl rfl)
theorem dX4_fewest_66 : decode cX4_fewest 66 = .ok (.iload_n 2, 1) := dk_28 (dk_at dksX4_fewest_2 20 rfl rfl)
theorem dX4_fewest_67 : decode cX4_fewest 67 = .ok (.invokevirtual 86, 3) := dk_182 0 86 (dk_at dksX4_fewest_2 21 rfl rfl)
theorem dX4_fewest_70 : decode cX4_fewest 70 = .ok (.ifCond .eq 42, 3) := dk_153 0 42 (dk_at dksX4_fewest_3 0 rfl rfl)
theorem dX4_fewest_73 : decode cX4_fewest 73 = .ok (.aload_n 0, 1) := dk_42 (dk_at dksX4_fewest_3 3 rfl rfl)
theorem dX4_fewest_74 : decode cX4_fewest 74 = .ok (.getfield 18, 3) := dk_180 0 18 (dk_at dksX4_fewest_3 4 rfl rfl)
theorem dX4_fewest_77 : decode cX4_fewest 77 = .ok (.iload 4, 2) := dk_21 4 (dk_at dksX4_fewest_3 7 rfl rfl)
theorem dX4_fewest_79 : decode cX4_fewest 79 = .ok (.aload_n 0, 1) := dk_42 (dk_at dksX4_fewest_3 9 rfl rfl)
theorem dX4_fewest_80 : decode cX4_fewest 80 = .ok (.getfield 18, 3) := dk_180 0 18 (dk_at dksX4_fewest_3 10 rfl rfl)
theorem dX4_fewest_83 : decode cX4_fewest 83 = .ok (.iload 4, 2) := dk_21 4 (dk_at dksX4_fewest_3 13 rfl rfl)
theorem dX4_fewest_85 : decode cX4_fewest 85 = .ok (.iaload, 1) := dk_46 (dk_at dksX4_fewest_3 15 rfl rfl)
theorem dX4_fewest_86 : decode cX4_fewest 86 = .ok (.bipush 100, 2) := dk_16 100 (dk_at dksX4_fewest_3 16 rfl rfl)
theorem dX4_fewest_88 : decode cX4_fewest 88 = .ok (.aload_n 0, 1) := dk_42 (dk_at dksX4_fewest_3 18 rfl rfl)
theorem dX4_fewest_89 : decode cX4_fewest 89 = .ok (.getfield 18, 3) := dk_180 0 18 (dk_at dksX4_fewest_3 19 rfl rfl)
theorem dX4_fewest_92 : decode cX4_fewest 92 = .ok (.iload 4, 2) := dk_21 4 (dk_at dksX4_fewest_3 22 rfl rfl)
theorem dX4_fewest_94 : decode cX4_fewest 94 = .ok (.aload_n 0, 1) := dk_42 (dk_at dksX4_fewest_4 0 rfl rfl)
theorem dX4_fewest_95 : decode cX4_fewest 95 = .ok (.getfield 15, 3) := dk_180 0 15 (dk_at dksX4_fewest_4 1 rfl rfl)
theorem dX4_fewest_98 : decode cX4_fewest 98 = .ok (.iload 5, 2) := dk_21 5 (dk_at dksX4_fewest_4 4 rfl rfl)
theorem dX4_fewest_100 : decode cX4_fewest 100 = .ok (.iaload, 1) := dk_46 (dk_at dksX4_fewest_4 6 rfl rfl)
theorem dX4_fewest_101 : decode cX4_fewest 101 = .ok (.iadd, 1) := dk_96 (dk_at dksX4_fewest_4 7 rfl rfl)
theorem dX4_fewest_102 : decode cX4_fewest 102 = .ok (.iaload, 1) := dk_46 (dk_at dksX4_fewest_4 8 rfl rfl)
theorem dX4_fewest_103 : decode cX4_fewest 103 = .ok (.iconst 1, 1) := dk_4 (dk_at dksX4_fewest_4 9 rfl rfl)
theorem dX4_fewest_104 : decode cX4_fewest 104 = .ok (.iadd, 1) := dk_96 (dk_at dksX4_fewest_4 10 rfl rfl)
theorem dX4_fewest_105 : decode cX4_fewest 105 = .ok (.invokestatic 90, 3) := dk_184 0 90 (dk_at dksX4_fewest_4 11 rfl rfl)
theorem dX4_fewest_108 : decode cX4_fewest 108 = .ok (.invokestatic 90, 3) := dk_184 0 90 (dk_at dksX4_fewest_4 14 rfl rfl)
theorem dX4_fewest_111 : decode cX4_fewest 111 = .ok (.iastore, 1) := dk_79 (dk_at dksX4_fewest_4 17 rfl rfl)
theorem dX4_fewest_112 : decode cX4_fewest 112 = .ok (.iinc 5 1, 3) := dk_132 5 1 (dk_at dksX4_fewest_4 18 rfl rfl)
theorem dX4_fewest_115 : decode cX4_fewest 115 = .ok (.goto (-65), 3) := dk_167 255 191 (dk_at dksX4_fewest_4 21 rfl rfl)
theorem dX4_fewest_118 : decode cX4_fewest 118 = .ok (.iinc 4 (-1), 3) := dk_132 4 255 (dk_at dksX4_fewest_5 0 rfl rfl)
theorem dX4_fewest_121 : decode cX4_fewest 121 = .ok (.goto (-88), 3) := dk_167 255 168 (dk_at dksX4_fewest_5 3 rfl rfl)
theorem dX4_fewest_124 : decode cX4_fewest 124 = .ok (.aload_n 0, 1) := dk_42 (dk_at dksX4_fewest_5 6 rfl rfl)
theorem dX4_fewest_125 : decode cX4_fewest 125 = .ok (.getfield 18, 3) := dk_180 0 18 (dk_at dksX4_fewest_5 7 rfl rfl)
theorem dX4_fewest_128 : decode cX4_fewest 128 = .ok (.iconst 0, 1) := dk_3 (dk_at dksX4_fewest_5 10 rfl rfl)
theorem dX4_fewest_129 : decode cX4_fewest 129 = .ok (.iaload, 1) := dk_46 (dk_at dksX4_fewest_5 11 rfl rfl)
theorem dX4_fewest_130 : decode cX4_fewest 130 = .ok (.ireturn, 1) := dk_172 (dk_at dksX4_fewest_5 12 rfl rfl)
abbrev cX4_mayPress : ByteArray := prog_5_method_6_code
def yX4_mayPress : MethodName := ⟨RX4, "mayPress", "(IIII)Z"⟩
def dkwX4_mayPress_1 : List UInt8 := [122, 4, 126, 4, 160, 0, 7, 4, 167, 0, 4, 3, 172]
abbrev dktX4_mayPress_1 : List UInt8 := dkwX4_mayPress_1 ++ []
def dkwX4_mayPress_0 : List UInt8 := [21, 4, 29, 5, 108, 122, 4, 126, 4, 160, 0, 26, 42, 180, 0, 9, 27, 16, 12, 104, 28, 96, 46, 29]
abbrev dktX4_mayPress_0 : List UInt8 := dkwX4_mayPress_0 ++ dktX4_mayPress_1
theorem dksX4_mayPress_0 : cX4_mayPress.data.toList.drop 0 = dktX4_mayPress_0 := by decide +kernel
theorem dksX4_mayPress_1 : cX4_mayPress.data.toList.drop 24 = dktX4_mayPress_1 := dk_seg dksX4_mayPress_0 24 rfl rfl
theorem dX4_mayPress_0 : decode cX4_mayPress 0 = .ok (.iload 4, 2) := dk_21 4 (dk_at dksX4_mayPress_0 0 rfl rfl)
theorem dX4_mayPress_2 : decode cX4_mayPress 2 = .ok (.iload_n 3, 1) := dk_29 (dk_at dksX4_mayPress_0 2 rfl rfl)
theorem dX4_mayPress_3 : decode cX4_mayPress 3 = .ok (.iconst 2, 1) := dk_5 (dk_at dksX4_mayPress_0 3 rfl rfl)
theorem dX4_mayPress_4 : decode cX4_mayPress 4 = .ok (.idiv, 1) := dk_108 (dk_at dksX4_mayPress_0 4 rfl rfl)
theorem dX4_mayPress_5 : decode cX4_mayPress 5 = .ok (.ishr, 1) := dk_122 (dk_at dksX4_mayPress_0 5 rfl rfl)
theorem dX4_mayPress_6 : decode cX4_mayPress 6 = .ok (.iconst 1, 1) := dk_4 (dk_at dksX4_mayPress_0 6 rfl rfl)
theorem dX4_mayPress_7 : decode cX4_mayPress 7 = .ok (.iand, 1) := dk_126 (dk_at dksX4_mayPress_0 7 rfl rfl)
theorem dX4_mayPress_8 : decode cX4_mayPress 8 = .ok (.iconst 1, 1) := dk_4 (dk_at dksX4_mayPress_0 8 rfl rfl)
theorem dX4_mayPress_9 : decode cX4_mayPress 9 = .ok (.if_icmp .ne 26, 3) := dk_160 0 26 (dk_at dksX4_mayPress_0 9 rfl rfl)
theorem dX4_mayPress_12 : decode cX4_mayPress 12 = .ok (.aload_n 0, 1) := dk_42 (dk_at dksX4_mayPress_0 12 rfl rfl)
theorem dX4_mayPress_13 : decode cX4_mayPress 13 = .ok (.getfield 9, 3) := dk_180 0 9 (dk_at dksX4_mayPress_0 13 rfl rfl)
theorem dX4_mayPress_16 : decode cX4_mayPress 16 = .ok (.iload_n 1, 1) := dk_27 (dk_at dksX4_mayPress_0 16 rfl rfl)
theorem dX4_mayPress_17 : decode cX4_mayPress 17 = .ok (.bipush 12, 2) := dk_16 12 (dk_at dksX4_mayPress_0 17 rfl rfl)
theorem dX4_mayPress_19 : decode cX4_mayPress 19 = .ok (.imul, 1) := dk_104 (dk_at dksX4_mayPress_0 19 rfl rfl)
theorem dX4_mayPress_20 : decode cX4_mayPress 20 = .ok (.iload_n 2, 1) := dk_28 (dk_at dksX4_mayPress_0 20 rfl rfl)
theorem dX4_mayPress_21 : decode cX4_mayPress 21 = .ok (.iadd, 1) := dk_96 (dk_at dksX4_mayPress_0 21 rfl rfl)
theorem dX4_mayPress_22 : decode cX4_mayPress 22 = .ok (.iaload, 1) := dk_46 (dk_at dksX4_mayPress_0 22 rfl rfl)
theorem dX4_mayPress_23 : decode cX4_mayPress 23 = .ok (.iload_n 3, 1) := dk_29 (dk_at dksX4_mayPress_0 23 rfl rfl)
theorem dX4_mayPress_24 : decode cX4_mayPress 24 = .ok (.ishr, 1) := dk_122 (dk_at dksX4_mayPress_1 0 rfl rfl)
theorem dX4_mayPress_25 : decode cX4_mayPress 25 = .ok (.iconst 1, 1) := dk_4 (dk_at dksX4_mayPress_1 1 rfl rfl)
theorem dX4_mayPress_26 : decode cX4_mayPress 26 = .ok (.iand, 1) := dk_126 (dk_at dksX4_mayPress_1 2 rfl rfl)
theorem dX4_mayPress_27 : decode cX4_mayPress 27 = .ok (.iconst 1, 1) := dk_4 (dk_at dksX4_mayPress_1 3 rfl rfl)
theorem dX4_mayPress_28 : decode cX4_mayPress 28 = .ok (.if_icmp .ne 7, 3) := dk_160 0 7 (dk_at dksX4_mayPress_1 4 rfl rfl)
theorem dX4_mayPress_31 : decode cX4_mayPress 31 = .ok (.iconst 1, 1) := dk_4 (dk_at dksX4_mayPress_1 7 rfl rfl)
theorem dX4_mayPress_32 : decode cX4_mayPress 32 = .ok (.goto 4, 3) := dk_167 0 4 (dk_at dksX4_mayPress_1 8 rfl rfl)
theorem dX4_mayPress_35 : decode cX4_mayPress 35 = .ok (.iconst 0, 1) := dk_3 (dk_at dksX4_mayPress_1 11 rfl rfl)
theorem dX4_mayPress_36 : decode cX4_mayPress 36 = .ok (.ireturn, 1) := dk_172 (dk_at dksX4_mayPress_1 12 rfl rfl)
abbrev cX4_isWithin : ByteArray := prog_5_method_9_code
def yX4_isWithin : MethodName := ⟨RX4, "isWithin", "(LRubberStamps$Inks;)Z"⟩
def dkwX4_isWithin_4 : List UInt8 := [167, 0, 4, 3, 126, 61, 132, 3, 1, 167, 255, 160, 28, 172]
abbrev dktX4_isWithin_4 : List UInt8 := dkwX4_isWithin_4 ++ []
def dkwX4_isWithin_3 : List UInt8 := [180, 0, 21, 29, 46, 5, 108, 46, 21, 4, 96, 42, 180, 0, 24, 180, 0, 108, 163, 0, 7, 4]
abbrev dktX4_isWithin_3 : List UInt8 := dkwX4_isWithin_3 ++ dktX4_isWithin_4
def dkwX4_isWithin_2 : List UInt8 := [160, 0, 7, 4, 167, 0, 4, 3, 96, 54, 4, 132, 5, 1, 167, 255, 214, 28, 43, 180, 0, 103, 42]
abbrev dktX4_isWithin_2 : List UInt8 := dkwX4_isWithin_2 ++ dktX4_isWithin_3
def dkwX4_isWithin_1 : List UInt8 := [162, 0, 39, 21, 4, 42, 180, 0, 21, 21, 5, 46, 5, 108, 42, 180, 0, 21, 29, 46, 5, 108]
abbrev dktX4_isWithin_1 : List UInt8 := dkwX4_isWithin_1 ++ dktX4_isWithin_2
def dkwX4_isWithin_0 : List UInt8 := [4, 61, 3, 62, 29, 42, 180, 0, 96, 162, 0, 94, 3, 54, 4, 3, 54, 5, 21, 5, 42, 180, 0, 96]
abbrev dktX4_isWithin_0 : List UInt8 := dkwX4_isWithin_0 ++ dktX4_isWithin_1
theorem dksX4_isWithin_0 : cX4_isWithin.data.toList.drop 0 = dktX4_isWithin_0 := by decide +kernel
theorem dksX4_isWithin_1 : cX4_isWithin.data.toList.drop 24 = dktX4_isWithin_1 := dk_seg dksX4_isWithin_0 24 rfl rfl
theorem dksX4_isWithin_2 : cX4_isWithin.data.toList.drop 46 = dktX4_isWithin_2 := dk_seg dksX4_isWithin_1 22 rfl rfl
theorem dksX4_isWithin_3 : cX4_isWithin.data.toList.drop 69 = dktX4_isWithin_3 := dk_seg dksX4_isWithin_2 23 rfl rfl
theorem dksX4_isWithin_4 : cX4_isWithin.data.toList.drop 91 = dktX4_isWithin_4 := dk_seg dksX4_isWithin_3 22 rfl rfl
theorem dX4_isWithin_0 : decode cX4_isWithin 0 = .ok (.iconst 1, 1) := dk_4 (dk_at dksX4_isWithin_0 0 rfl rfl)
theorem dX4_isWithin_1 : decode cX4_isWithin 1 = .ok (.istore_n 2, 1) := dk_61 (dk_at dksX4_isWithin_0 1 rfl rfl)
theorem dX4_isWithin_2 : decode cX4_isWithin 2 = .ok (.iconst 0, 1) := dk_3 (dk_at dksX4_isWithin_0 2 rfl rfl)
theorem dX4_isWithin_3 : decode cX4_isWithin 3 = .ok (.istore_n 3, 1) := dk_62 (dk_at dksX4_isWithin_0 3 rfl rfl)
theorem dX4_isWithin_4 : decode cX4_isWithin 4 = .ok (.iload_n 3, 1) := dk_29 (dk_at dksX4_isWithin_0 4 rfl rfl)
theorem dX4_isWithin_5 : decode cX4_isWithin 5 = .ok (.aload_n 0, 1) := dk_42 (dk_at dksX4_isWithin_0 5 rfl rfl)
theorem dX4_isWithin_6 : decode cX4_isWithin 6 = .ok (.getfield 96, 3) := dk_180 0 96 (dk_at dksX4_isWithin_0 6 rfl rfl)
theorem dX4_isWithin_9 : decode cX4_isWithin 9 = .ok (.if_icmp .ge 94, 3) := dk_162 0 94 (dk_at dksX4_isWithin_0 9 rfl rfl)
theorem dX4_isWithin_12 : decode cX4_isWithin 12 = .ok (.iconst 0, 1) := dk_3 (dk_at dksX4_isWithin_0 12 rfl rfl)
theorem dX4_isWithin_13 : decode cX4_isWithin 13 = .ok (.istore 4, 2) := dk_54 4 (dk_at dksX4_isWithin_0 13 rfl rfl)
theorem dX4_isWithin_15 : decode cX4_isWithin 15 = .ok (.iconst 0, 1) := dk_3 (dk_at dksX4_isWithin_0 15 rfl rfl)
theorem dX4_isWithin_16 : decode cX4_isWithin 16 = .ok (.istore 5, 2) := dk_54 5 (dk_at dksX4_isWithin_0 16 rfl rfl)
theorem dX4_isWithin_18 : decode cX4_isWithin 18 = .ok (.iload 5, 2) := dk_21 5 (dk_at dksX4_isWithin_0 18 rfl rfl)
theorem dX4_isWithin_20 : decode cX4_isWithin 20 = .ok (.aload_n 0, 1) := dk_42 (dk_at dksX4_isWithin_0 20 rfl rfl)
theorem dX4_isWithin_21 : decode cX4_isWithin 21 = .ok (.getfield 96, 3) := dk_180 0 96 (dk_at dksX4_isWithin_0 21 rfl rfl)
theorem dX4_isWithin_24 : decode cX4_isWithin 24 = .ok (.if_icmp .ge 39, 3) := dk_162 0 39 (dk_at dksX4_isWithin_1 0 rfl rfl)
theorem dX4_isWithin_27 : decode cX4_isWithin 27 = .ok (.iload 4, 2) := dk_21 4 (dk_at dksX4_isWithin_1 3 rfl rfl)
theorem dX4_isWithin_29 : decode cX4_isWithin 29 = .ok (.aload_n 0, 1) := dk_42 (dk_at dksX4_isWithin_1 5 rfl rfl)
theorem dX4_isWithin_30 : decode cX4_isWithin 30 = .ok (.getfield 21, 3) := dk_180 0 21 (dk_at dksX4_isWithin_1 6 rfl rfl)
theorem dX4_isWithin_33 : decode cX4_isWithin 33 = .ok (.iload 5, 2) := dk_21 5 (dk_at dksX4_isWithin_1 9 rfl rfl)
theorem dX4_isWithin_35 : decode cX4_isWithin 35 = .ok (.iaload, 1) := dk_46 (dk_at dksX4_isWithin_1 11 rfl rfl)
theorem dX4_isWithin_36 : decode cX4_isWithin 36 = .ok (.iconst 2, 1) := dk_5 (dk_at dksX4_isWithin_1 12 rfl rfl)
theorem dX4_isWithin_37 : decode cX4_isWithin 37 = .ok (.idiv, 1) := dk_108 (dk_at dksX4_isWithin_1 13 rfl rfl)
theorem dX4_isWithin_38 : decode cX4_isWithin 38 = .ok (.aload_n 0, 1) := dk_42 (dk_at dksX4_isWithin_1 14 rfl rfl)
theorem dX4_isWithin_39 : decode cX4_isWithin 39 = .ok (.getfield 21, 3) := dk_180 0 21 (dk_at dksX4_isWithin_1 15 rfl rfl)
theorem dX4_isWithin_42 : decode cX4_isWithin 42 = .ok (.iload_n 3, 1) := dk_29 (dk_at dksX4_isWithin_1 18 rfl rfl)
theorem dX4_isWithin_43 : decode cX4_isWithin 43 = .ok (.iaload, 1) := dk_46 (dk_at dksX4_isWithin_1 19 rfl rfl)
theorem dX4_isWithin_44 : decode cX4_isWithin 44 = .ok (.iconst 2, 1) := dk_5 (dk_at dksX4_isWithin_1 20 rfl rfl)
theorem dX4_isWithin_45 : decode cX4_isWithin 45 = .ok (.idiv, 1) := dk_108 (dk_at dksX4_isWithin_1 21 rfl rfl)
theorem dX4_isWithin_46 : decode cX4_isWithin 46 = .ok (.if_icmp .ne 7, 3) := dk_160 0 7 (dk_at dksX4_isWithin_2 0 rfl rfl)
theorem dX4_isWithin_49 : decode cX4_isWithin 49 = .ok (.iconst 1, 1) := dk_4 (dk_at dksX4_isWithin_2 3 rfl rfl)
theorem dX4_isWithin_50 : decode cX4_isWithin 50 = .ok (.goto 4, 3) := dk_167 0 4 (dk_at dksX4_isWithin_2 4 rfl rfl)
theorem dX4_isWithin_53 : decode cX4_isWithin 53 = .ok (.iconst 0, 1) := dk_3 (dk_at dksX4_isWithin_2 7 rfl rfl)
theorem dX4_isWithin_54 : decode cX4_isWithin 54 = .ok (.iadd, 1) := dk_96 (dk_at dksX4_isWithin_2 8 rfl rfl)
theorem dX4_isWithin_55 : decode cX4_isWithin 55 = .ok (.istore 4, 2) := dk_54 4 (dk_at dksX4_isWithin_2 9 rfl rfl)
theorem dX4_isWithin_57 : decode cX4_isWithin 57 = .ok (.iinc 5 1, 3) := dk_132 5 1 (dk_at dksX4_isWithin_2 11 rfl rfl)
theorem dX4_isWithin_60 : decode cX4_isWithin 60 = .ok (.goto (-42), 3) := dk_167 255 214 (dk_at dksX4_isWithin_2 14 rfl rfl)
theorem dX4_isWithin_63 : decode cX4_isWithin 63 = .ok (.iload_n 2, 1) := dk_28 (dk_at dksX4_isWithin_2 17 rfl rfl)
theorem dX4_isWithin_64 : decode cX4_isWithin 64 = .ok (.aload_n 1, 1) := dk_43 (dk_at dksX4_isWithin_2 18 rfl rfl)
theorem dX4_isWithin_65 : decode cX4_isWithin 65 = .ok (.getfield 103, 3) := dk_180 0 103 (dk_at dksX4_isWithin_2 19 rfl rfl)
theorem dX4_isWithin_68 : decode cX4_isWithin 68 = .ok (.aload_n 0, 1) := dk_42 (dk_at dksX4_isWithin_2 22 rfl rfl)
theorem dX4_isWithin_69 : decode cX4_isWithin 69 = .ok (.getfield 21, 3) := dk_180 0 21 (dk_at dksX4_isWithin_3 0 rfl rfl)
theorem dX4_isWithin_72 : decode cX4_isWithin 72 = .ok (.iload_n 3, 1) := dk_29 (dk_at dksX4_isWithin_3 3 rfl rfl)
theorem dX4_isWithin_73 : decode cX4_isWithin 73 = .ok (.iaload, 1) := dk_46 (dk_at dksX4_isWithin_3 4 rfl rfl)
theorem dX4_isWithin_74 : decode cX4_isWithin 74 = .ok (.iconst 2, 1) := dk_5 (dk_at dksX4_isWithin_3 5 rfl rfl)
theorem dX4_isWithin_75 : decode cX4_isWithin 75 = .ok (.idiv, 1) := dk_108 (dk_at dksX4_isWithin_3 6 rfl rfl)
theorem dX4_isWithin_76 : decode cX4_isWithin 76 = .ok (.iaload, 1) := dk_46 (dk_at dksX4_isWithin_3 7 rfl rfl)
theorem dX4_isWithin_77 : decode cX4_isWithin 77 = .ok (.iload 4, 2) := dk_21 4 (dk_at dksX4_isWithin_3 8 rfl rfl)
theorem dX4_isWithin_79 : decode cX4_isWithin 79 = .ok (.iadd, 1) := dk_96 (dk_at dksX4_isWithin_3 10 rfl rfl)
theorem dX4_isWithin_80 : decode cX4_isWithin 80 = .ok (.aload_n 0, 1) := dk_42 (dk_at dksX4_isWithin_3 11 rfl rfl)
theorem dX4_isWithin_81 : decode cX4_isWithin 81 = .ok (.getfield 24, 3) := dk_180 0 24 (dk_at dksX4_isWithin_3 12 rfl rfl)
theorem dX4_isWithin_84 : decode cX4_isWithin 84 = .ok (.getfield 108, 3) := dk_180 0 108 (dk_at dksX4_isWithin_3 15 rfl rfl)
theorem dX4_isWithin_87 : decode cX4_isWithin 87 = .ok (.if_icmp .gt 7, 3) := dk_163 0 7 (dk_at dksX4_isWithin_3 18 rfl rfl)
theorem dX4_isWithin_90 : decode cX4_isWithin 90 = .ok (.iconst 1, 1) := dk_4 (dk_at dksX4_isWithin_3 21 rfl rfl)
theorem dX4_isWithin_91 : decode cX4_isWithin 91 = .ok (.goto 4, 3) := dk_167 0 4 (dk_at dksX4_isWithin_4 0 rfl rfl)
theorem dX4_isWithin_94 : decode cX4_isWithin 94 = .ok (.iconst 0, 1) := dk_3 (dk_at dksX4_isWithin_4 3 rfl rfl)
theorem dX4_isWithin_95 : decode cX4_isWithin 95 = .ok (.iand, 1) := dk_126 (dk_at dksX4_isWithin_4 4 rfl rfl)
theorem dX4_isWithin_96 : decode cX4_isWithin 96 = .ok (.istore_n 2, 1) := dk_61 (dk_at dksX4_isWithin_4 5 rfl rfl)
theorem dX4_isWithin_97 : decode cX4_isWithin 97 = .ok (.iinc 3 1, 3) := dk_132 3 1 (dk_at dksX4_isWithin_4 6 rfl rfl)
theorem dX4_isWithin_100 : decode cX4_isWithin 100 = .ok (.goto (-96), 3) := dk_167 255 160 (dk_at dksX4_isWithin_4 9 rfl rfl)
theorem dX4_isWithin_103 : decode cX4_isWithin 103 = .ok (.iload_n 2, 1) := dk_28 (dk_at dksX4_isWithin_4 12 rfl rfl)
theorem dX4_isWithin_104 : decode cX4_isWithin 104 = .ok (.ireturn, 1) := dk_172 (dk_at dksX4_isWithin_4 13 rfl rfl)
abbrev cX4_write : ByteArray := prog_5_method_13_code
def yX4_write : MethodName := ⟨RX4, "write", "(ILRubberStamps$Inks;)I"⟩
def dkwX4_write_2 : List UInt8 := [132, 3, 1, 167, 255, 209, 42, 180, 0, 96, 172]
abbrev dktX4_write_2 : List UInt8 := dkwX4_write_2 ++ []
def dkwX4_write_1 : List UInt8 := [180, 0, 76, 27, 182, 0, 46, 192, 0, 79, 180, 0, 122, 42, 180, 0, 24, 180, 0, 125, 182, 0, 128]
abbrev dktX4_write_1 : List UInt8 := dkwX4_write_1 ++ dktX4_write_2
def dkwX4_write_0 : List UInt8 := [3, 62, 29, 42, 180, 0, 96, 162, 0, 45, 44, 42, 180, 0, 21, 29, 46, 5, 108, 42, 180, 0, 24]
abbrev dktX4_write_0 : List UInt8 := dkwX4_write_0 ++ dktX4_write_1
theorem dksX4_write_0 : cX4_write.data.toList.drop 0 = dktX4_write_0 := by decide +kernel
theorem dksX4_write_1 : cX4_write.data.toList.drop 23 = dktX4_write_1 := dk_seg dksX4_write_0 23 rfl rfl
theorem dksX4_write_2 : cX4_write.data.toList.drop 46 = dktX4_write_2 := dk_seg dksX4_write_1 23 rfl rfl
theorem dX4_write_0 : decode cX4_write 0 = .ok (.iconst 0, 1) := dk_3 (dk_at dksX4_write_0 0 rfl rfl)
theorem dX4_write_1 : decode cX4_write 1 = .ok (.istore_n 3, 1) := dk_62 (dk_at dksX4_write_0 1 rfl rfl)
theorem dX4_write_2 : decode cX4_write 2 = .ok (.iload_n 3, 1) := dk_29 (dk_at dksX4_write_0 2 rfl rfl)
theorem dX4_write_3 : decode cX4_write 3 = .ok (.aload_n 0, 1) := dk_42 (dk_at dksX4_write_0 3 rfl rfl)
theorem dX4_write_4 : decode cX4_write 4 = .ok (.getfield 96, 3) := dk_180 0 96 (dk_at dksX4_write_0 4 rfl rfl)
theorem dX4_write_7 : decode cX4_write 7 = .ok (.if_icmp .ge 45, 3) := dk_162 0 45 (dk_at dksX4_write_0 7 rfl rfl)
theorem dX4_write_10 : decode cX4_write 10 = .ok (.aload_n 2, 1) := dk_44 (dk_at dksX4_write_0 10 rfl rfl)
theorem dX4_write_11 : decode cX4_write 11 = .ok (.aload_n 0, 1) := dk_42 (dk_at dksX4_write_0 11 rfl rfl)
theorem dX4_write_12 : decode cX4_write 12 = .ok (.getfield 21, 3) := dk_180 0 21 (dk_at dksX4_write_0 12 rfl rfl)
theorem dX4_write_15 : decode cX4_write 15 = .ok (.iload_n 3, 1) := dk_29 (dk_at dksX4_write_0 15 rfl rfl)
theorem dX4_write_16 : decode cX4_write 16 = .ok (.iaload, 1) := dk_46 (dk_at dksX4_write_0 16 rfl rfl)
theorem dX4_write_17 : decode cX4_write 17 = .ok (.iconst 2, 1) := dk_5 (dk_at dksX4_write_0 17 rfl rfl)
theorem dX4_write_18 : decode cX4_write 18 = .ok (.idiv, 1) := dk_108 (dk_at dksX4_write_0 18 rfl rfl)
theorem dX4_write_19 : decode cX4_write 19 = .ok (.aload_n 0, 1) := dk_42 (dk_at dksX4_write_0 19 rfl rfl)
theorem dX4_write_20 : decode cX4_write 20 = .ok (.getfield 24, 3) := dk_180 0 24 (dk_at dksX4_write_0 20 rfl rfl)
theorem dX4_write_23 : decode cX4_write 23 = .ok (.getfield 76, 3) := dk_180 0 76 (dk_at dksX4_write_1 0 rfl rfl)
theorem dX4_write_26 : decode cX4_write 26 = .ok (.iload_n 1, 1) := dk_27 (dk_at dksX4_write_1 3 rfl rfl)
theorem dX4_write_27 : decode cX4_write 27 = .ok (.invokevirtual 46, 3) := dk_182 0 46 (dk_at dksX4_write_1 4 rfl rfl)
theorem dX4_write_30 : decode cX4_write 30 = .ok (.checkcast 79, 3) := dk_192 0 79 (dk_at dksX4_write_1 7 rfl rfl)
theorem dX4_write_33 : decode cX4_write 33 = .ok (.getfield 122, 3) := dk_180 0 122 (dk_at dksX4_write_1 10 rfl rfl)
theorem dX4_write_36 : decode cX4_write 36 = .ok (.aload_n 0, 1) := dk_42 (dk_at dksX4_write_1 13 rfl rfl)
theorem dX4_write_37 : decode cX4_write 37 = .ok (.getfield 24, 3) := dk_180 0 24 (dk_at dksX4_write_1 14 rfl rfl)
theorem dX4_write_40 : decode cX4_write 40 = .ok (.getfield 125, 3) := dk_180 0 125 (dk_at dksX4_write_1 17 rfl rfl)
theorem dX4_write_43 : decode cX4_write 43 = .ok (.invokevirtual 128, 3) := dk_182 0 128 (dk_at dksX4_write_1 20 rfl rfl)
theorem dX4_write_46 : decode cX4_write 46 = .ok (.iinc 3 1, 3) := dk_132 3 1 (dk_at dksX4_write_2 0 rfl rfl)
theorem dX4_write_49 : decode cX4_write 49 = .ok (.goto (-47), 3) := dk_167 255 209 (dk_at dksX4_write_2 3 rfl rfl)
theorem dX4_write_52 : decode cX4_write 52 = .ok (.aload_n 0, 1) := dk_42 (dk_at dksX4_write_2 6 rfl rfl)
theorem dX4_write_53 : decode cX4_write 53 = .ok (.getfield 96, 3) := dk_180 0 96 (dk_at dksX4_write_2 7 rfl rfl)
theorem dX4_write_56 : decode cX4_write 56 = .ok (.ireturn, 1) := dk_172 (dk_at dksX4_write_2 10 rfl rfl)
abbrev cX4_hasAll : ByteArray := prog_5_method_10_code
def yX4_hasAll : MethodName := ⟨RX4, "hasAll", "(I)Z"⟩
def dkwX4_hasAll_1 : List UInt8 := [27, 182, 0, 100, 16, 100, 162, 0, 7, 4, 167, 0, 4, 3, 61, 132, 3, 1, 167, 255, 218, 28, 172]
abbrev dktX4_hasAll_1 : List UInt8 := dkwX4_hasAll_1 ++ []
def dkwX4_hasAll_0 : List UInt8 := [4, 61, 3, 62, 29, 42, 180, 0, 24, 180, 0, 76, 182, 0, 40, 162, 0, 30, 28, 153, 0, 26, 42, 29]
abbrev dktX4_hasAll_0 : List UInt8 := dkwX4_hasAll_0 ++ dktX4_hasAll_1
theorem dksX4_hasAll_0 : cX4_hasAll.data.toList.drop 0 = dktX4_hasAll_0 := by decide +kernel
theorem dksX4_hasAll_1 : cX4_hasAll.data.toList.drop 24 = dktX4_hasAll_1 := dk_seg dksX4_hasAll_0 24 rfl rfl
theorem dX4_hasAll_0 : decode cX4_hasAll 0 = .ok (.iconst 1, 1) := dk_4 (dk_at dksX4_hasAll_0 0 rfl rfl)
theorem dX4_hasAll_1 : decode cX4_hasAll 1 = .ok (.istore_n 2, 1) := dk_61 (dk_at dksX4_hasAll_0 1 rfl rfl)
theorem dX4_hasAll_2 : decode cX4_hasAll 2 = .ok (.iconst 0, 1) := dk_3 (dk_at dksX4_hasAll_0 2 rfl rfl)
theorem dX4_hasAll_3 : decode cX4_hasAll 3 = .ok (.istore_n 3, 1) := dk_62 (dk_at dksX4_hasAll_0 3 rfl rfl)
theorem dX4_hasAll_4 : decode cX4_hasAll 4 = .ok (.iload_n 3, 1) := dk_29 (dk_at dksX4_hasAll_0 4 rfl rfl)
theorem dX4_hasAll_5 : decode cX4_hasAll 5 = .ok (.aload_n 0, 1) := dk_42 (dk_at dksX4_hasAll_0 5 rfl rfl)
theorem dX4_hasAll_6 : decode cX4_hasAll 6 = .ok (.getfield 24, 3) := dk_180 0 24 (dk_at dksX4_hasAll_0 6 rfl rfl)
theorem dX4_hasAll_9 : decode cX4_hasAll 9 = .ok (.getfield 76, 3) := dk_180 0 76 (dk_at dksX4_hasAll_0 9 rfl rfl)
theorem dX4_hasAll_12 : decode cX4_hasAll 12 = .ok (.invokevirtual 40, 3) := dk_182 0 40 (dk_at dksX4_hasAll_0 12 rfl rfl)
theorem dX4_hasAll_15 : decode cX4_hasAll 15 = .ok (.if_icmp .ge 30, 3) := dk_162 0 30 (dk_at dksX4_hasAll_0 15 rfl rfl)
theorem dX4_hasAll_18 : decode cX4_hasAll 18 = .ok (.iload_n 2, 1) := dk_28 (dk_at dksX4_hasAll_0 18 rfl rfl)
theorem dX4_hasAll_19 : decode cX4_hasAll 19 = .ok (.ifCond .eq 26, 3) := dk_153 0 26 (dk_at dksX4_hasAll_0 19 rfl rfl)
theorem dX4_hasAll_22 : decode cX4_hasAll 22 = .ok (.aload_n 0, 1) := dk_42 (dk_at dksX4_hasAll_0 22 rfl rfl)
theorem dX4_hasAll_23 : decode cX4_hasAll 23 = .ok (.iload_n 3, 1) := dk_29 (dk_at dksX4_hasAll_0 23 rfl rfl)
theorem dX4_hasAll_24 : decode cX4_hasAll 24 = .ok (.iload_n 1, 1) := dk_27 (dk_at dksX4_hasAll_1 0 rfl rfl)
theorem dX4_hasAll_25 : decode cX4_hasAll 25 = .ok (.invokevirtual 100, 3) := dk_182 0 100 (dk_at dksX4_hasAll_1 1 rfl rfl)
theorem dX4_hasAll_28 : decode cX4_hasAll 28 = .ok (.bipush 100, 2) := dk_16 100 (dk_at dksX4_hasAll_1 4 rfl rfl)
theorem dX4_hasAll_30 : decode cX4_hasAll 30 = .ok (.if_icmp .ge 7, 3) := dk_162 0 7 (dk_at dksX4_hasAll_1 6 rfl rfl)
theorem dX4_hasAll_33 : decode cX4_hasAll 33 = .ok (.iconst 1, 1) := dk_4 (dk_at dksX4_hasAll_1 9 rfl rfl)
theorem dX4_hasAll_34 : decode cX4_hasAll 34 = .ok (.goto 4, 3) := dk_167 0 4 (dk_at dksX4_hasAll_1 10 rfl rfl)
theorem dX4_hasAll_37 : decode cX4_hasAll 37 = .ok (.iconst 0, 1) := dk_3 (dk_at dksX4_hasAll_1 13 rfl rfl)
theorem dX4_hasAll_38 : decode cX4_hasAll 38 = .ok (.istore_n 2, 1) := dk_61 (dk_at dksX4_hasAll_1 14 rfl rfl)
theorem dX4_hasAll_39 : decode cX4_hasAll 39 = .ok (.iinc 3 1, 3) := dk_132 3 1 (dk_at dksX4_hasAll_1 15 rfl rfl)
theorem dX4_hasAll_42 : decode cX4_hasAll 42 = .ok (.goto (-38), 3) := dk_167 255 218 (dk_at dksX4_hasAll_1 18 rfl rfl)
theorem dX4_hasAll_45 : decode cX4_hasAll 45 = .ok (.iload_n 2, 1) := dk_28 (dk_at dksX4_hasAll_1 21 rfl rfl)
theorem dX4_hasAll_46 : decode cX4_hasAll 46 = .ok (.ireturn, 1) := dk_172 (dk_at dksX4_hasAll_1 22 rfl rfl)
abbrev cX4_sum : ByteArray := prog_5_method_11_code
def yX4_sum : MethodName := ⟨RX4, "sum", "(I)I"⟩
def dkwX4_sum_1 : List UInt8 := [182, 0, 100, 96, 61, 132, 3, 1, 167, 255, 230, 28, 172]
abbrev dktX4_sum_1 : List UInt8 := dkwX4_sum_1 ++ []
def dkwX4_sum_0 : List UInt8 := [3, 61, 3, 62, 29, 42, 180, 0, 24, 180, 0, 76, 182, 0, 40, 162, 0, 18, 28, 42, 29, 27]
abbrev dktX4_sum_0 : List UInt8 := dkwX4_sum_0 ++ dktX4_sum_1
theorem dksX4_sum_0 : cX4_sum.data.toList.drop 0 = dktX4_sum_0 := by decide +kernel
theorem dksX4_sum_1 : cX4_sum.data.toList.drop 22 = dktX4_sum_1 := dk_seg dksX4_sum_0 22 rfl rfl
theorem dX4_sum_0 : decode cX4_sum 0 = .ok (.iconst 0, 1) := dk_3 (dk_at dksX4_sum_0 0 rfl rfl)
theorem dX4_sum_1 : decode cX4_sum 1 = .ok (.istore_n 2, 1) := dk_61 (dk_at dksX4_sum_0 1 rfl rfl)
theorem dX4_sum_2 : decode cX4_sum 2 = .ok (.iconst 0, 1) := dk_3 (dk_at dksX4_sum_0 2 rfl rfl)
theorem dX4_sum_3 : decode cX4_sum 3 = .ok (.istore_n 3, 1) := dk_62 (dk_at dksX4_sum_0 3 rfl rfl)
theorem dX4_sum_4 : decode cX4_sum 4 = .ok (.iload_n 3, 1) := dk_29 (dk_at dksX4_sum_0 4 rfl rfl)
theorem dX4_sum_5 : decode cX4_sum 5 = .ok (.aload_n 0, 1) := dk_42 (dk_at dksX4_sum_0 5 rfl rfl)
theorem dX4_sum_6 : decode cX4_sum 6 = .ok (.getfield 24, 3) := dk_180 0 24 (dk_at dksX4_sum_0 6 rfl rfl)
theorem dX4_sum_9 : decode cX4_sum 9 = .ok (.getfield 76, 3) := dk_180 0 76 (dk_at dksX4_sum_0 9 rfl rfl)
theorem dX4_sum_12 : decode cX4_sum 12 = .ok (.invokevirtual 40, 3) := dk_182 0 40 (dk_at dksX4_sum_0 12 rfl rfl)
theorem dX4_sum_15 : decode cX4_sum 15 = .ok (.if_icmp .ge 18, 3) := dk_162 0 18 (dk_at dksX4_sum_0 15 rfl rfl)
theorem dX4_sum_18 : decode cX4_sum 18 = .ok (.iload_n 2, 1) := dk_28 (dk_at dksX4_sum_0 18 rfl rfl)
theorem dX4_sum_19 : decode cX4_sum 19 = .ok (.aload_n 0, 1) := dk_42 (dk_at dksX4_sum_0 19 rfl rfl)
theorem dX4_sum_20 : decode cX4_sum 20 = .ok (.iload_n 3, 1) := dk_29 (dk_at dksX4_sum_0 20 rfl rfl)
theorem dX4_sum_21 : decode cX4_sum 21 = .ok (.iload_n 1, 1) := dk_27 (dk_at dksX4_sum_0 21 rfl rfl)
theorem dX4_sum_22 : decode cX4_sum 22 = .ok (.invokevirtual 100, 3) := dk_182 0 100 (dk_at dksX4_sum_1 0 rfl rfl)
theorem dX4_sum_25 : decode cX4_sum 25 = .ok (.iadd, 1) := dk_96 (dk_at dksX4_sum_1 3 rfl rfl)
theorem dX4_sum_26 : decode cX4_sum 26 = .ok (.istore_n 2, 1) := dk_61 (dk_at dksX4_sum_1 4 rfl rfl)
theorem dX4_sum_27 : decode cX4_sum 27 = .ok (.iinc 3 1, 3) := dk_132 3 1 (dk_at dksX4_sum_1 5 rfl rfl)
theorem dX4_sum_30 : decode cX4_sum 30 = .ok (.goto (-26), 3) := dk_167 255 230 (dk_at dksX4_sum_1 8 rfl rfl)
theorem dX4_sum_33 : decode cX4_sum 33 = .ok (.iload_n 2, 1) := dk_28 (dk_at dksX4_sum_1 11 rfl rfl)
theorem dX4_sum_34 : decode cX4_sum 34 = .ok (.ireturn, 1) := dk_172 (dk_at dksX4_sum_1 12 rfl rfl)
abbrev cX4_forget : ByteArray := prog_5_method_5_code
def yX4_forget : MethodName := ⟨RX4, "forget", "(I)V"⟩
def dkwX4_forget_1 : List UInt8 := [130, 126, 79, 132, 2, 1, 167, 255, 228, 177]
abbrev dktX4_forget_1 : List UInt8 := dkwX4_forget_1 ++ []
def dkwX4_forget_0 : List UInt8 := [3, 61, 28, 42, 180, 0, 9, 190, 162, 0, 25, 42, 180, 0, 9, 28, 92, 46, 6, 5, 27, 104, 120, 2]
abbrev dktX4_forget_0 : List UInt8 := dkwX4_forget_0 ++ dktX4_forget_1
theorem dksX4_forget_0 : cX4_forget.data.toList.drop 0 = dktX4_forget_0 := by decide +kernel
theorem dksX4_forget_1 : cX4_forget.data.toList.drop 24 = dktX4_forget_1 := dk_seg dksX4_forget_0 24 rfl rfl
theorem dX4_forget_0 : decode cX4_forget 0 = .ok (.iconst 0, 1) := dk_3 (dk_at dksX4_forget_0 0 rfl rfl)
theorem dX4_forget_1 : decode cX4_forget 1 = .ok (.istore_n 2, 1) := dk_61 (dk_at dksX4_forget_0 1 rfl rfl)
theorem dX4_forget_2 : decode cX4_forget 2 = .ok (.iload_n 2, 1) := dk_28 (dk_at dksX4_forget_0 2 rfl rfl)
theorem dX4_forget_3 : decode cX4_forget 3 = .ok (.aload_n 0, 1) := dk_42 (dk_at dksX4_forget_0 3 rfl rfl)
theorem dX4_forget_4 : decode cX4_forget 4 = .ok (.getfield 9, 3) := dk_180 0 9 (dk_at dksX4_forget_0 4 rfl rfl)
theorem dX4_forget_7 : decode cX4_forget 7 = .ok (.arraylength, 1) := dk_190 (dk_at dksX4_forget_0 7 rfl rfl)
theorem dX4_forget_8 : decode cX4_forget 8 = .ok (.if_icmp .ge 25, 3) := dk_162 0 25 (dk_at dksX4_forget_0 8 rfl rfl)
theorem dX4_forget_11 : decode cX4_forget 11 = .ok (.aload_n 0, 1) := dk_42 (dk_at dksX4_forget_0 11 rfl rfl)
theorem dX4_forget_12 : decode cX4_forget 12 = .ok (.getfield 9, 3) := dk_180 0 9 (dk_at dksX4_forget_0 12 rfl rfl)
theorem dX4_forget_15 : decode cX4_forget 15 = .ok (.iload_n 2, 1) := dk_28 (dk_at dksX4_forget_0 15 rfl rfl)
theorem dX4_forget_16 : decode cX4_forget 16 = .ok (.dup2, 1) := dk_92 (dk_at dksX4_forget_0 16 rfl rfl)
theorem dX4_forget_17 : decode cX4_forget 17 = .ok (.iaload, 1) := dk_46 (dk_at dksX4_forget_0 17 rfl rfl)
theorem dX4_forget_18 : decode cX4_forget 18 = .ok (.iconst 3, 1) := dk_6 (dk_at dksX4_forget_0 18 rfl rfl)
theorem dX4_forget_19 : decode cX4_forget 19 = .ok (.iconst 2, 1) := dk_5 (dk_at dksX4_forget_0 19 rfl rfl)
theorem dX4_forget_20 : decode cX4_forget 20 = .ok (.iload_n 1, 1) := dk_27 (dk_at dksX4_forget_0 20 rfl rfl)
theorem dX4_forget_21 : decode cX4_forget 21 = .ok (.imul, 1) := dk_104 (dk_at dksX4_forget_0 21 rfl rfl)
theorem dX4_forget_22 : decode cX4_forget 22 = .ok (.ishl, 1) := dk_120 (dk_at dksX4_forget_0 22 rfl rfl)
theorem dX4_forget_23 : decode cX4_forget 23 = .ok (.iconst (-1), 1) := dk_2 (dk_at dksX4_forget_0 23 rfl rfl)
theorem dX4_forget_24 : decode cX4_forget 24 = .ok (.ixor, 1) := dk_130 (dk_at dksX4_forget_1 0 rfl rfl)
theorem dX4_forget_25 : decode cX4_forget 25 = .ok (.iand, 1) := dk_126 (dk_at dksX4_forget_1 1 rfl rfl)
theorem dX4_forget_26 : decode cX4_forget 26 = .ok (.iastore, 1) := dk_79 (dk_at dksX4_forget_1 2 rfl rfl)
theorem dX4_forget_27 : decode cX4_forget 27 = .ok (.iinc 2 1, 3) := dk_132 2 1 (dk_at dksX4_forget_1 3 rfl rfl)
theorem dX4_forget_30 : decode cX4_forget 30 = .ok (.goto (-28), 3) := dk_167 255 228 (dk_at dksX4_forget_1 6 rfl rfl)
theorem dX4_forget_33 : decode cX4_forget 33 = .ok (.return_, 1) := dk_177 (dk_at dksX4_forget_1 9 rfl rfl)
theorem q70 : (Jvm.Cond.initialized "RubberStamps$Plans") ∈ lw_all := lw_g (lw_at lw_m1 9 rfl) rfl
theorem q154 : (Jvm.Cond.fieldLinkNest "RubberStamps$Plans" (103 : Nat) "RubberStamps$Inks" "wear" "[I" "RubberStamps") ∈ lw_tbl := lw_at lw_m1 93 rfl
theorem q177 : (Jvm.Cond.fieldLinkNest "RubberStamps$Plans" (34 : Nat) "RubberStamps$State" "stamps" "Ljava/util/ArrayList;" "RubberStamps") ∈ lw_tbl := lw_at lw_m1 116 rfl
theorem q181 : (Jvm.Cond.fieldLinkNest "RubberStamps$Plans" (76 : Nat) "RubberStamps$State" "words" "Ljava/util/ArrayList;" "RubberStamps") ∈ lw_tbl := lw_at lw_m1 120 rfl
theorem q184 : (Jvm.Cond.fieldLinkNest "RubberStamps$Plans" (108 : Nat) "RubberStamps$State" "limit" "I" "RubberStamps") ∈ lw_tbl := lw_at lw_m1 123 rfl
theorem q187 : (Jvm.Cond.fieldLinkNest "RubberStamps$Plans" (125 : Nat) "RubberStamps$State" "load" "I" "RubberStamps") ∈ lw_tbl := lw_at lw_m1 126 rfl
theorem q222 : (Jvm.Cond.instantiable "RubberStamps$Plans" (6 : Nat)) ∈ lw_all := lw_g (lw_at lw_m1 161 rfl) rfl
theorem q224 : (Jvm.Cond.instanceMethod ({ cls := "RubberStamps$Plans", name := "<init>", desc := "()V" } : Jvm.MethodName)) ∈ lw_all := lw_g (lw_at lw_m1 163 rfl) rfl
theorem q225 : (Jvm.Cond.code ({ cls := "RubberStamps$Plans", name := "<init>", desc := "()V" } : Jvm.MethodName) prog_5_method_1_code (1 : Nat) (Option.none : Option Jvm.ClassFile.FieldType)) ∈ lw_all := lw_g (lw_at lw_m1 164 rfl) rfl
theorem q226 : (Jvm.Cond.methodLink "RubberStamps$Plans" (3 : Nat) ({ cls := "java/lang/Object", name := "<init>", desc := "()V" } : Jvm.MethodName)) ∈ lw_all := lw_g (lw_at lw_m1 165 rfl) rfl
theorem q227 : (Jvm.Cond.fieldLink "RubberStamps$Plans" (24 : Nat) "RubberStamps$Plans" "state" "LRubberStamps$State;") ∈ lw_all := lw_g (lw_at lw_m1 166 rfl) rfl
theorem q228 : (Jvm.Cond.fieldLink "RubberStamps$Plans" (9 : Nat) "RubberStamps$Plans" "fits" "[I") ∈ lw_all := lw_g (lw_at lw_m1 167 rfl) rfl
theorem q229 : (Jvm.Cond.fieldLink "RubberStamps$Plans" (15 : Nat) "RubberStamps$Plans" "lengths" "[I") ∈ lw_all := lw_g (lw_at lw_m1 168 rfl) rfl
theorem q230 : (Jvm.Cond.fieldLink "RubberStamps$Plans" (18 : Nat) "RubberStamps$Plans" "least" "[I") ∈ lw_all := lw_g (lw_at lw_m1 169 rfl) rfl
theorem q231 : (Jvm.Cond.fieldLink "RubberStamps$Plans" (21 : Nat) "RubberStamps$Plans" "plan" "[I") ∈ lw_all := lw_g (lw_at lw_m1 170 rfl) rfl
theorem q233 : (Jvm.Cond.fieldLink "RubberStamps$Plans" (96 : Nat) "RubberStamps$Plans" "presses" "I") ∈ lw_all := lw_g (lw_at lw_m1 172 rfl) rfl
theorem q235 : (Jvm.Cond.lays "RubberStamps$Plans" "RubberStamps$Plans" "state" "LRubberStamps$State;") ∈ lw_all := lw_g (lw_at lw_m1 174 rfl) rfl
theorem q236 : (Jvm.Cond.soleField "RubberStamps$Plans" "state") ∈ lw_all := lw_g (lw_at lw_m1 175 rfl) rfl
theorem q237 : (Jvm.Cond.laysFinal "RubberStamps$Plans" "RubberStamps$Plans" "fits" "[I") ∈ lw_all := lw_g (lw_at lw_m1 176 rfl) rfl
theorem q238 : (Jvm.Cond.soleField "RubberStamps$Plans" "fits") ∈ lw_all := lw_g (lw_at lw_m1 177 rfl) rfl
theorem q239 : (Jvm.Cond.laysFinal "RubberStamps$Plans" "RubberStamps$Plans" "lengths" "[I") ∈ lw_all := lw_g (lw_at lw_m1 178 rfl) rfl
theorem q240 : (Jvm.Cond.soleField "RubberStamps$Plans" "lengths") ∈ lw_all := lw_g (lw_at lw_m1 179 rfl) rfl
theorem q241 : (Jvm.Cond.laysFinal "RubberStamps$Plans" "RubberStamps$Plans" "least" "[I") ∈ lw_all := lw_g (lw_at lw_m1 180 rfl) rfl
theorem q242 : (Jvm.Cond.soleField "RubberStamps$Plans" "least") ∈ lw_all := lw_g (lw_at lw_m1 181 rfl) rfl
theorem q243 : (Jvm.Cond.laysFinal "RubberStamps$Plans" "RubberStamps$Plans" "plan" "[I") ∈ lw_all := lw_g (lw_at lw_m1 182 rfl) rfl
theorem q244 : (Jvm.Cond.soleField "RubberStamps$Plans" "plan") ∈ lw_all := lw_g (lw_at lw_m1 183 rfl) rfl
theorem q245 : (Jvm.Cond.lays "RubberStamps$Plans" "RubberStamps$Plans" "presses" "I") ∈ lw_all := lw_g (lw_at lw_m1 184 rfl) rfl
theorem q246 : (Jvm.Cond.soleField "RubberStamps$Plans" "presses") ∈ lw_all := lw_g (lw_at lw_m1 185 rfl) rfl
theorem q247 : (Jvm.Cond.superclass "RubberStamps$Plans" "java/lang/Object") ∈ lw_all := lw_g (lw_at lw_m1 186 rfl) rfl
theorem q747 : (Jvm.Cond.fieldLinkNest "RubberStamps$Plans" (52 : Nat) "RubberStamps$Stamp" "letters" "Ljava/lang/String;" "RubberStamps") ∈ lw_tbl := lw_at lw_m3 206 rfl
theorem q751 : (Jvm.Cond.fieldLinkNest "RubberStamps$Plans" (56 : Nat) "RubberStamps$Stamp" "turned" "Ljava/lang/String;" "RubberStamps") ∈ lw_tbl := lw_at lw_m3 210 rfl
theorem q786 : (Jvm.Cond.selects "RubberStamps$Plans" ({ cls := "java/lang/Object", name := "getClass", desc := "()Ljava/lang/Class;" } : Jvm.MethodName) ({ cls := "java/lang/Object", name := "getClass", desc := "()Ljava/lang/Class;" } : Jvm.MethodName)) ∈ lw_all := lw_g (lw_at lw_m4 5 rfl) rfl
theorem q816 : (Jvm.Cond.fieldLinkNest "RubberStamps$Plans" (81 : Nat) "RubberStamps$Word" "letters" "Ljava/lang/String;" "RubberStamps") ∈ lw_tbl := lw_at lw_m4 35 rfl
theorem q819 : (Jvm.Cond.fieldLinkNest "RubberStamps$Plans" (122 : Nat) "RubberStamps$Word" "color" "I" "RubberStamps") ∈ lw_tbl := lw_at lw_m4 38 rfl
theorem q951 : (Jvm.Cond.instanceMethod ({ cls := "RubberStamps$Plans", name := "make", desc := "(LRubberStamps$State;)LRubberStamps$Plans;" } : Jvm.MethodName)) ∈ lw_all := lw_g (lw_at lw_m4 170 rfl) rfl
theorem q952 : (Jvm.Cond.selects "RubberStamps$Plans" ({ cls := "RubberStamps$Plans", name := "make", desc := "(LRubberStamps$State;)LRubberStamps$Plans;" } : Jvm.MethodName) ({ cls := "RubberStamps$Plans", name := "make", desc := "(LRubberStamps$State;)LRubberStamps$Plans;" } : Jvm.MethodName)) ∈ lw_all := lw_g (lw_at lw_m4 171 rfl) rfl
theorem q953 : (Jvm.Cond.code ({ cls := "RubberStamps$Plans", name := "make", desc := "(LRubberStamps$State;)LRubberStamps$Plans;" } : Jvm.MethodName) prog_5_method_2_code (3 : Nat) (Option.some (Jvm.ClassFile.FieldType.object "RubberStamps$Plans"))) ∈ lw_all := lw_g (lw_at lw_m4 172 rfl) rfl
theorem q954 : (Jvm.Cond.methodLink "RubberStamps$Plans" (28 : Nat) ({ cls := "java/util/Arrays", name := "fill", desc := "([II)V" } : Jvm.MethodName)) ∈ lw_all := lw_g (lw_at lw_m4 173 rfl) rfl
theorem q955 : (Jvm.Cond.methodLink "RubberStamps$Plans" (40 : Nat) ({ cls := "java/util/ArrayList", name := "size", desc := "()I" } : Jvm.MethodName)) ∈ lw_all := lw_g (lw_at lw_m4 174 rfl) rfl
theorem q956 : (Jvm.Cond.methodLink "RubberStamps$Plans" (46 : Nat) ({ cls := "java/util/ArrayList", name := "get", desc := "(I)Ljava/lang/Object;" } : Jvm.MethodName)) ∈ lw_all := lw_g (lw_at lw_m4 175 rfl) rfl
theorem q957 : (Jvm.Cond.classLink "RubberStamps$Plans" (50 : Nat) "RubberStamps$Stamp") ∈ lw_all := lw_g (lw_at lw_m4 176 rfl) rfl
theorem q958 : (Jvm.Cond.methodLink "RubberStamps$Plans" (59 : Nat) ({ cls := "RubberStamps$Plans", name := "add", desc := "(ILjava/lang/String;Ljava/lang/String;)V" } : Jvm.MethodName)) ∈ lw_all := lw_g (lw_at lw_m4 177 rfl) rfl
theorem q959 : (Jvm.Cond.instanceMethod ({ cls := "RubberStamps$Plans", name := "add", desc := "(ILjava/lang/String;Ljava/lang/String;)V" } : Jvm.MethodName)) ∈ lw_all := lw_g (lw_at lw_m4 178 rfl) rfl
theorem q960 : (Jvm.Cond.selects "RubberStamps$Plans" ({ cls := "RubberStamps$Plans", name := "add", desc := "(ILjava/lang/String;Ljava/lang/String;)V" } : Jvm.MethodName) ({ cls := "RubberStamps$Plans", name := "add", desc := "(ILjava/lang/String;Ljava/lang/String;)V" } : Jvm.MethodName)) ∈ lw_all := lw_g (lw_at lw_m4 179 rfl) rfl
theorem q961 : (Jvm.Cond.code ({ cls := "RubberStamps$Plans", name := "add", desc := "(ILjava/lang/String;Ljava/lang/String;)V" } : Jvm.MethodName) prog_5_method_3_code (4 : Nat) (Option.none : Option Jvm.ClassFile.FieldType)) ∈ lw_all := lw_g (lw_at lw_m4 180 rfl) rfl
theorem q962 : (Jvm.Cond.methodLink "RubberStamps$Plans" (63 : Nat) ({ cls := "RubberStamps$Plans", name := "mark", desc := "(ILjava/lang/String;)V" } : Jvm.MethodName)) ∈ lw_all := lw_g (lw_at lw_m4 181 rfl) rfl
theorem q963 : (Jvm.Cond.privateMethod ({ cls := "RubberStamps$Plans", name := "mark", desc := "(ILjava/lang/String;)V" } : Jvm.MethodName)) ∈ lw_tbl := lw_at lw_m4 182 rfl
theorem q964 : (Jvm.Cond.instanceMethod ({ cls := "RubberStamps$Plans", name := "mark", desc := "(ILjava/lang/String;)V" } : Jvm.MethodName)) ∈ lw_all := lw_g (lw_at lw_m4 183 rfl) rfl
theorem q965 : (Jvm.Cond.code ({ cls := "RubberStamps$Plans", name := "mark", desc := "(ILjava/lang/String;)V" } : Jvm.MethodName) prog_5_method_4_code (6 : Nat) (Option.none : Option Jvm.ClassFile.FieldType)) ∈ lw_all := lw_g (lw_at lw_m4 184 rfl) rfl
theorem q966 : (Jvm.Cond.methodLink "RubberStamps$Plans" (73 : Nat) ({ cls := "java/lang/String", name := "length", desc := "()I" } : Jvm.MethodName)) ∈ lw_all := lw_g (lw_at lw_m4 185 rfl) rfl
theorem q967 : (Jvm.Cond.classLink "RubberStamps$Plans" (79 : Nat) "RubberStamps$Word") ∈ lw_all := lw_g (lw_at lw_m4 186 rfl) rfl
theorem q968 : (Jvm.Cond.methodLink "RubberStamps$Plans" (82 : Nat) ({ cls := "java/lang/String", name := "startsWith", desc := "(Ljava/lang/String;I)Z" } : Jvm.MethodName)) ∈ lw_all := lw_g (lw_at lw_m4 187 rfl) rfl
theorem q1078 : (Jvm.Cond.methodLink "RubberStamps$Plans" (67 : Nat) ({ cls := "java/lang/String", name := "equals", desc := "(Ljava/lang/Object;)Z" } : Jvm.MethodName)) ∈ lw_all := lw_g (lw_at lw_m5 57 rfl) rfl
theorem q1087 : (Jvm.Cond.instanceMethod ({ cls := "RubberStamps$Plans", name := "isPossible", desc := "(ILRubberStamps$Inks;)Z" } : Jvm.MethodName)) ∈ lw_all := lw_g (lw_at lw_m5 66 rfl) rfl
theorem q1088 : (Jvm.Cond.selects "RubberStamps$Plans" ({ cls := "RubberStamps$Plans", name := "isPossible", desc := "(ILRubberStamps$Inks;)Z" } : Jvm.MethodName) ({ cls := "RubberStamps$Plans", name := "isPossible", desc := "(ILRubberStamps$Inks;)Z" } : Jvm.MethodName)) ∈ lw_all := lw_g (lw_at lw_m5 67 rfl) rfl
theorem q1089 : (Jvm.Cond.code ({ cls := "RubberStamps$Plans", name := "isPossible", desc := "(ILRubberStamps$Inks;)Z" } : Jvm.MethodName) prog_5_method_12_code (3 : Nat) (Option.some Jvm.ClassFile.FieldType.boolean)) ∈ lw_all := lw_g (lw_at lw_m5 68 rfl) rfl
theorem q1090 : (Jvm.Cond.methodLink "RubberStamps$Plans" (111 : Nat) ({ cls := "RubberStamps$Inks", name := "usable", desc := "(II)I" } : Jvm.MethodName)) ∈ lw_all := lw_g (lw_at lw_m5 69 rfl) rfl
theorem q1094 : (Jvm.Cond.methodLink "RubberStamps$Plans" (114 : Nat) ({ cls := "RubberStamps$Plans", name := "lay", desc := "(II)Z" } : Jvm.MethodName)) ∈ lw_all := lw_g (lw_at lw_m5 73 rfl) rfl
theorem q1095 : (Jvm.Cond.instanceMethod ({ cls := "RubberStamps$Plans", name := "lay", desc := "(II)Z" } : Jvm.MethodName)) ∈ lw_all := lw_g (lw_at lw_m5 74 rfl) rfl
theorem q1096 : (Jvm.Cond.selects "RubberStamps$Plans" ({ cls := "RubberStamps$Plans", name := "lay", desc := "(II)Z" } : Jvm.MethodName) ({ cls := "RubberStamps$Plans", name := "lay", desc := "(II)Z" } : Jvm.MethodName)) ∈ lw_all := lw_g (lw_at lw_m5 75 rfl) rfl
theorem q1097 : (Jvm.Cond.code ({ cls := "RubberStamps$Plans", name := "lay", desc := "(II)Z" } : Jvm.MethodName) prog_5_method_8_code (6 : Nat) (Option.some Jvm.ClassFile.FieldType.boolean)) ∈ lw_all := lw_g (lw_at lw_m5 76 rfl) rfl
theorem q1098 : (Jvm.Cond.methodLink "RubberStamps$Plans" (100 : Nat) ({ cls := "RubberStamps$Plans", name := "fewest", desc := "(II)I" } : Jvm.MethodName)) ∈ lw_all := lw_g (lw_at lw_m5 77 rfl) rfl
theorem q1099 : (Jvm.Cond.instanceMethod ({ cls := "RubberStamps$Plans", name := "fewest", desc := "(II)I" } : Jvm.MethodName)) ∈ lw_all := lw_g (lw_at lw_m5 78 rfl) rfl
theorem q1100 : (Jvm.Cond.selects "RubberStamps$Plans" ({ cls := "RubberStamps$Plans", name := "fewest", desc := "(II)I" } : Jvm.MethodName) ({ cls := "RubberStamps$Plans", name := "fewest", desc := "(II)I" } : Jvm.MethodName)) ∈ lw_all := lw_g (lw_at lw_m5 79 rfl) rfl
theorem q1101 : (Jvm.Cond.code ({ cls := "RubberStamps$Plans", name := "fewest", desc := "(II)I" } : Jvm.MethodName) prog_5_method_7_code (6 : Nat) (Option.some Jvm.ClassFile.FieldType.int)) ∈ lw_all := lw_g (lw_at lw_m5 80 rfl) rfl
theorem q1102 : (Jvm.Cond.methodLink "RubberStamps$Plans" (86 : Nat) ({ cls := "RubberStamps$Plans", name := "mayPress", desc := "(IIII)Z" } : Jvm.MethodName)) ∈ lw_all := lw_g (lw_at lw_m5 81 rfl) rfl
theorem q1103 : (Jvm.Cond.privateMethod ({ cls := "RubberStamps$Plans", name := "mayPress", desc := "(IIII)Z" } : Jvm.MethodName)) ∈ lw_tbl := lw_at lw_m5 82 rfl
theorem q1104 : (Jvm.Cond.instanceMethod ({ cls := "RubberStamps$Plans", name := "mayPress", desc := "(IIII)Z" } : Jvm.MethodName)) ∈ lw_all := lw_g (lw_at lw_m5 83 rfl) rfl
theorem q1105 : (Jvm.Cond.code ({ cls := "RubberStamps$Plans", name := "mayPress", desc := "(IIII)Z" } : Jvm.MethodName) prog_5_method_6_code (5 : Nat) (Option.some Jvm.ClassFile.FieldType.boolean)) ∈ lw_all := lw_g (lw_at lw_m5 84 rfl) rfl
theorem q1106 : (Jvm.Cond.methodLink "RubberStamps$Plans" (90 : Nat) ({ cls := "java/lang/Math", name := "min", desc := "(II)I" } : Jvm.MethodName)) ∈ lw_all := lw_g (lw_at lw_m5 85 rfl) rfl
theorem q1107 : (Jvm.Cond.methodLink "RubberStamps$Plans" (118 : Nat) ({ cls := "RubberStamps$Plans", name := "isWithin", desc := "(LRubberStamps$Inks;)Z" } : Jvm.MethodName)) ∈ lw_all := lw_g (lw_at lw_m5 86 rfl) rfl
theorem q1108 : (Jvm.Cond.privateMethod ({ cls := "RubberStamps$Plans", name := "isWithin", desc := "(LRubberStamps$Inks;)Z" } : Jvm.MethodName)) ∈ lw_tbl := lw_at lw_m5 87 rfl
theorem q1109 : (Jvm.Cond.instanceMethod ({ cls := "RubberStamps$Plans", name := "isWithin", desc := "(LRubberStamps$Inks;)Z" } : Jvm.MethodName)) ∈ lw_all := lw_g (lw_at lw_m5 88 rfl) rfl
theorem q1110 : (Jvm.Cond.code ({ cls := "RubberStamps$Plans", name := "isWithin", desc := "(LRubberStamps$Inks;)Z" } : Jvm.MethodName) prog_5_method_9_code (6 : Nat) (Option.some Jvm.ClassFile.FieldType.boolean)) ∈ lw_all := lw_g (lw_at lw_m5 89 rfl) rfl
theorem q1112 : (Jvm.Cond.instanceMethod ({ cls := "RubberStamps$Plans", name := "write", desc := "(ILRubberStamps$Inks;)I" } : Jvm.MethodName)) ∈ lw_all := lw_g (lw_at lw_m5 91 rfl) rfl
theorem q1113 : (Jvm.Cond.selects "RubberStamps$Plans" ({ cls := "RubberStamps$Plans", name := "write", desc := "(ILRubberStamps$Inks;)I" } : Jvm.MethodName) ({ cls := "RubberStamps$Plans", name := "write", desc := "(ILRubberStamps$Inks;)I" } : Jvm.MethodName)) ∈ lw_all := lw_g (lw_at lw_m5 92 rfl) rfl
theorem q1114 : (Jvm.Cond.code ({ cls := "RubberStamps$Plans", name := "write", desc := "(ILRubberStamps$Inks;)I" } : Jvm.MethodName) prog_5_method_13_code (4 : Nat) (Option.some Jvm.ClassFile.FieldType.int)) ∈ lw_all := lw_g (lw_at lw_m5 93 rfl) rfl
theorem q1115 : (Jvm.Cond.methodLink "RubberStamps$Plans" (128 : Nat) ({ cls := "RubberStamps$Inks", name := "press", desc := "(III)V" } : Jvm.MethodName)) ∈ lw_all := lw_g (lw_at lw_m5 94 rfl) rfl
theorem q1139 : (Jvm.Cond.instanceMethod ({ cls := "RubberStamps$Plans", name := "hasAll", desc := "(I)Z" } : Jvm.MethodName)) ∈ lw_all := lw_g (lw_at lw_m5 118 rfl) rfl
theorem q1140 : (Jvm.Cond.selects "RubberStamps$Plans" ({ cls := "RubberStamps$Plans", name := "hasAll", desc := "(I)Z" } : Jvm.MethodName) ({ cls := "RubberStamps$Plans", name := "hasAll", desc := "(I)Z" } : Jvm.MethodName)) ∈ lw_all := lw_g (lw_at lw_m5 119 rfl) rfl
theorem q1141 : (Jvm.Cond.code ({ cls := "RubberStamps$Plans", name := "hasAll", desc := "(I)Z" } : Jvm.MethodName) prog_5_method_10_code (4 : Nat) (Option.some Jvm.ClassFile.FieldType.boolean)) ∈ lw_all := lw_g (lw_at lw_m5 120 rfl) rfl
theorem q1419 : (Jvm.Cond.instanceMethod ({ cls := "RubberStamps$Plans", name := "sum", desc := "(I)I" } : Jvm.MethodName)) ∈ lw_all := lw_g (lw_at lw_m6 158 rfl) rfl
theorem q1420 : (Jvm.Cond.selects "RubberStamps$Plans" ({ cls := "RubberStamps$Plans", name := "sum", desc := "(I)I" } : Jvm.MethodName) ({ cls := "RubberStamps$Plans", name := "sum", desc := "(I)I" } : Jvm.MethodName)) ∈ lw_all := lw_g (lw_at lw_m6 159 rfl) rfl
theorem q1421 : (Jvm.Cond.code ({ cls := "RubberStamps$Plans", name := "sum", desc := "(I)I" } : Jvm.MethodName) prog_5_method_11_code (4 : Nat) (Option.some Jvm.ClassFile.FieldType.int)) ∈ lw_all := lw_g (lw_at lw_m6 160 rfl) rfl
theorem q1425 : (Jvm.Cond.instanceMethod ({ cls := "RubberStamps$Plans", name := "forget", desc := "(I)V" } : Jvm.MethodName)) ∈ lw_all := lw_g (lw_at lw_m6 164 rfl) rfl
theorem q1426 : (Jvm.Cond.selects "RubberStamps$Plans" ({ cls := "RubberStamps$Plans", name := "forget", desc := "(I)V" } : Jvm.MethodName) ({ cls := "RubberStamps$Plans", name := "forget", desc := "(I)V" } : Jvm.MethodName)) ∈ lw_all := lw_g (lw_at lw_m6 165 rfl) rfl
theorem q1427 : (Jvm.Cond.code ({ cls := "RubberStamps$Plans", name := "forget", desc := "(I)V" } : Jvm.MethodName) prog_5_method_5_code (3 : Nat) (Option.none : Option Jvm.ClassFile.FieldType)) ∈ lw_all := lw_g (lw_at lw_m6 166 rfl) rfl
theorem q1805 : (Jvm.Cond.castable "RubberStamps$Plans" "java/lang/Object") ∈ lw_tbl := lw_at lw_m8 64 rfl
theorem in_X4 : ∀ w ∈ wsX40, w ∈ lw_all := lw_in wsX40 [235, 237, 239, 241, 243, 245] (by decide +kernel) (by decide +kernel)
/-! RubberStamps$Orders -/
set_option maxRecDepth 100000
def RX5 : String := "RubberStamps$Orders"
def TX5 : u_T := fun k => match k with
  | 0 => ("RubberStamps$Orders", "plans", "LRubberStamps$Plans;", true)
  | 1 => ("RubberStamps$Orders", "levels", "[LRubberStamps$Inks;", true)
  | 2 => ("RubberStamps$Orders", "order", "[I", true)
  | 3 => ("RubberStamps$Orders", "best", "[I", true)
  | _ => ("RubberStamps$Orders", "least", "I", false)
def tyX5 : Nat → FieldType := fun k => match k with
  | 0 => .object "RubberStamps$Plans"
  | 1 => .array (.object "RubberStamps$Inks")
  | 2 => .array .int
  | 3 => .array .int
  | _ => .int
abbrev wsX50 : List Cond := u_ws RX5 TX5 5
theorem nmX5 : ∀ a, a < 5 → ∀ b, b < 5 → a ≠ b → (TX5 a).2.1 ≠ (TX5 b).2.1 := by decide +kernel
theorem tyX5_ok : ∀ k, k < 5 → parseFieldDescriptor (TX5 k).2.2.1 = some (tyX5 k) := by decide +kernel
abbrev cX5_init : ByteArray := prog_3_method_1_code
def yX5_init : MethodName := ⟨RX5, "<init>", "()V"⟩
def dkwX5_init_2 : List UInt8 := [42, 180, 0, 20, 27, 187, 0, 18, 89, 183, 0, 31, 83, 132, 1, 1, 167, 255, 234, 177]
abbrev dktX5_init_2 : List UInt8 := dkwX5_init_2 ++ []
def dkwX5_init_1 : List UInt8 := [42, 16, 7, 188, 10, 181, 0, 24, 42, 16, 7, 188, 10, 181, 0, 28, 3, 60, 27, 16, 7, 163, 0, 22]
abbrev dktX5_init_1 : List UInt8 := dkwX5_init_1 ++ dktX5_init_2
def dkwX5_init_0 : List UInt8 := [42, 183, 0, 3, 42, 187, 0, 9, 89, 183, 0, 11, 181, 0, 12, 42, 16, 8, 189, 0, 18, 181, 0, 20]
abbrev dktX5_init_0 : List UInt8 := dkwX5_init_0 ++ dktX5_init_1
theorem dksX5_init_0 : cX5_init.data.toList.drop 0 = dktX5_init_0 := by decide +kernel
theorem dksX5_init_1 : cX5_init.data.toList.drop 24 = dktX5_init_1 := dk_seg dksX5_init_0 24 rfl rfl
theorem dksX5_init_2 : cX5_init.data.toList.drop 48 = dktX5_init_2 := dk_seg dksX5_init_1 24 rfl rfl
theorem dX5_init_0 : decode cX5_init 0 = .ok (.aload_n 0, 1) := dk_42 (dk_at dksX5_init_0 0 rfl rfl)
theorem dX5_init_1 : decode cX5_init 1 = .ok (.invokespecial 3, 3) := dk_183 0 3 (dk_at dksX5_init_0 1 rfl rfl)
theorem dX5_init_4 : decode cX5_init 4 = .ok (.aload_n 0, 1) := dk_42 (dk_at dksX5_init_0 4 rfl rfl)
theorem dX5_init_5 : decode cX5_init 5 = .ok (.new 9, 3) := dk_187 0 9 (dk_at dksX5_init_0 5 rfl rfl)
theorem dX5_init_8 : decode cX5_init 8 = .ok (.dup, 1) := dk_89 (dk_at dksX5_init_0 8 rfl rfl)
theorem dX5_init_9 : decode cX5_init 9 = .ok (.invokespecial 11, 3) := dk_183 0 11 (dk_at dksX5_init_0 9 rfl rfl)
theorem dX5_init_12 : decode cX5_init 12 = .ok (.putfield 12, 3) := dk_181 0 12 (dk_at dksX5_init_0 12 rfl rfl)
theorem dX5_init_15 : decode cX5_init 15 = .ok (.aload_n 0, 1) := dk_42 (dk_at dksX5_init_0 15 rfl rfl)
theorem dX5_init_16 : decode cX5_init 16 = .ok (.bipush 8, 2) := dk_16 8 (dk_at dksX5_init_0 16 rfl rfl)
theorem dX5_init_18 : decode cX5_init 18 = .ok (.anewarray 18, 3) := dk_189 0 18 (dk_at dksX5_init_0 18 rfl rfl)
theorem dX5_init_21 : decode cX5_init 21 = .ok (.putfield 20, 3) := dk_181 0 20 (dk_at dksX5_init_0 21 rfl rfl)
theorem dX5_init_24 : decode cX5_init 24 = .ok (.aload_n 0, 1) := dk_42 (dk_at dksX5_init_1 0 rfl rfl)
theorem dX5_init_25 : decode cX5_init 25 = .ok (.bipush 7, 2) := dk_16 7 (dk_at dksX5_init_1 1 rfl rfl)
theorem dX5_init_27 : decode cX5_init 27 = .ok (.newarray .int, 2) := dk_188_10 (dk_at dksX5_init_1 3 rfl rfl)
theorem dX5_init_29 : decode cX5_init 29 = .ok (.putfield 24, 3) := dk_181 0 24 (dk_at dksX5_init_1 5 rfl rfl)
theorem dX5_init_32 : decode cX5_init 32 = .ok (.aload_n 0, 1) := dk_42 (dk_at dksX5_init_1 8 rfl rfl)
theorem dX5_init_33 : decode cX5_init 33 = .ok (.bipush 7, 2) := dk_16 7 (dk_at dksX5_init_1 9 rfl rfl)
theorem dX5_init_35 : decode cX5_init 35 = .ok (.newarray .int, 2) := dk_188_10 (dk_at dksX5_init_1 11 rfl rfl)
theorem dX5_init_37 : decode cX5_init 37 = .ok (.putfield 28, 3) := dk_181 0 28 (dk_at dksX5_init_1 13 rfl rfl)
theorem dX5_init_40 : decode cX5_init 40 = .ok (.iconst 0, 1) := dk_3 (dk_at dksX5_init_1 16 rfl rfl)
theorem dX5_init_41 : decode cX5_init 41 = .ok (.istore_n 1, 1) := dk_60 (dk_at dksX5_init_1 17 rfl rfl)
theorem dX5_init_42 : decode cX5_init 42 = .ok (.iload_n 1, 1) := dk_27 (dk_at dksX5_init_1 18 rfl rfl)
theorem dX5_init_43 : decode cX5_init 43 = .ok (.bipush 7, 2) := dk_16 7 (dk_at dksX5_init_1 19 rfl rfl)
theorem dX5_init_45 : decode cX5_init 45 = .ok (.if_icmp .gt 22, 3) := dk_163 0 22 (dk_at dksX5_init_1 21 rfl rfl)
theorem dX5_init_48 : decode cX5_init 48 = .ok (.aload_n 0, 1) := dk_42 (dk_at dksX5_init_2 0 rfl rfl)
theorem dX5_init_49 : decode cX5_init 49 = .ok (.getfield 20, 3) := dk_180 0 20 (dk_at dksX5_init_2 1 rfl rfl)
theorem dX5_init_52 : decode cX5_init 52 = .ok (.iload_n 1, 1) := dk_27 (dk_at dksX5_init_2 4 rfl rfl)
theorem dX5_init_53 : decode cX5_init 53 = .ok (.new 18, 3) := dk_187 0 18 (dk_at dksX5_init_2 5 rfl rfl)
theorem dX5_init_56 : decode cX5_init 56 = .ok (.dup, 1) := dk_89 (dk_at dksX5_init_2 8 rfl rfl)
theorem dX5_init_57 : decode cX5_init 57 = .ok (.invokespecial 31, 3) := dk_183 0 31 (dk_at dksX5_init_2 9 rfl rfl)
theorem dX5_init_60 : decode cX5_init 60 = .ok (.aastore, 1) := dk_83 (dk_at dksX5_init_2 12 rfl rfl)
theorem dX5_init_61 : decode cX5_init 61 = .ok (.iinc 1 1, 3) := dk_132 1 1 (dk_at dksX5_init_2 13 rfl rfl)
theorem dX5_init_64 : decode cX5_init 64 = .ok (.goto (-22), 3) := dk_167 255 234 (dk_at dksX5_init_2 16 rfl rfl)
theorem dX5_init_67 : decode cX5_init 67 = .ok (.return_, 1) := dk_177 (dk_at dksX5_init_2 19 rfl rfl)
abbrev cX5_find : ByteArray := prog_3_method_2_code
def yX5_find : MethodName := ⟨RX5, "find", "(LRubberStamps$State;)Z"⟩
def dkwX5_find_2 : List UInt8 := [172]
abbrev dktX5_find_2 : List UInt8 := dkwX5_find_2 ++ []
def dkwX5_find_1 : List UInt8 := [182, 0, 46, 87, 42, 43, 3, 3, 182, 0, 50, 42, 180, 0, 32, 2, 159, 0, 7, 4, 167, 0, 4, 3]
abbrev dktX5_find_1 : List UInt8 := dkwX5_find_1 ++ dktX5_find_2
def dkwX5_find_0 : List UInt8 := [42, 2, 181, 0, 32, 42, 180, 0, 12, 43, 182, 0, 36, 87, 42, 180, 0, 20, 3, 50, 43, 180, 0, 40]
abbrev dktX5_find_0 : List UInt8 := dkwX5_find_0 ++ dktX5_find_1
theorem dksX5_find_0 : cX5_find.data.toList.drop 0 = dktX5_find_0 := by decide +kernel
theorem dksX5_find_1 : cX5_find.data.toList.drop 24 = dktX5_find_1 := dk_seg dksX5_find_0 24 rfl rfl
theorem dksX5_find_2 : cX5_find.data.toList.drop 48 = dktX5_find_2 := dk_seg dksX5_find_1 24 rfl rfl
theorem dX5_find_0 : decode cX5_find 0 = .ok (.aload_n 0, 1) := dk_42 (dk_at dksX5_find_0 0 rfl rfl)
theorem dX5_find_1 : decode cX5_find 1 = .ok (.iconst (-1), 1) := dk_2 (dk_at dksX5_find_0 1 rfl rfl)
theorem dX5_find_2 : decode cX5_find 2 = .ok (.putfield 32, 3) := dk_181 0 32 (dk_at dksX5_find_0 2 rfl rfl)
theorem dX5_find_5 : decode cX5_find 5 = .ok (.aload_n 0, 1) := dk_42 (dk_at dksX5_find_0 5 rfl rfl)
theorem dX5_find_6 : decode cX5_find 6 = .ok (.getfield 12, 3) := dk_180 0 12 (dk_at dksX5_find_0 6 rfl rfl)
theorem dX5_find_9 : decode cX5_find 9 = .ok (.aload_n 1, 1) := dk_43 (dk_at dksX5_find_0 9 rfl rfl)
theorem dX5_find_10 : decode cX5_find 10 = .ok (.invokevirtual 36, 3) := dk_182 0 36 (dk_at dksX5_find_0 10 rfl rfl)
theorem dX5_find_13 : decode cX5_find 13 = .ok (.pop, 1) := dk_87 (dk_at dksX5_find_0 13 rfl rfl)
theorem dX5_find_14 : decode cX5_find 14 = .ok (.aload_n 0, 1) := dk_42 (dk_at dksX5_find_0 14 rfl rfl)
theorem dX5_find_15 : decode cX5_find 15 = .ok (.getfield 20, 3) := dk_180 0 20 (dk_at dksX5_find_0 15 rfl rfl)
theorem dX5_find_18 : decode cX5_find 18 = .ok (.iconst 0, 1) := dk_3 (dk_at dksX5_find_0 18 rfl rfl)
theorem dX5_find_19 : decode cX5_find 19 = .ok (.aaload, 1) := dk_50 (dk_at dksX5_find_0 19 rfl rfl)
theorem dX5_find_20 : decode cX5_find 20 = .ok (.aload_n 1, 1) := dk_43 (dk_at dksX5_find_0 20 rfl rfl)
theorem dX5_find_21 : decode cX5_find 21 = .ok (.getfield 40, 3) := dk_180 0 40 (dk_at dksX5_find_0 21 rfl rfl)
theorem dX5_find_24 : decode cX5_find 24 = .ok (.invokevirtual 46, 3) := dk_182 0 46 (dk_at dksX5_find_1 0 rfl rfl)
theorem dX5_find_27 : decode cX5_find 27 = .ok (.pop, 1) := dk_87 (dk_at dksX5_find_1 3 rfl rfl)
theorem dX5_find_28 : decode cX5_find 28 = .ok (.aload_n 0, 1) := dk_42 (dk_at dksX5_find_1 4 rfl rfl)
theorem dX5_find_29 : decode cX5_find 29 = .ok (.aload_n 1, 1) := dk_43 (dk_at dksX5_find_1 5 rfl rfl)
theorem dX5_find_30 : decode cX5_find 30 = .ok (.iconst 0, 1) := dk_3 (dk_at dksX5_find_1 6 rfl rfl)
theorem dX5_find_31 : decode cX5_find 31 = .ok (.iconst 0, 1) := dk_3 (dk_at dksX5_find_1 7 rfl rfl)
theorem dX5_find_32 : decode cX5_find 32 = .ok (.invokevirtual 50, 3) := dk_182 0 50 (dk_at dksX5_find_1 8 rfl rfl)
theorem dX5_find_35 : decode cX5_find 35 = .ok (.aload_n 0, 1) := dk_42 (dk_at dksX5_find_1 11 rfl rfl)
theorem dX5_find_36 : decode cX5_find 36 = .ok (.getfield 32, 3) := dk_180 0 32 (dk_at dksX5_find_1 12 rfl rfl)
theorem dX5_find_39 : decode cX5_find 39 = .ok (.iconst (-1), 1) := dk_2 (dk_at dksX5_find_1 15 rfl rfl)
theorem dX5_find_40 : decode cX5_find 40 = .ok (.if_icmp .eq 7, 3) := dk_159 0 7 (dk_at dksX5_find_1 16 rfl rfl)
theorem dX5_find_43 : decode cX5_find 43 = .ok (.iconst 1, 1) := dk_4 (dk_at dksX5_find_1 19 rfl rfl)
theorem dX5_find_44 : decode cX5_find 44 = .ok (.goto 4, 3) := dk_167 0 4 (dk_at dksX5_find_1 20 rfl rfl)
theorem dX5_find_47 : decode cX5_find 47 = .ok (.iconst 0, 1) := dk_3 (dk_at dksX5_find_1 23 rfl rfl)
theorem dX5_find_48 : decode cX5_find 48 = .ok (.ireturn, 1) := dk_172 (dk_at dksX5_find_2 0 rfl rfl)
abbrev cX5_goes : ByteArray := prog_3_method_3_code
def yX5_goes : MethodName := ⟨RX5, "goes", "(LRubberStamps$State;II)V"⟩
def dkwX5_goes_8 : List UInt8 := [177]
abbrev dktX5_goes_8 : List UInt8 := dkwX5_goes_8 ++ []
def dkwX5_goes_7 : List UInt8 := [182, 0, 77, 87, 42, 43, 28, 4, 96, 29, 4, 21, 5, 120, 128, 182, 0, 50, 132, 5, 1, 167, 255, 136]
abbrev dktX5_goes_7 : List UInt8 := dkwX5_goes_7 ++ dktX5_goes_8
def dkwX5_goes_6 : List UInt8 := [180, 0, 12, 21, 5, 42, 180, 0, 20, 28, 4, 96, 50, 42, 180, 0, 20, 28, 50, 182, 0, 46]
abbrev dktX5_goes_6 : List UInt8 := dkwX5_goes_6 ++ dktX5_goes_7
def dkwX5_goes_5 : List UInt8 := [21, 5, 42, 180, 0, 20, 28, 50, 182, 0, 73, 153, 0, 52, 42, 180, 0, 24, 28, 21, 5, 79, 42]
abbrev dktX5_goes_5 : List UInt8 := dkwX5_goes_5 ++ dktX5_goes_6
def dkwX5_goes_4 : List UInt8 := [167, 0, 4, 3, 54, 6, 21, 6, 153, 0, 79, 29, 21, 5, 122, 4, 126, 154, 0, 70, 42, 180, 0, 12]
abbrev dktX5_goes_4 : List UInt8 := dkwX5_goes_4 ++ dktX5_goes_5
def dkwX5_goes_3 : List UInt8 := [182, 0, 61, 162, 0, 114, 42, 180, 0, 32, 2, 159, 0, 12, 21, 4, 42, 180, 0, 32, 162, 0, 7, 4]
abbrev dktX5_goes_3 : List UInt8 := dkwX5_goes_3 ++ dktX5_goes_4
def dkwX5_goes_2 : List UInt8 := [180, 0, 24, 3, 42, 180, 0, 28, 3, 16, 7, 184, 0, 67, 177, 3, 54, 5, 21, 5, 43, 180, 0, 57]
abbrev dktX5_goes_2 : List UInt8 := dkwX5_goes_2 ++ dktX5_goes_3
def dkwX5_goes_1 : List UInt8 := [180, 0, 32, 2, 159, 0, 12, 21, 4, 42, 180, 0, 32, 162, 0, 24, 42, 21, 4, 181, 0, 32, 42]
abbrev dktX5_goes_1 : List UInt8 := dkwX5_goes_1 ++ dktX5_goes_2
def dkwX5_goes_0 : List UInt8 := [42, 180, 0, 20, 28, 50, 180, 0, 54, 54, 4, 28, 43, 180, 0, 57, 182, 0, 61, 160, 0, 42, 42]
abbrev dktX5_goes_0 : List UInt8 := dkwX5_goes_0 ++ dktX5_goes_1
theorem dksX5_goes_0 : cX5_goes.data.toList.drop 0 = dktX5_goes_0 := by decide +kernel
theorem dksX5_goes_1 : cX5_goes.data.toList.drop 23 = dktX5_goes_1 := dk_seg dksX5_goes_0 23 rfl rfl
theorem dksX5_goes_2 : cX5_goes.data.toList.drop 46 = dktX5_goes_2 := dk_seg dksX5_goes_1 23 rfl rfl
theorem dksX5_goes_3 : cX5_goes.data.toList.drop 70 = dktX5_goes_3 := dk_seg dksX5_goes_2 24 rfl rfl
theorem dksX5_goes_4 : cX5_goes.data.toList.drop 94 = dktX5_goes_4 := dk_seg dksX5_goes_3 24 rfl rfl
theorem dksX5_goes_5 : cX5_goes.data.toList.drop 118 = dktX5_goes_5 := dk_seg dksX5_goes_4 24 rfl rfl
theorem dksX5_goes_6 : cX5_goes.data.toList.drop 141 = dktX5_goes_6 := dk_seg dksX5_goes_5 23 rfl rfl
theorem dksX5_goes_7 : cX5_goes.data.toList.drop 163 = dktX5_goes_7 := dk_seg dksX5_goes_6 22 rfl rfl
theorem dksX5_goes_8 : cX5_goes.data.toList.drop 187 = dktX5_goes_8 := dk_seg dksX5_goes_7 24 rfl rfl
theorem dX5_goes_0 : decode cX5_goes 0 = .ok (.aload_n 0, 1) := dk_42 (dk_at dksX5_goes_0 0 rfl rfl)
theorem dX5_goes_1 : decode cX5_goes 1 = .ok (.getfield 20, 3) := dk_180 0 20 (dk_at dksX5_goes_0 1 rfl rfl)
theorem dX5_goes_4 : decode cX5_goes 4 = .ok (.iload_n 2, 1) := dk_28 (dk_at dksX5_goes_0 4 rfl rfl)
theorem dX5_goes_5 : decode cX5_goes 5 = .ok (.aaload, 1) := dk_50 (dk_at dksX5_goes_0 5 rfl rfl)
theorem dX5_goes_6 : decode cX5_goes 6 = .ok (.getfield 54, 3) := dk_180 0 54 (dk_at dksX5_goes_0 6 rfl rfl)
theorem dX5_goes_9 : decode cX5_goes 9 = .ok (.istore 4, 2) := dk_54 4 (dk_at dksX5_goes_0 9 rfl rfl)
theorem dX5_goes_11 : decode cX5_goes 11 = .ok (.iload_n 2, 1) := dk_28 (dk_at dksX5_goes_0 11 rfl rfl)
theorem dX5_goes_12 : decode cX5_goes 12 = .ok (.aload_n 1, 1) := dk_43 (dk_at dksX5_goes_0 12 rfl rfl)
theorem dX5_goes_13 : decode cX5_goes 13 = .ok (.getfield 57, 3) := dk_180 0 57 (dk_at dksX5_goes_0 13 rfl rfl)
theorem dX5_goes_16 : decode cX5_goes 16 = .ok (.invokevirtual 61, 3) := dk_182 0 61 (dk_at dksX5_goes_0 16 rfl rfl)
theorem dX5_goes_19 : decode cX5_goes 19 = .ok (.if_icmp .ne 42, 3) := dk_160 0 42 (dk_at dksX5_goes_0 19 rfl rfl)
theorem dX5_goes_22 : decode cX5_goes 22 = .ok (.aload_n 0, 1) := dk_42 (dk_at dksX5_goes_0 22 rfl rfl)
theorem dX5_goes_23 : decode cX5_goes 23 = .ok (.getfield 32, 3) := dk_180 0 32 (dk_at dksX5_goes_1 0 rfl rfl)
theorem dX5_goes_26 : decode cX5_goes 26 = .ok (.iconst (-1), 1) := dk_2 (dk_at dksX5_goes_1 3 rfl rfl)
theorem dX5_goes_27 : decode cX5_goes 27 = .ok (.if_icmp .eq 12, 3) := dk_159 0 12 (dk_at dksX5_goes_1 4 rfl rfl)
theorem dX5_goes_30 : decode cX5_goes 30 = .ok (.iload 4, 2) := dk_21 4 (dk_at dksX5_goes_1 7 rfl rfl)
theorem dX5_goes_32 : decode cX5_goes 32 = .ok (.aload_n 0, 1) := dk_42 (dk_at dksX5_goes_1 9 rfl rfl)
theorem dX5_goes_33 : decode cX5_goes 33 = .ok (.getfield 32, 3) := dk_180 0 32 (dk_at dksX5_goes_1 10 rfl rfl)
theorem dX5_goes_36 : decode cX5_goes 36 = .ok (.if_icmp .ge 24, 3) := dk_162 0 24 (dk_at dksX5_goes_1 13 rfl rfl)
theorem dX5_goes_39 : decode cX5_goes 39 = .ok (.aload_n 0, 1) := dk_42 (dk_at dksX5_goes_1 16 rfl rfl)
theorem dX5_goes_40 : decode cX5_goes 40 = .ok (.iload 4, 2) := dk_21 4 (dk_at dksX5_goes_1 17 rfl rfl)
theorem dX5_goes_42 : decode cX5_goes 42 = .ok (.putfield 32, 3) := dk_181 0 32 (dk_at dksX5_goes_1 19 rfl rfl)
theorem dX5_goes_45 : decode cX5_goes 45 = .ok (.aload_n 0, 1) := dk_42 (dk_at dksX5_goes_1 22 rfl rfl)
theorem dX5_goes_46 : decode cX5_goes 46 = .ok (.getfield 24, 3) := dk_180 0 24 (dk_at dksX5_goes_2 0 rfl rfl)
theorem dX5_goes_49 : decode cX5_goes 49 = .ok (.iconst 0, 1) := dk_3 (dk_at dksX5_goes_2 3 rfl rfl)
theorem dX5_goes_50 : decode cX5_goes 50 = .ok (.aload_n 0, 1) := dk_42 (dk_at dksX5_goes_2 4 rfl rfl)
theorem dX5_goes_51 : decode cX5_goes 51 = .ok (.getfield 28, 3) := dk_180 0 28 (dk_at dksX5_goes_2 5 rfl rfl)
theorem dX5_goes_54 : decode cX5_goes 54 = .ok (.iconst 0, 1) := dk_3 (dk_at dksX5_goes_2 8 rfl rfl)
theorem dX5_goes_55 : decode cX5_goes 55 = .ok (.bipush 7, 2) := dk_16 7 (dk_at dksX5_goes_2 9 rfl rfl)
theorem dX5_goes_57 : decode cX5_goes 57 = .ok (.invokestatic 67, 3) := dk_184 0 67 (dk_at dksX5_goes_2 11 rfl rfl)
theorem dX5_goes_60 : decode cX5_goes 60 = .ok (.return_, 1) := dk_177 (dk_at dksX5_goes_2 14 rfl rfl)
theorem dX5_goes_61 : decode cX5_goes 61 = .ok (.iconst 0, 1) := dk_3 (dk_at dksX5_goes_2 15 rfl rfl)
theorem dX5_goes_62 : decode cX5_goes 62 = .ok (.istore 5, 2) := dk_54 5 (dk_at dksX5_goes_2 16 rfl rfl)
theorem dX5_goes_64 : decode cX5_goes 64 = .ok (.iload 5, 2) := dk_21 5 (dk_at dksX5_goes_2 18 rfl rfl)
theorem dX5_goes_66 : decode cX5_goes 66 = .ok (.aload_n 1, 1) := dk_43 (dk_at dksX5_goes_2 20 rfl rfl)
theorem dX5_goes_67 : decode cX5_goes 67 = .ok (.getfield 57, 3) := dk_180 0 57 (dk_at dksX5_goes_2 21 rfl rfl)
theorem dX5_goes_70 : decode cX5_goes 70 = .ok (.invokevirtual 61, 3) := dk_182 0 61 (dk_at dksX5_goes_3 0 rfl rfl)
theorem dX5_goes_73 : decode cX5_goes 73 = .ok (.if_icmp .ge 114, 3) := dk_162 0 114 (dk_at dksX5_goes_3 3 rfl rfl)
theorem dX5_goes_76 : decode cX5_goes 76 = .ok (.aload_n 0, 1) := dk_42 (dk_at dksX5_goes_3 6 rfl rfl)
theorem dX5_goes_77 : decode cX5_goes 77 = .ok (.getfield 32, 3) := dk_180 0 32 (dk_at dksX5_goes_3 7 rfl rfl)
theorem dX5_goes_80 : decode cX5_goes 80 = .ok (.iconst (-1), 1) := dk_2 (dk_at dksX5_goes_3 10 rfl rfl)
theorem dX5_goes_81 : decode cX5_goes 81 = .ok (.if_icmp .eq 12, 3) := dk_159 0 12 (dk_at dksX5_goes_3 11 rfl rfl)
theorem dX5_goes_84 : decode cX5_goes 84 = .ok (.iload 4, 2) := dk_21 4 (dk_at dksX5_goes_3 14 rfl rfl)
theorem dX5_goes_86 : decode cX5_goes 86 = .ok (.aload_n 0, 1) := dk_42 (dk_at dksX5_goes_3 16 rfl rfl)
theorem dX5_goes_87 : decode cX5_goes 87 = .ok (.getfield 32, 3) := dk_180 0 32 (dk_at dksX5_goes_3 17 rfl rfl)
theorem dX5_goes_90 : decode cX5_goes 90 = .ok (.if_icmp .ge 7, 3) := dk_162 0 7 (dk_at dksX5_goes_3 20 rfl rfl)
theorem dX5_goes_93 : decode cX5_goes 93 = .ok (.iconst 1, 1) := dk_4 (dk_at dksX5_goes_3 23 rfl rfl)
theorem dX5_goes_94 : decode cX5_goes 94 = .ok (.goto 4, 3) := dk_167 0 4 (dk_at dksX5_goes_4 0 rfl rfl)
theorem dX5_goes_97 : decode cX5_goes 97 = .ok (.iconst 0, 1) := dk_3 (dk_at dksX5_goes_4 3 rfl rfl)
theorem dX5_goes_98 : decode cX5_goes 98 = .ok (.istore 6, 2) := dk_54 6 (dk_at dksX5_goes_4 4 rfl rfl)
theorem dX5_goes_100 : decode cX5_goes 100 = .ok (.iload 6, 2) := dk_21 6 (dk_at dksX5_goes_4 6 rfl rfl)
theorem dX5_goes_102 : decode cX5_goes 102 = .ok (.ifCond .eq 79, 3) := dk_153 0 79 (dk_at dksX5_goes_4 8 rfl rfl)
theorem dX5_goes_105 : decode cX5_goes 105 = .ok (.iload_n 3, 1) := dk_29 (dk_at dksX5_goes_4 11 rfl rfl)
theorem dX5_goes_106 : decode cX5_goes 106 = .ok (.iload 5, 2) := dk_21 5 (dk_at dksX5_goes_4 12 rfl rfl)
theorem dX5_goes_108 : decode cX5_goes 108 = .ok (.ishr, 1) := dk_122 (dk_at dksX5_goes_4 14 rfl rfl)
theorem dX5_goes_109 : decode cX5_goes 109 = .ok (.iconst 1, 1) := dk_4 (dk_at dksX5_goes_4 15 rfl rfl)
theorem dX5_goes_110 : decode cX5_goes 110 = .ok (.iand, 1) := dk_126 (dk_at dksX5_goes_4 16 rfl rfl)
theorem dX5_goes_111 : decode cX5_goes 111 = .ok (.ifCond .ne 70, 3) := dk_154 0 70 (dk_at dksX5_goes_4 17 rfl rfl)
theorem dX5_goes_114 : decode cX5_goes 114 = .ok (.aload_n 0, 1) := dk_42 (dk_at dksX5_goes_4 20 rfl rfl)
theorem dX5_goes_115 : decode cX5_goes 115 = .ok (.getfield 12, 3) := dk_180 0 12 (dk_at dksX5_goes_4 21 rfl rfl)
theorem dX5_goes_118 : decode cX5_goes 118 = .ok (.iload 5, 2) := dk_21 5 (dk_at dksX5_goes_5 0 rfl rfl)
theorem dX5_goes_120 : decode cX5_goes 120 = .ok (.aload_n 0, 1) := dk_42 (dk_at dksX5_goes_5 2 rfl rfl)
theorem dX5_goes_121 : decode cX5_goes 121 = .ok (.getfield 20, 3) := dk_180 0 20 (dk_at dksX5_goes_5 3 rfl rfl)
theorem dX5_goes_124 : decode cX5_goes 124 = .ok (.iload_n 2, 1) := dk_28 (dk_at dksX5_goes_5 6 rfl rfl)
theorem dX5_goes_125 : decode cX5_goes 125 = .ok (.aaload, 1) := dk_50 (dk_at dksX5_goes_5 7 rfl rfl)
theorem dX5_goes_126 : decode cX5_goes 126 = .ok (.invokevirtual 73, 3) := dk_182 0 73 (dk_at dksX5_goes_5 8 rfl rfl)
theorem dX5_goes_129 : decode cX5_goes 129 = .ok (.ifCond .eq 52, 3) := dk_153 0 52 (dk_at dksX5_goes_5 11 rfl rfl)
theorem dX5_goes_132 : decode cX5_goes 132 = .ok (.aload_n 0, 1) := dk_42 (dk_at dksX5_goes_5 14 rfl rfl)
theorem dX5_goes_133 : decode cX5_goes 133 = .ok (.getfield 24, 3) := dk_180 0 24 (dk_at dksX5_goes_5 15 rfl rfl)
theorem dX5_goes_136 : decode cX5_goes 136 = .ok (.iload_n 2, 1) := dk_28 (dk_at dksX5_goes_5 18 rfl rfl)
theorem dX5_goes_137 : decode cX5_goes 137 = .ok (.iload 5, 2) := dk_21 5 (dk_at dksX5_goes_5 19 rfl rfl)
theorem dX5_goes_139 : decode cX5_goes 139 = .ok (.iastore, 1) := dk_79 (dk_at dksX5_goes_5 21 rfl rfl)
theorem dX5_goes_140 : decode cX5_goes 140 = .ok (.aload_n 0, 1) := dk_42 (dk_at dksX5_goes_5 22 rfl rfl)
theorem dX5_goes_141 : decode cX5_goes 141 = .ok (.getfield 12, 3) := dk_180 0 12 (dk_at dksX5_goes_6 0 rfl rfl)
theorem dX5_goes_144 : decode cX5_goes 144 = .ok (.iload 5, 2) := dk_21 5 (dk_at dksX5_goes_6 3 rfl rfl)
theorem dX5_goes_146 : decode cX5_goes 146 = .ok (.aload_n 0, 1) := dk_42 (dk_at dksX5_goes_6 5 rfl rfl)
theorem dX5_goes_147 : decode cX5_goes 147 = .ok (.getfield 20, 3) := dk_180 0 20 (dk_at dksX5_goes_6 6 rfl rfl)
theorem dX5_goes_150 : decode cX5_goes 150 = .ok (.iload_n 2, 1) := dk_28 (dk_at dksX5_goes_6 9 rfl rfl)
theorem dX5_goes_151 : decode cX5_goes 151 = .ok (.iconst 1, 1) := dk_4 (dk_at dksX5_goes_6 10 rfl rfl)
theorem dX5_goes_152 : decode cX5_goes 152 = .ok (.iadd, 1) := dk_96 (dk_at dksX5_goes_6 11 rfl rfl)
theorem dX5_goes_153 : decode cX5_goes 153 = .ok (.aaload, 1) := dk_50 (dk_at dksX5_goes_6 12 rfl rfl)
theorem dX5_goes_154 : decode cX5_goes 154 = .ok (.aload_n 0, 1) := dk_42 (dk_at dksX5_goes_6 13 rfl rfl)
theorem dX5_goes_155 : decode cX5_goes 155 = .ok (.getfield 20, 3) := dk_180 0 20 (dk_at dksX5_goes_6 14 rfl rfl)
theorem dX5_goes_158 : decode cX5_goes 158 = .ok (.iload_n 2, 1) := dk_28 (dk_at dksX5_goes_6 17 rfl rfl)
theorem dX5_goes_159 : decode cX5_goes 159 = .ok (.aaload, 1) := dk_50 (dk_at dksX5_goes_6 18 rfl rfl)
theorem dX5_goes_160 : decode cX5_goes 160 = .ok (.invokevirtual 46, 3) := dk_182 0 46 (dk_at dksX5_goes_6 19 rfl rfl)
theorem dX5_goes_163 : decode cX5_goes 163 = .ok (.invokevirtual 77, 3) := dk_182 0 77 (dk_at dksX5_goes_7 0 rfl rfl)
theorem dX5_goes_166 : decode cX5_goes 166 = .ok (.pop, 1) := dk_87 (dk_at dksX5_goes_7 3 rfl rfl)
theorem dX5_goes_167 : decode cX5_goes 167 = .ok (.aload_n 0, 1) := dk_42 (dk_at dksX5_goes_7 4 rfl rfl)
theorem dX5_goes_168 : decode cX5_goes 168 = .ok (.aload_n 1, 1) := dk_43 (dk_at dksX5_goes_7 5 rfl rfl)
theorem dX5_goes_169 : decode cX5_goes 169 = .ok (.iload_n 2, 1) := dk_28 (dk_at dksX5_goes_7 6 rfl rfl)
theorem dX5_goes_170 : decode cX5_goes 170 = .ok (.iconst 1, 1) := dk_4 (dk_at dksX5_goes_7 7 rfl rfl)
theorem dX5_goes_171 : decode cX5_goes 171 = .ok (.iadd, 1) := dk_96 (dk_at dksX5_goes_7 8 rfl rfl)
theorem dX5_goes_172 : decode cX5_goes 172 = .ok (.iload_n 3, 1) := dk_29 (dk_at dksX5_goes_7 9 rfl rfl)
theorem dX5_goes_173 : decode cX5_goes 173 = .ok (.iconst 1, 1) := dk_4 (dk_at dksX5_goes_7 10 rfl rfl)
theorem dX5_goes_174 : decode cX5_goes 174 = .ok (.iload 5, 2) := dk_21 5 (dk_at dksX5_goes_7 11 rfl rfl)
theorem dX5_goes_176 : decode cX5_goes 176 = .ok (.ishl, 1) := dk_120 (dk_at dksX5_goes_7 13 rfl rfl)
theorem dX5_goes_177 : decode cX5_goes 177 = .ok (.ior, 1) := dk_128 (dk_at dksX5_goes_7 14 rfl rfl)
theorem dX5_goes_178 : decode cX5_goes 178 = .ok (.invokevirtual 50, 3) := dk_182 0 50 (dk_at dksX5_goes_7 15 rfl rfl)
theorem dX5_goes_181 : decode cX5_goes 181 = .ok (.iinc 5 1, 3) := dk_132 5 1 (dk_at dksX5_goes_7 18 rfl rfl)
theorem dX5_goes_184 : decode cX5_goes 184 = .ok (.goto (-120), 3) := dk_167 255 136 (dk_at dksX5_goes_7 21 rfl rfl)
theorem dX5_goes_187 : decode cX5_goes 187 = .ok (.return_, 1) := dk_177 (dk_at dksX5_goes_8 0 rfl rfl)
theorem q71 : (Jvm.Cond.initialized "RubberStamps$Orders") ∈ lw_all := lw_g (lw_at lw_m1 10 rfl) rfl
theorem q160 : (Jvm.Cond.fieldLinkNest "RubberStamps$Orders" (54 : Nat) "RubberStamps$Inks" "cleanings" "I" "RubberStamps") ∈ lw_tbl := lw_at lw_m1 99 rfl
theorem q180 : (Jvm.Cond.fieldLinkNest "RubberStamps$Orders" (57 : Nat) "RubberStamps$State" "words" "Ljava/util/ArrayList;" "RubberStamps") ∈ lw_tbl := lw_at lw_m1 119 rfl
theorem q190 : (Jvm.Cond.fieldLinkNest "RubberStamps$Orders" (40 : Nat) "RubberStamps$State" "inks" "LRubberStamps$Inks;" "RubberStamps") ∈ lw_tbl := lw_at lw_m1 129 rfl
theorem q249 : (Jvm.Cond.instantiable "RubberStamps$Orders" (5 : Nat)) ∈ lw_all := lw_g (lw_at lw_m1 188 rfl) rfl
theorem q251 : (Jvm.Cond.instanceMethod ({ cls := "RubberStamps$Orders", name := "<init>", desc := "()V" } : Jvm.MethodName)) ∈ lw_all := lw_g (lw_at lw_m1 190 rfl) rfl
theorem q252 : (Jvm.Cond.code ({ cls := "RubberStamps$Orders", name := "<init>", desc := "()V" } : Jvm.MethodName) prog_3_method_1_code (2 : Nat) (Option.none : Option Jvm.ClassFile.FieldType)) ∈ lw_all := lw_g (lw_at lw_m1 191 rfl) rfl
theorem q253 : (Jvm.Cond.methodLink "RubberStamps$Orders" (3 : Nat) ({ cls := "java/lang/Object", name := "<init>", desc := "()V" } : Jvm.MethodName)) ∈ lw_all := lw_g (lw_at lw_m1 192 rfl) rfl
theorem q254 : (Jvm.Cond.classLink "RubberStamps$Orders" (9 : Nat) "RubberStamps$Plans") ∈ lw_all := lw_g (lw_at lw_m1 193 rfl) rfl
theorem q255 : (Jvm.Cond.methodLinkNest "RubberStamps$Orders" (11 : Nat) ({ cls := "RubberStamps$Plans", name := "<init>", desc := "()V" } : Jvm.MethodName) "RubberStamps") ∈ lw_tbl := lw_at lw_m1 194 rfl
theorem q256 : (Jvm.Cond.classLink "RubberStamps$Orders" (18 : Nat) "RubberStamps$Inks") ∈ lw_all := lw_g (lw_at lw_m1 195 rfl) rfl
theorem q258 : (Jvm.Cond.methodLink "RubberStamps$Orders" (31 : Nat) ({ cls := "RubberStamps$Inks", name := "<init>", desc := "()V" } : Jvm.MethodName)) ∈ lw_all := lw_g (lw_at lw_m1 197 rfl) rfl
theorem q259 : (Jvm.Cond.fieldLink "RubberStamps$Orders" (12 : Nat) "RubberStamps$Orders" "plans" "LRubberStamps$Plans;") ∈ lw_all := lw_g (lw_at lw_m1 198 rfl) rfl
theorem q260 : (Jvm.Cond.fieldLink "RubberStamps$Orders" (20 : Nat) "RubberStamps$Orders" "levels" "[LRubberStamps$Inks;") ∈ lw_all := lw_g (lw_at lw_m1 199 rfl) rfl
theorem q261 : (Jvm.Cond.fieldLink "RubberStamps$Orders" (24 : Nat) "RubberStamps$Orders" "order" "[I") ∈ lw_all := lw_g (lw_at lw_m1 200 rfl) rfl
theorem q262 : (Jvm.Cond.fieldLink "RubberStamps$Orders" (28 : Nat) "RubberStamps$Orders" "best" "[I") ∈ lw_all := lw_g (lw_at lw_m1 201 rfl) rfl
theorem q264 : (Jvm.Cond.fieldLink "RubberStamps$Orders" (32 : Nat) "RubberStamps$Orders" "least" "I") ∈ lw_all := lw_g (lw_at lw_m1 203 rfl) rfl
theorem q266 : (Jvm.Cond.laysFinal "RubberStamps$Orders" "RubberStamps$Orders" "plans" "LRubberStamps$Plans;") ∈ lw_all := lw_g (lw_at lw_m1 205 rfl) rfl
theorem q267 : (Jvm.Cond.soleField "RubberStamps$Orders" "plans") ∈ lw_all := lw_g (lw_at lw_m1 206 rfl) rfl
theorem q268 : (Jvm.Cond.laysFinal "RubberStamps$Orders" "RubberStamps$Orders" "levels" "[LRubberStamps$Inks;") ∈ lw_all := lw_g (lw_at lw_m1 207 rfl) rfl
theorem q269 : (Jvm.Cond.soleField "RubberStamps$Orders" "levels") ∈ lw_all := lw_g (lw_at lw_m1 208 rfl) rfl
theorem q270 : (Jvm.Cond.laysFinal "RubberStamps$Orders" "RubberStamps$Orders" "order" "[I") ∈ lw_all := lw_g (lw_at lw_m1 209 rfl) rfl
theorem q271 : (Jvm.Cond.soleField "RubberStamps$Orders" "order") ∈ lw_all := lw_g (lw_at lw_m1 210 rfl) rfl
theorem q272 : (Jvm.Cond.laysFinal "RubberStamps$Orders" "RubberStamps$Orders" "best" "[I") ∈ lw_all := lw_g (lw_at lw_m1 211 rfl) rfl
theorem q273 : (Jvm.Cond.soleField "RubberStamps$Orders" "best") ∈ lw_all := lw_g (lw_at lw_m1 212 rfl) rfl
theorem q274 : (Jvm.Cond.lays "RubberStamps$Orders" "RubberStamps$Orders" "least" "I") ∈ lw_all := lw_g (lw_at lw_m1 213 rfl) rfl
theorem q275 : (Jvm.Cond.soleField "RubberStamps$Orders" "least") ∈ lw_all := lw_g (lw_at lw_m1 214 rfl) rfl
theorem q276 : (Jvm.Cond.superclass "RubberStamps$Orders" "java/lang/Object") ∈ lw_all := lw_g (lw_at lw_m1 215 rfl) rfl
theorem q784 : (Jvm.Cond.selects "RubberStamps$Orders" ({ cls := "java/lang/Object", name := "getClass", desc := "()Ljava/lang/Class;" } : Jvm.MethodName) ({ cls := "java/lang/Object", name := "getClass", desc := "()Ljava/lang/Class;" } : Jvm.MethodName)) ∈ lw_all := lw_g (lw_at lw_m4 3 rfl) rfl
theorem q1147 : (Jvm.Cond.instanceMethod ({ cls := "RubberStamps$Orders", name := "find", desc := "(LRubberStamps$State;)Z" } : Jvm.MethodName)) ∈ lw_all := lw_g (lw_at lw_m5 126 rfl) rfl
theorem q1148 : (Jvm.Cond.selects "RubberStamps$Orders" ({ cls := "RubberStamps$Orders", name := "find", desc := "(LRubberStamps$State;)Z" } : Jvm.MethodName) ({ cls := "RubberStamps$Orders", name := "find", desc := "(LRubberStamps$State;)Z" } : Jvm.MethodName)) ∈ lw_all := lw_g (lw_at lw_m5 127 rfl) rfl
theorem q1149 : (Jvm.Cond.code ({ cls := "RubberStamps$Orders", name := "find", desc := "(LRubberStamps$State;)Z" } : Jvm.MethodName) prog_3_method_2_code (2 : Nat) (Option.some Jvm.ClassFile.FieldType.boolean)) ∈ lw_all := lw_g (lw_at lw_m5 128 rfl) rfl
theorem q1150 : (Jvm.Cond.methodLink "RubberStamps$Orders" (36 : Nat) ({ cls := "RubberStamps$Plans", name := "make", desc := "(LRubberStamps$State;)LRubberStamps$Plans;" } : Jvm.MethodName)) ∈ lw_all := lw_g (lw_at lw_m5 129 rfl) rfl
theorem q1151 : (Jvm.Cond.methodLink "RubberStamps$Orders" (46 : Nat) ({ cls := "RubberStamps$Inks", name := "takes", desc := "(LRubberStamps$Inks;)LRubberStamps$Inks;" } : Jvm.MethodName)) ∈ lw_all := lw_g (lw_at lw_m5 130 rfl) rfl
theorem q1152 : (Jvm.Cond.methodLink "RubberStamps$Orders" (50 : Nat) ({ cls := "RubberStamps$Orders", name := "goes", desc := "(LRubberStamps$State;II)V" } : Jvm.MethodName)) ∈ lw_all := lw_g (lw_at lw_m5 131 rfl) rfl
theorem q1153 : (Jvm.Cond.privateMethod ({ cls := "RubberStamps$Orders", name := "goes", desc := "(LRubberStamps$State;II)V" } : Jvm.MethodName)) ∈ lw_tbl := lw_at lw_m5 132 rfl
theorem q1154 : (Jvm.Cond.instanceMethod ({ cls := "RubberStamps$Orders", name := "goes", desc := "(LRubberStamps$State;II)V" } : Jvm.MethodName)) ∈ lw_all := lw_g (lw_at lw_m5 133 rfl) rfl
theorem q1155 : (Jvm.Cond.code ({ cls := "RubberStamps$Orders", name := "goes", desc := "(LRubberStamps$State;II)V" } : Jvm.MethodName) prog_3_method_3_code (7 : Nat) (Option.none : Option Jvm.ClassFile.FieldType)) ∈ lw_all := lw_g (lw_at lw_m5 134 rfl) rfl
theorem q1156 : (Jvm.Cond.methodLink "RubberStamps$Orders" (61 : Nat) ({ cls := "java/util/ArrayList", name := "size", desc := "()I" } : Jvm.MethodName)) ∈ lw_all := lw_g (lw_at lw_m5 135 rfl) rfl
theorem q1157 : (Jvm.Cond.methodLink "RubberStamps$Orders" (67 : Nat) ({ cls := "java/lang/System", name := "arraycopy", desc := "(Ljava/lang/Object;ILjava/lang/Object;II)V" } : Jvm.MethodName)) ∈ lw_all := lw_g (lw_at lw_m5 136 rfl) rfl
theorem q1158 : (Jvm.Cond.methodLink "RubberStamps$Orders" (73 : Nat) ({ cls := "RubberStamps$Plans", name := "isPossible", desc := "(ILRubberStamps$Inks;)Z" } : Jvm.MethodName)) ∈ lw_all := lw_g (lw_at lw_m5 137 rfl) rfl
theorem q1159 : (Jvm.Cond.methodLink "RubberStamps$Orders" (77 : Nat) ({ cls := "RubberStamps$Plans", name := "write", desc := "(ILRubberStamps$Inks;)I" } : Jvm.MethodName)) ∈ lw_all := lw_g (lw_at lw_m5 138 rfl) rfl
theorem q1806 : (Jvm.Cond.castable "RubberStamps$Orders" "java/lang/Object") ∈ lw_tbl := lw_at lw_m8 65 rfl
theorem in_X5 : ∀ w ∈ wsX50, w ∈ lw_all := lw_in wsX50 [266, 268, 270, 272, 274] (by decide +kernel) (by decide +kernel)
/-! RubberStamps$Parser -/
set_option maxRecDepth 100000
def RX7 : String := "RubberStamps$Parser"
def TX7 : u_T := fun k => match k with
  | 0 => ("RubberStamps$Parser", "stamps", "Ljava/util/ArrayList;", true)
  | 1 => ("RubberStamps$Parser", "words", "Ljava/util/ArrayList;", true)
  | 2 => ("RubberStamps$Parser", "at", "I", false)
  | _ => ("RubberStamps$Parser", "this$0", "LRubberStamps;", true)
def tyX7 : Nat → FieldType := fun k => match k with
  | 0 => .object "java/util/ArrayList"
  | 1 => .object "java/util/ArrayList"
  | 2 => .int
  | _ => .object "RubberStamps"
abbrev wsX70 : List Cond := u_ws RX7 TX7 4
theorem nmX7 : ∀ a, a < 4 → ∀ b, b < 4 → a ≠ b → (TX7 a).2.1 ≠ (TX7 b).2.1 := by decide +kernel
theorem tyX7_ok : ∀ k, k < 4 → parseFieldDescriptor (TX7 k).2.2.1 = some (tyX7 k) := by decide +kernel
abbrev cX7_init : ByteArray := prog_4_method_1_code
def yX7_init : MethodName := ⟨RX7, "<init>", "(LRubberStamps;)V"⟩
def dkwX7_init_1 : List UInt8 := [89, 183, 0, 17, 181, 0, 22, 177]
abbrev dktX7_init_1 : List UInt8 := dkwX7_init_1 ++ []
def dkwX7_init_0 : List UInt8 := [42, 43, 181, 0, 3, 42, 183, 0, 9, 42, 187, 0, 15, 89, 183, 0, 17, 181, 0, 18, 42, 187, 0, 15]
abbrev dktX7_init_0 : List UInt8 := dkwX7_init_0 ++ dktX7_init_1
theorem dksX7_init_0 : cX7_init.data.toList.drop 0 = dktX7_init_0 := by decide +kernel
theorem dksX7_init_1 : cX7_init.data.toList.drop 24 = dktX7_init_1 := dk_seg dksX7_init_0 24 rfl rfl
theorem dX7_init_0 : decode cX7_init 0 = .ok (.aload_n 0, 1) := dk_42 (dk_at dksX7_init_0 0 rfl rfl)
theorem dX7_init_1 : decode cX7_init 1 = .ok (.aload_n 1, 1) := dk_43 (dk_at dksX7_init_0 1 rfl rfl)
theorem dX7_init_2 : decode cX7_init 2 = .ok (.putfield 3, 3) := dk_181 0 3 (dk_at dksX7_init_0 2 rfl rfl)
theorem dX7_init_5 : decode cX7_init 5 = .ok (.aload_n 0, 1) := dk_42 (dk_at dksX7_init_0 5 rfl rfl)
theorem dX7_init_6 : decode cX7_init 6 = .ok (.invokespecial 9, 3) := dk_183 0 9 (dk_at dksX7_init_0 6 rfl rfl)
theorem dX7_init_9 : decode cX7_init 9 = .ok (.aload_n 0, 1) := dk_42 (dk_at dksX7_init_0 9 rfl rfl)
theorem dX7_init_10 : decode cX7_init 10 = .ok (.new 15, 3) := dk_187 0 15 (dk_at dksX7_init_0 10 rfl rfl)
theorem dX7_init_13 : decode cX7_init 13 = .ok (.dup, 1) := dk_89 (dk_at dksX7_init_0 13 rfl rfl)
theorem dX7_init_14 : decode cX7_init 14 = .ok (.invokespecial 17, 3) := dk_183 0 17 (dk_at dksX7_init_0 14 rfl rfl)
theorem dX7_init_17 : decode cX7_init 17 = .ok (.putfield 18, 3) := dk_181 0 18 (dk_at dksX7_init_0 17 rfl rfl)
theorem dX7_init_20 : decode cX7_init 20 = .ok (.aload_n 0, 1) := dk_42 (dk_at dksX7_init_0 20 rfl rfl)
theorem dX7_init_21 : decode cX7_init 21 = .ok (.new 15, 3) := dk_187 0 15 (dk_at dksX7_init_0 21 rfl rfl)
theorem dX7_init_24 : decode cX7_init 24 = .ok (.dup, 1) := dk_89 (dk_at dksX7_init_1 0 rfl rfl)
theorem dX7_init_25 : decode cX7_init 25 = .ok (.invokespecial 17, 3) := dk_183 0 17 (dk_at dksX7_init_1 1 rfl rfl)
theorem dX7_init_28 : decode cX7_init 28 = .ok (.putfield 22, 3) := dk_181 0 22 (dk_at dksX7_init_1 4 rfl rfl)
theorem dX7_init_31 : decode cX7_init 31 = .ok (.return_, 1) := dk_177 (dk_at dksX7_init_1 7 rfl rfl)
abbrev cX7_parse : ByteArray := prog_4_method_6_code
def yX7_parse : MethodName := ⟨RX7, "parse", "()V"⟩
def dkwX7_parse_0 : List UInt8 := [42, 180, 0, 25, 42, 180, 0, 3, 180, 0, 29, 162, 0, 10, 42, 182, 0, 85, 167, 255, 238, 177]
abbrev dktX7_parse_0 : List UInt8 := dkwX7_parse_0 ++ []
theorem dksX7_parse_0 : cX7_parse.data.toList.drop 0 = dktX7_parse_0 := by decide +kernel
theorem dX7_parse_0 : decode cX7_parse 0 = .ok (.aload_n 0, 1) := dk_42 (dk_at dksX7_parse_0 0 rfl rfl)
theorem dX7_parse_1 : decode cX7_parse 1 = .ok (.getfield 25, 3) := dk_180 0 25 (dk_at dksX7_parse_0 1 rfl rfl)
theorem dX7_parse_4 : decode cX7_parse 4 = .ok (.aload_n 0, 1) := dk_42 (dk_at dksX7_parse_0 4 rfl rfl)
theorem dX7_parse_5 : decode cX7_parse 5 = .ok (.getfield 3, 3) := dk_180 0 3 (dk_at dksX7_parse_0 5 rfl rfl)
theorem dX7_parse_8 : decode cX7_parse 8 = .ok (.getfield 29, 3) := dk_180 0 29 (dk_at dksX7_parse_0 8 rfl rfl)
theorem dX7_parse_11 : decode cX7_parse 11 = .ok (.if_icmp .ge 10, 3) := dk_162 0 10 (dk_at dksX7_parse_0 11 rfl rfl)
theorem dX7_parse_14 : decode cX7_parse 14 = .ok (.aload_n 0, 1) := dk_42 (dk_at dksX7_parse_0 14 rfl rfl)
theorem dX7_parse_15 : decode cX7_parse 15 = .ok (.invokevirtual 85, 3) := dk_182 0 85 (dk_at dksX7_parse_0 15 rfl rfl)
theorem dX7_parse_18 : decode cX7_parse 18 = .ok (.goto (-18), 3) := dk_167 255 238 (dk_at dksX7_parse_0 18 rfl rfl)
theorem dX7_parse_21 : decode cX7_parse 21 = .ok (.return_, 1) := dk_177 (dk_at dksX7_parse_0 21 rfl rfl)
abbrev cX7_item : ByteArray := prog_4_method_5_code
def yX7_item : MethodName := ⟨RX7, "item", "()V"⟩
def dkwX7_item_6 : List UInt8 := [87, 177]
abbrev dktX7_item_6 : List UInt8 := dkwX7_item_6 ++ []
def dkwX7_item_5 : List UInt8 := [167, 0, 25, 42, 180, 0, 22, 187, 0, 80, 89, 42, 16, 12, 182, 0, 69, 28, 183, 0, 82, 182, 0, 76]
abbrev dktX7_item_5 : List UInt8 := dkwX7_item_5 ++ dktX7_item_6
def dkwX7_item_4 : List UInt8 := [153, 0, 26, 42, 180, 0, 18, 187, 0, 67, 89, 42, 8, 182, 0, 69, 183, 0, 73, 182, 0, 76, 87]
abbrev dktX7_item_4 : List UInt8 := dkwX7_item_4 ++ dktX7_item_5
def dkwX7_item_3 : List UInt8 := [180, 0, 32, 42, 180, 0, 25, 51, 16, 48, 100, 61, 42, 89, 180, 0, 25, 4, 96, 181, 0, 25, 27]
abbrev dktX7_item_3 : List UInt8 := dkwX7_item_3 ++ dktX7_item_4
def dkwX7_item_2 : List UInt8 := [180, 0, 22, 182, 0, 64, 16, 7, 162, 0, 7, 4, 167, 0, 4, 3, 182, 0, 48, 42, 180, 0, 3]
abbrev dktX7_item_2 : List UInt8 := dkwX7_item_2 ++ dktX7_item_3
def dkwX7_item_1 : List UInt8 := [162, 0, 7, 4, 167, 0, 35, 3, 167, 0, 31, 42, 16, 48, 16, 51, 182, 0, 44, 153, 0, 19, 42]
abbrev dktX7_item_1 : List UInt8 := dkwX7_item_1 ++ dktX7_item_2
def dkwX7_item_0 : List UInt8 := [42, 16, 42, 16, 42, 182, 0, 44, 60, 42, 27, 153, 0, 23, 42, 180, 0, 18, 182, 0, 64, 16, 10]
abbrev dktX7_item_0 : List UInt8 := dkwX7_item_0 ++ dktX7_item_1
theorem dksX7_item_0 : cX7_item.data.toList.drop 0 = dktX7_item_0 := by decide +kernel
theorem dksX7_item_1 : cX7_item.data.toList.drop 23 = dktX7_item_1 := dk_seg dksX7_item_0 23 rfl rfl
theorem dksX7_item_2 : cX7_item.data.toList.drop 46 = dktX7_item_2 := dk_seg dksX7_item_1 23 rfl rfl
theorem dksX7_item_3 : cX7_item.data.toList.drop 69 = dktX7_item_3 := dk_seg dksX7_item_2 23 rfl rfl
theorem dksX7_item_4 : cX7_item.data.toList.drop 92 = dktX7_item_4 := dk_seg dksX7_item_3 23 rfl rfl
theorem dksX7_item_5 : cX7_item.data.toList.drop 115 = dktX7_item_5 := dk_seg dksX7_item_4 23 rfl rfl
theorem dksX7_item_6 : cX7_item.data.toList.drop 139 = dktX7_item_6 := dk_seg dksX7_item_5 24 rfl rfl
theorem dX7_item_0 : decode cX7_item 0 = .ok (.aload_n 0, 1) := dk_42 (dk_at dksX7_item_0 0 rfl rfl)
theorem dX7_item_1 : decode cX7_item 1 = .ok (.bipush 42, 2) := dk_16 42 (dk_at dksX7_item_0 1 rfl rfl)
theorem dX7_item_3 : decode cX7_item 3 = .ok (.bipush 42, 2) := dk_16 42 (dk_at dksX7_item_0 3 rfl rfl)
theorem dX7_item_5 : decode cX7_item 5 = .ok (.invokevirtual 44, 3) := dk_182 0 44 (dk_at dksX7_item_0 5 rfl rfl)
theorem dX7_item_8 : decode cX7_item 8 = .ok (.istore_n 1, 1) := dk_60 (dk_at dksX7_item_0 8 rfl rfl)
theorem dX7_item_9 : decode cX7_item 9 = .ok (.aload_n 0, 1) := dk_42 (dk_at dksX7_item_0 9 rfl rfl)
theorem dX7_item_10 : decode cX7_item 10 = .ok (.iload_n 1, 1) := dk_27 (dk_at dksX7_item_0 10 rfl rfl)
theorem dX7_item_11 : decode cX7_item 11 = .ok (.ifCond .eq 23, 3) := dk_153 0 23 (dk_at dksX7_item_0 11 rfl rfl)
theorem dX7_item_14 : decode cX7_item 14 = .ok (.aload_n 0, 1) := dk_42 (dk_at dksX7_item_0 14 rfl rfl)
theorem dX7_item_15 : decode cX7_item 15 = .ok (.getfield 18, 3) := dk_180 0 18 (dk_at dksX7_item_0 15 rfl rfl)
theorem dX7_item_18 : decode cX7_item 18 = .ok (.invokevirtual 64, 3) := dk_182 0 64 (dk_at dksX7_item_0 18 rfl rfl)
theorem dX7_item_21 : decode cX7_item 21 = .ok (.bipush 10, 2) := dk_16 10 (dk_at dksX7_item_0 21 rfl rfl)
theorem dX7_item_23 : decode cX7_item 23 = .ok (.if_icmp .ge 7, 3) := dk_162 0 7 (dk_at dksX7_item_1 0 rfl rfl)
theorem dX7_item_26 : decode cX7_item 26 = .ok (.iconst 1, 1) := dk_4 (dk_at dksX7_item_1 3 rfl rfl)
theorem dX7_item_27 : decode cX7_item 27 = .ok (.goto 35, 3) := dk_167 0 35 (dk_at dksX7_item_1 4 rfl rfl)
theorem dX7_item_30 : decode cX7_item 30 = .ok (.iconst 0, 1) := dk_3 (dk_at dksX7_item_1 7 rfl rfl)
theorem dX7_item_31 : decode cX7_item 31 = .ok (.goto 31, 3) := dk_167 0 31 (dk_at dksX7_item_1 8 rfl rfl)
theorem dX7_item_34 : decode cX7_item 34 = .ok (.aload_n 0, 1) := dk_42 (dk_at dksX7_item_1 11 rfl rfl)
theorem dX7_item_35 : decode cX7_item 35 = .ok (.bipush 48, 2) := dk_16 48 (dk_at dksX7_item_1 12 rfl rfl)
theorem dX7_item_37 : decode cX7_item 37 = .ok (.bipush 51, 2) := dk_16 51 (dk_at dksX7_item_1 14 rfl rfl)
theorem dX7_item_39 : decode cX7_item 39 = .ok (.invokevirtual 44, 3) := dk_182 0 44 (dk_at dksX7_item_1 16 rfl rfl)
theorem dX7_item_42 : decode cX7_item 42 = .ok (.ifCond .eq 19, 3) := dk_153 0 19 (dk_at dksX7_item_1 19 rfl rfl)
theorem dX7_item_45 : decode cX7_item 45 = .ok (.aload_n 0, 1) := dk_42 (dk_at dksX7_item_1 22 rfl rfl)
theorem dX7_item_46 : decode cX7_item 46 = .ok (.getfield 22, 3) := dk_180 0 22 (dk_at dksX7_item_2 0 rfl rfl)
theorem dX7_item_49 : decode cX7_item 49 = .ok (.invokevirtual 64, 3) := dk_182 0 64 (dk_at dksX7_item_2 3 rfl rfl)
theorem dX7_item_52 : decode cX7_item 52 = .ok (.bipush 7, 2) := dk_16 7 (dk_at dksX7_item_2 6 rfl rfl)
theorem dX7_item_54 : decode cX7_item 54 = .ok (.if_icmp .ge 7, 3) := dk_162 0 7 (dk_at dksX7_item_2 8 rfl rfl)
theorem dX7_item_57 : decode cX7_item 57 = .ok (.iconst 1, 1) := dk_4 (dk_at dksX7_item_2 11 rfl rfl)
theorem dX7_item_58 : decode cX7_item 58 = .ok (.goto 4, 3) := dk_167 0 4 (dk_at dksX7_item_2 12 rfl rfl)
theorem dX7_item_61 : decode cX7_item 61 = .ok (.iconst 0, 1) := dk_3 (dk_at dksX7_item_2 15 rfl rfl)
theorem dX7_item_62 : decode cX7_item 62 = .ok (.invokevirtual 48, 3) := dk_182 0 48 (dk_at dksX7_item_2 16 rfl rfl)
theorem dX7_item_65 : decode cX7_item 65 = .ok (.aload_n 0, 1) := dk_42 (dk_at dksX7_item_2 19 rfl rfl)
theorem dX7_item_66 : decode cX7_item 66 = .ok (.getfield 3, 3) := dk_180 0 3 (dk_at dksX7_item_2 20 rfl rfl)
theorem dX7_item_69 : decode cX7_item 69 = .ok (.getfield 32, 3) := dk_180 0 32 (dk_at dksX7_item_3 0 rfl rfl)
theorem dX7_item_72 : decode cX7_item 72 = .ok (.aload_n 0, 1) := dk_42 (dk_at dksX7_item_3 3 rfl rfl)
theorem dX7_item_73 : decode cX7_item 73 = .ok (.getfield 25, 3) := dk_180 0 25 (dk_at dksX7_item_3 4 rfl rfl)
theorem dX7_item_76 : decode cX7_item 76 = .ok (.baload, 1) := dk_51 (dk_at dksX7_item_3 7 rfl rfl)
theorem dX7_item_77 : decode cX7_item 77 = .ok (.bipush 48, 2) := dk_16 48 (dk_at dksX7_item_3 8 rfl rfl)
theorem dX7_item_79 : decode cX7_item 79 = .ok (.isub, 1) := dk_100 (dk_at dksX7_item_3 10 rfl rfl)
theorem dX7_item_80 : decode cX7_item 80 = .ok (.istore_n 2, 1) := dk_61 (dk_at dksX7_item_3 11 rfl rfl)
theorem dX7_item_81 : decode cX7_item 81 = .ok (.aload_n 0, 1) := dk_42 (dk_at dksX7_item_3 12 rfl rfl)
theorem dX7_item_82 : decode cX7_item 82 = .ok (.dup, 1) := dk_89 (dk_at dksX7_item_3 13 rfl rfl)
theorem dX7_item_83 : decode cX7_item 83 = .ok (.getfield 25, 3) := dk_180 0 25 (dk_at dksX7_item_3 14 rfl rfl)
theorem dX7_item_86 : decode cX7_item 86 = .ok (.iconst 1, 1) := dk_4 (dk_at dksX7_item_3 17 rfl rfl)
theorem dX7_item_87 : decode cX7_item 87 = .ok (.iadd, 1) := dk_96 (dk_at dksX7_item_3 18 rfl rfl)
theorem dX7_item_88 : decode cX7_item 88 = .ok (.putfield 25, 3) := dk_181 0 25 (dk_at dksX7_item_3 19 rfl rfl)
theorem dX7_item_91 : decode cX7_item 91 = .ok (.iload_n 1, 1) := dk_27 (dk_at dksX7_item_3 22 rfl rfl)
theorem dX7_item_92 : decode cX7_item 92 = .ok (.ifCond .eq 26, 3) := dk_153 0 26 (dk_at dksX7_item_4 0 rfl rfl)
theorem dX7_item_95 : decode cX7_item 95 = .ok (.aload_n 0, 1) := dk_42 (dk_at dksX7_item_4 3 rfl rfl)
theorem dX7_item_96 : decode cX7_item 96 = .ok (.getfield 18, 3) := dk_180 0 18 (dk_at dksX7_item_4 4 rfl rfl)
theorem dX7_item_99 : decode cX7_item 99 = .ok (.new 67, 3) := dk_187 0 67 (dk_at dksX7_item_4 7 rfl rfl)
theorem dX7_item_102 : decode cX7_item 102 = .ok (.dup, 1) := dk_89 (dk_at dksX7_item_4 10 rfl rfl)
theorem dX7_item_103 : decode cX7_item 103 = .ok (.aload_n 0, 1) := dk_42 (dk_at dksX7_item_4 11 rfl rfl)
theorem dX7_item_104 : decode cX7_item 104 = .ok (.iconst 5, 1) := dk_8 (dk_at dksX7_item_4 12 rfl rfl)
theorem dX7_item_105 : decode cX7_item 105 = .ok (.invokevirtual 69, 3) := dk_182 0 69 (dk_at dksX7_item_4 13 rfl rfl)
theorem dX7_item_108 : decode cX7_item 108 = .ok (.invokespecial 73, 3) := dk_183 0 73 (dk_at dksX7_item_4 16 rfl rfl)
theorem dX7_item_111 : decode cX7_item 111 = .ok (.invokevirtual 76, 3) := dk_182 0 76 (dk_at dksX7_item_4 19 rfl rfl)
theorem dX7_item_114 : decode cX7_item 114 = .ok (.pop, 1) := dk_87 (dk_at dksX7_item_4 22 rfl rfl)
theorem dX7_item_115 : decode cX7_item 115 = .ok (.goto 25, 3) := dk_167 0 25 (dk_at dksX7_item_5 0 rfl rfl)
theorem dX7_item_118 : decode cX7_item 118 = .ok (.aload_n 0, 1) := dk_42 (dk_at dksX7_item_5 3 rfl rfl)
theorem dX7_item_119 : decode cX7_item 119 = .ok (.getfield 22, 3) := dk_180 0 22 (dk_at dksX7_item_5 4 rfl rfl)
theorem dX7_item_122 : decode cX7_item 122 = .ok (.new 80, 3) := dk_187 0 80 (dk_at dksX7_item_5 7 rfl rfl)
theorem dX7_item_125 : decode cX7_item 125 = .ok (.dup, 1) := dk_89 (dk_at dksX7_item_5 10 rfl rfl)
theorem dX7_item_126 : decode cX7_item 126 = .ok (.aload_n 0, 1) := dk_42 (dk_at dksX7_item_5 11 rfl rfl)
theorem dX7_item_127 : decode cX7_item 127 = .ok (.bipush 12, 2) := dk_16 12 (dk_at dksX7_item_5 12 rfl rfl)
theorem dX7_item_129 : decode cX7_item 129 = .ok (.invokevirtual 69, 3) := dk_182 0 69 (dk_at dksX7_item_5 14 rfl rfl)
theorem dX7_item_132 : decode cX7_item 132 = .ok (.iload_n 2, 1) := dk_28 (dk_at dksX7_item_5 17 rfl rfl)
theorem dX7_item_133 : decode cX7_item 133 = .ok (.invokespecial 82, 3) := dk_183 0 82 (dk_at dksX7_item_5 18 rfl rfl)
theorem dX7_item_136 : decode cX7_item 136 = .ok (.invokevirtual 76, 3) := dk_182 0 76 (dk_at dksX7_item_5 21 rfl rfl)
theorem dX7_item_139 : decode cX7_item 139 = .ok (.pop, 1) := dk_87 (dk_at dksX7_item_6 0 rfl rfl)
theorem dX7_item_140 : decode cX7_item 140 = .ok (.return_, 1) := dk_177 (dk_at dksX7_item_6 1 rfl rfl)
abbrev cX7_isAt : ByteArray := prog_4_method_2_code
def yX7_isAt : MethodName := ⟨RX7, "isAt", "(CC)Z"⟩
def dkwX7_isAt_2 : List UInt8 := [4, 167, 0, 4, 3, 172]
abbrev dktX7_isAt_2 : List UInt8 := dkwX7_isAt_2 ++ []
def dkwX7_isAt_1 : List UInt8 := [180, 0, 25, 51, 27, 161, 0, 23, 42, 180, 0, 3, 180, 0, 32, 42, 180, 0, 25, 51, 28, 163, 0, 7]
abbrev dktX7_isAt_1 : List UInt8 := dkwX7_isAt_1 ++ dktX7_isAt_2
def dkwX7_isAt_0 : List UInt8 := [42, 180, 0, 25, 42, 180, 0, 3, 180, 0, 29, 162, 0, 39, 42, 180, 0, 3, 180, 0, 32, 42]
abbrev dktX7_isAt_0 : List UInt8 := dkwX7_isAt_0 ++ dktX7_isAt_1
theorem dksX7_isAt_0 : cX7_isAt.data.toList.drop 0 = dktX7_isAt_0 := by decide +kernel
theorem dksX7_isAt_1 : cX7_isAt.data.toList.drop 22 = dktX7_isAt_1 := dk_seg dksX7_isAt_0 22 rfl rfl
theorem dksX7_isAt_2 : cX7_isAt.data.toList.drop 46 = dktX7_isAt_2 := dk_seg dksX7_isAt_1 24 rfl rfl
theorem dX7_isAt_0 : decode cX7_isAt 0 = .ok (.aload_n 0, 1) := dk_42 (dk_at dksX7_isAt_0 0 rfl rfl)
theorem dX7_isAt_1 : decode cX7_isAt 1 = .ok (.getfield 25, 3) := dk_180 0 25 (dk_at dksX7_isAt_0 1 rfl rfl)
theorem dX7_isAt_4 : decode cX7_isAt 4 = .ok (.aload_n 0, 1) := dk_42 (dk_at dksX7_isAt_0 4 rfl rfl)
theorem dX7_isAt_5 : decode cX7_isAt 5 = .ok (.getfield 3, 3) := dk_180 0 3 (dk_at dksX7_isAt_0 5 rfl rfl)
theorem dX7_isAt_8 : decode cX7_isAt 8 = .ok (.getfield 29, 3) := dk_180 0 29 (dk_at dksX7_isAt_0 8 rfl rfl)
theorem dX7_isAt_11 : decode cX7_isAt 11 = .ok (.if_icmp .ge 39, 3) := dk_162 0 39 (dk_at dksX7_isAt_0 11 rfl rfl)
theorem dX7_isAt_14 : decode cX7_isAt 14 = .ok (.aload_n 0, 1) := dk_42 (dk_at dksX7_isAt_0 14 rfl rfl)
theorem dX7_isAt_15 : decode cX7_isAt 15 = .ok (.getfield 3, 3) := dk_180 0 3 (dk_at dksX7_isAt_0 15 rfl rfl)
theorem dX7_isAt_18 : decode cX7_isAt 18 = .ok (.getfield 32, 3) := dk_180 0 32 (dk_at dksX7_isAt_0 18 rfl rfl)
theorem dX7_isAt_21 : decode cX7_isAt 21 = .ok (.aload_n 0, 1) := dk_42 (dk_at dksX7_isAt_0 21 rfl rfl)
theorem dX7_isAt_22 : decode cX7_isAt 22 = .ok (.getfield 25, 3) := dk_180 0 25 (dk_at dksX7_isAt_1 0 rfl rfl)
theorem dX7_isAt_25 : decode cX7_isAt 25 = .ok (.baload, 1) := dk_51 (dk_at dksX7_isAt_1 3 rfl rfl)
theorem dX7_isAt_26 : decode cX7_isAt 26 = .ok (.iload_n 1, 1) := dk_27 (dk_at dksX7_isAt_1 4 rfl rfl)
theorem dX7_isAt_27 : decode cX7_isAt 27 = .ok (.if_icmp .lt 23, 3) := dk_161 0 23 (dk_at dksX7_isAt_1 5 rfl rfl)
theorem dX7_isAt_30 : decode cX7_isAt 30 = .ok (.aload_n 0, 1) := dk_42 (dk_at dksX7_isAt_1 8 rfl rfl)
theorem dX7_isAt_31 : decode cX7_isAt 31 = .ok (.getfield 3, 3) := dk_180 0 3 (dk_at dksX7_isAt_1 9 rfl rfl)
theorem dX7_isAt_34 : decode cX7_isAt 34 = .ok (.getfield 32, 3) := dk_180 0 32 (dk_at dksX7_isAt_1 12 rfl rfl)
theorem dX7_isAt_37 : decode cX7_isAt 37 = .ok (.aload_n 0, 1) := dk_42 (dk_at dksX7_isAt_1 15 rfl rfl)
theorem dX7_isAt_38 : decode cX7_isAt 38 = .ok (.getfield 25, 3) := dk_180 0 25 (dk_at dksX7_isAt_1 16 rfl rfl)
theorem dX7_isAt_41 : decode cX7_isAt 41 = .ok (.baload, 1) := dk_51 (dk_at dksX7_isAt_1 19 rfl rfl)
theorem dX7_isAt_42 : decode cX7_isAt 42 = .ok (.iload_n 2, 1) := dk_28 (dk_at dksX7_isAt_1 20 rfl rfl)
theorem dX7_isAt_43 : decode cX7_isAt 43 = .ok (.if_icmp .gt 7, 3) := dk_163 0 7 (dk_at dksX7_isAt_1 21 rfl rfl)
theorem dX7_isAt_46 : decode cX7_isAt 46 = .ok (.iconst 1, 1) := dk_4 (dk_at dksX7_isAt_2 0 rfl rfl)
theorem dX7_isAt_47 : decode cX7_isAt 47 = .ok (.goto 4, 3) := dk_167 0 4 (dk_at dksX7_isAt_2 1 rfl rfl)
theorem dX7_isAt_50 : decode cX7_isAt 50 = .ok (.iconst 0, 1) := dk_3 (dk_at dksX7_isAt_2 4 rfl rfl)
theorem dX7_isAt_51 : decode cX7_isAt 51 = .ok (.ireturn, 1) := dk_172 (dk_at dksX7_isAt_2 5 rfl rfl)
abbrev cX7_check : ByteArray := prog_4_method_3_code
def yX7_check : MethodName := ⟨RX7, "check", "(Z)V"⟩
def dkwX7_check_0 : List UInt8 := [27, 154, 0, 15, 187, 0, 36, 89, 42, 180, 0, 25, 183, 0, 38, 191, 177]
abbrev dktX7_check_0 : List UInt8 := dkwX7_check_0 ++ []
theorem dksX7_check_0 : cX7_check.data.toList.drop 0 = dktX7_check_0 := by decide +kernel
theorem dX7_check_0 : decode cX7_check 0 = .ok (.iload_n 1, 1) := dk_27 (dk_at dksX7_check_0 0 rfl rfl)
theorem dX7_check_1 : decode cX7_check 1 = .ok (.ifCond .ne 15, 3) := dk_154 0 15 (dk_at dksX7_check_0 1 rfl rfl)
theorem dX7_check_4 : decode cX7_check 4 = .ok (.new 36, 3) := dk_187 0 36 (dk_at dksX7_check_0 4 rfl rfl)
theorem dX7_check_7 : decode cX7_check 7 = .ok (.dup, 1) := dk_89 (dk_at dksX7_check_0 7 rfl rfl)
theorem dX7_check_8 : decode cX7_check 8 = .ok (.aload_n 0, 1) := dk_42 (dk_at dksX7_check_0 8 rfl rfl)
theorem dX7_check_9 : decode cX7_check 9 = .ok (.getfield 25, 3) := dk_180 0 25 (dk_at dksX7_check_0 9 rfl rfl)
theorem dX7_check_12 : decode cX7_check 12 = .ok (.invokespecial 38, 3) := dk_183 0 38 (dk_at dksX7_check_0 12 rfl rfl)
theorem dX7_check_15 : decode cX7_check 15 = .ok (.athrow, 1) := dk_191 (dk_at dksX7_check_0 15 rfl rfl)
theorem dX7_check_16 : decode cX7_check 16 = .ok (.return_, 1) := dk_177 (dk_at dksX7_check_0 16 rfl rfl)
abbrev cX7_letters : ByteArray := prog_4_method_4_code
def yX7_letters : MethodName := ⟨RX7, "letters", "(I)Ljava/lang/String;"⟩
def dkwX7_letters_4 : List UInt8 := [89, 180, 0, 25, 4, 96, 181, 0, 25, 44, 182, 0, 60, 176]
abbrev dktX7_letters_4 : List UInt8 := dkwX7_letters_4 ++ []
def dkwX7_letters_3 : List UInt8 := [180, 0, 25, 4, 96, 181, 0, 25, 167, 255, 200, 42, 42, 16, 59, 16, 59, 182, 0, 44, 182, 0, 48, 42]
abbrev dktX7_letters_3 : List UInt8 := dkwX7_letters_3 ++ dktX7_letters_4
def dkwX7_letters_2 : List UInt8 := [182, 0, 48, 44, 42, 180, 0, 3, 180, 0, 32, 42, 180, 0, 25, 51, 146, 182, 0, 56, 87, 42, 89]
abbrev dktX7_letters_2 : List UInt8 := dkwX7_letters_2 ++ dktX7_letters_3
def dkwX7_letters_1 : List UInt8 := [16, 122, 182, 0, 44, 153, 0, 51, 42, 44, 182, 0, 52, 27, 162, 0, 7, 4, 167, 0, 4, 3]
abbrev dktX7_letters_1 : List UInt8 := dkwX7_letters_1 ++ dktX7_letters_2
def dkwX7_letters_0 : List UInt8 := [187, 0, 41, 89, 183, 0, 43, 77, 42, 42, 16, 97, 16, 122, 182, 0, 44, 182, 0, 48, 42, 16, 97]
abbrev dktX7_letters_0 : List UInt8 := dkwX7_letters_0 ++ dktX7_letters_1
theorem dksX7_letters_0 : cX7_letters.data.toList.drop 0 = dktX7_letters_0 := by decide +kernel
theorem dksX7_letters_1 : cX7_letters.data.toList.drop 23 = dktX7_letters_1 := dk_seg dksX7_letters_0 23 rfl rfl
theorem dksX7_letters_2 : cX7_letters.data.toList.drop 45 = dktX7_letters_2 := dk_seg dksX7_letters_1 22 rfl rfl
theorem dksX7_letters_3 : cX7_letters.data.toList.drop 68 = dktX7_letters_3 := dk_seg dksX7_letters_2 23 rfl rfl
theorem dksX7_letters_4 : cX7_letters.data.toList.drop 92 = dktX7_letters_4 := dk_seg dksX7_letters_3 24 rfl rfl
theorem dX7_letters_0 : decode cX7_letters 0 = .ok (.new 41, 3) := dk_187 0 41 (dk_at dksX7_letters_0 0 rfl rfl)
theorem dX7_letters_3 : decode cX7_letters 3 = .ok (.dup, 1) := dk_89 (dk_at dksX7_letters_0 3 rfl rfl)
theorem dX7_letters_4 : decode cX7_letters 4 = .ok (.invokespecial 43, 3) := dk_183 0 43 (dk_at dksX7_letters_0 4 rfl rfl)
theorem dX7_letters_7 : decode cX7_letters 7 = .ok (.astore_n 2, 1) := dk_77 (dk_at dksX7_letters_0 7 rfl rfl)
theorem dX7_letters_8 : decode cX7_letters 8 = .ok (.aload_n 0, 1) := dk_42 (dk_at dksX7_letters_0 8 rfl rfl)
theorem dX7_letters_9 : decode cX7_letters 9 = .ok (.aload_n 0, 1) := dk_42 (dk_at dksX7_letters_0 9 rfl rfl)
theorem dX7_letters_10 : decode cX7_letters 10 = .ok (.bipush 97, 2) := dk_16 97 (dk_at dksX7_letters_0 10 rfl rfl)
theorem dX7_letters_12 : decode cX7_letters 12 = .ok (.bipush 122, 2) := dk_16 122 (dk_at dksX7_letters_0 12 rfl rfl)
theorem dX7_letters_14 : decode cX7_letters 14 = .ok (.invokevirtual 44, 3) := dk_182 0 44 (dk_at dksX7_letters_0 14 rfl rfl)
theorem dX7_letters_17 : decode cX7_letters 17 = .ok (.invokevirtual 48, 3) := dk_182 0 48 (dk_at dksX7_letters_0 17 rfl rfl)
theorem dX7_letters_20 : decode cX7_letters 20 = .ok (.aload_n 0, 1) := dk_42 (dk_at dksX7_letters_0 20 rfl rfl)
theorem dX7_letters_21 : decode cX7_letters 21 = .ok (.bipush 97, 2) := dk_16 97 (dk_at dksX7_letters_0 21 rfl rfl)
theorem dX7_letters_23 : decode cX7_letters 23 = .ok (.bipush 122, 2) := dk_16 122 (dk_at dksX7_letters_1 0 rfl rfl)
theorem dX7_letters_25 : decode cX7_letters 25 = .ok (.invokevirtual 44, 3) := dk_182 0 44 (dk_at dksX7_letters_1 2 rfl rfl)
theorem dX7_letters_28 : decode cX7_letters 28 = .ok (.ifCond .eq 51, 3) := dk_153 0 51 (dk_at dksX7_letters_1 5 rfl rfl)
theorem dX7_letters_31 : decode cX7_letters 31 = .ok (.aload_n 0, 1) := dk_42 (dk_at dksX7_letters_1 8 rfl rfl)
theorem dX7_letters_32 : decode cX7_letters 32 = .ok (.aload_n 2, 1) := dk_44 (dk_at dksX7_letters_1 9 rfl rfl)
theorem dX7_letters_33 : decode cX7_letters 33 = .ok (.invokevirtual 52, 3) := dk_182 0 52 (dk_at dksX7_letters_1 10 rfl rfl)
theorem dX7_letters_36 : decode cX7_letters 36 = .ok (.iload_n 1, 1) := dk_27 (dk_at dksX7_letters_1 13 rfl rfl)
theorem dX7_letters_37 : decode cX7_letters 37 = .ok (.if_icmp .ge 7, 3) := dk_162 0 7 (dk_at dksX7_letters_1 14 rfl rfl)
theorem dX7_letters_40 : decode cX7_letters 40 = .ok (.iconst 1, 1) := dk_4 (dk_at dksX7_letters_1 17 rfl rfl)
theorem dX7_letters_41 : decode cX7_letters 41 = .ok (.goto 4, 3) := dk_167 0 4 (dk_at dksX7_letters_1 18 rfl rfl)
theorem dX7_letters_44 : decode cX7_letters 44 = .ok (.iconst 0, 1) := dk_3 (dk_at dksX7_letters_1 21 rfl rfl)
theorem dX7_letters_45 : decode cX7_letters 45 = .ok (.invokevirtual 48, 3) := dk_182 0 48 (dk_at dksX7_letters_2 0 rfl rfl)
theorem dX7_letters_48 : decode cX7_letters 48 = .ok (.aload_n 2, 1) := dk_44 (dk_at dksX7_letters_2 3 rfl rfl)
theorem dX7_letters_49 : decode cX7_letters 49 = .ok (.aload_n 0, 1) := dk_42 (dk_at dksX7_letters_2 4 rfl rfl)
theorem dX7_letters_50 : decode cX7_letters 50 = .ok (.getfield 3, 3) := dk_180 0 3 (dk_at dksX7_letters_2 5 rfl rfl)
theorem dX7_letters_53 : decode cX7_letters 53 = .ok (.getfield 32, 3) := dk_180 0 32 (dk_at dksX7_letters_2 8 rfl rfl)
theorem dX7_letters_56 : decode cX7_letters 56 = .ok (.aload_n 0, 1) := dk_42 (dk_at dksX7_letters_2 11 rfl rfl)
theorem dX7_letters_57 : decode cX7_letters 57 = .ok (.getfield 25, 3) := dk_180 0 25 (dk_at dksX7_letters_2 12 rfl rfl)
theorem dX7_letters_60 : decode cX7_letters 60 = .ok (.baload, 1) := dk_51 (dk_at dksX7_letters_2 15 rfl rfl)
theorem dX7_letters_61 : decode cX7_letters 61 = .ok (.i2c, 1) := dk_146 (dk_at dksX7_letters_2 16 rfl rfl)
theorem dX7_letters_62 : decode cX7_letters 62 = .ok (.invokevirtual 56, 3) := dk_182 0 56 (dk_at dksX7_letters_2 17 rfl rfl)
theorem dX7_letters_65 : decode cX7_letters 65 = .ok (.pop, 1) := dk_87 (dk_at dksX7_letters_2 20 rfl rfl)
theorem dX7_letters_66 : decode cX7_letters 66 = .ok (.aload_n 0, 1) := dk_42 (dk_at dksX7_letters_2 21 rfl rfl)
theorem dX7_letters_67 : decode cX7_letters 67 = .ok (.dup, 1) := dk_89 (dk_at dksX7_letters_2 22 rfl rfl)
theorem dX7_letters_68 : decode cX7_letters 68 = .ok (.getfield 25, 3) := dk_180 0 25 (dk_at dksX7_letters_3 0 rfl rfl)
theorem dX7_letters_71 : decode cX7_letters 71 = .ok (.iconst 1, 1) := dk_4 (dk_at dksX7_letters_3 3 rfl rfl)
theorem dX7_letters_72 : decode cX7_letters 72 = .ok (.iadd, 1) := dk_96 (dk_at dksX7_letters_3 4 rfl rfl)
theorem dX7_letters_73 : decode cX7_letters 73 = .ok (.putfield 25, 3) := dk_181 0 25 (dk_at dksX7_letters_3 5 rfl rfl)
theorem dX7_letters_76 : decode cX7_letters 76 = .ok (.goto (-56), 3) := dk_167 255 200 (dk_at dksX7_letters_3 8 rfl rfl)
theorem dX7_letters_79 : decode cX7_letters 79 = .ok (.aload_n 0, 1) := dk_42 (dk_at dksX7_letters_3 11 rfl rfl)
theorem dX7_letters_80 : decode cX7_letters 80 = .ok (.aload_n 0, 1) := dk_42 (dk_at dksX7_letters_3 12 rfl rfl)
theorem dX7_letters_81 : decode cX7_letters 81 = .ok (.bipush 59, 2) := dk_16 59 (dk_at dksX7_letters_3 13 rfl rfl)
theorem dX7_letters_83 : decode cX7_letters 83 = .ok (.bipush 59, 2) := dk_16 59 (dk_at dksX7_letters_3 15 rfl rfl)
theorem dX7_letters_85 : decode cX7_letters 85 = .ok (.invokevirtual 44, 3) := dk_182 0 44 (dk_at dksX7_letters_3 17 rfl rfl)
theorem dX7_letters_88 : decode cX7_letters 88 = .ok (.invokevirtual 48, 3) := dk_182 0 48 (dk_at dksX7_letters_3 20 rfl rfl)
theorem dX7_letters_91 : decode cX7_letters 91 = .ok (.aload_n 0, 1) := dk_42 (dk_at dksX7_letters_3 23 rfl rfl)
theorem dX7_letters_92 : decode cX7_letters 92 = .ok (.dup, 1) := dk_89 (dk_at dksX7_letters_4 0 rfl rfl)
theorem dX7_letters_93 : decode cX7_letters 93 = .ok (.getfield 25, 3) := dk_180 0 25 (dk_at dksX7_letters_4 1 rfl rfl)
theorem dX7_letters_96 : decode cX7_letters 96 = .ok (.iconst 1, 1) := dk_4 (dk_at dksX7_letters_4 4 rfl rfl)
theorem dX7_letters_97 : decode cX7_letters 97 = .ok (.iadd, 1) := dk_96 (dk_at dksX7_letters_4 5 rfl rfl)
theorem dX7_letters_98 : decode cX7_letters 98 = .ok (.putfield 25, 3) := dk_181 0 25 (dk_at dksX7_letters_4 6 rfl rfl)
theorem dX7_letters_101 : decode cX7_letters 101 = .ok (.aload_n 2, 1) := dk_44 (dk_at dksX7_letters_4 9 rfl rfl)
theorem dX7_letters_102 : decode cX7_letters 102 = .ok (.invokevirtual 60, 3) := dk_182 0 60 (dk_at dksX7_letters_4 10 rfl rfl)
theorem dX7_letters_105 : decode cX7_letters 105 = .ok (.areturn, 1) := dk_176 (dk_at dksX7_letters_4 13 rfl rfl)
theorem q78 : (Jvm.Cond.initialized "RubberStamps$Parser") ∈ lw_all := lw_g (lw_at lw_m1 17 rfl) rfl
theorem q284 : (Jvm.Cond.fieldLinkNest "RubberStamps$Parser" (32 : Nat) "RubberStamps" "text" "[B" "RubberStamps") ∈ lw_tbl := lw_at lw_m1 223 rfl
theorem q286 : (Jvm.Cond.fieldLinkNest "RubberStamps$Parser" (29 : Nat) "RubberStamps" "textLength" "I" "RubberStamps") ∈ lw_tbl := lw_at lw_m1 225 rfl
theorem q314 : (Jvm.Cond.instantiable "RubberStamps$Parser" (4 : Nat)) ∈ lw_all := lw_g (lw_at lw_m2 13 rfl) rfl
theorem q316 : (Jvm.Cond.instanceMethod ({ cls := "RubberStamps$Parser", name := "<init>", desc := "(LRubberStamps;)V" } : Jvm.MethodName)) ∈ lw_all := lw_g (lw_at lw_m2 15 rfl) rfl
theorem q317 : (Jvm.Cond.code ({ cls := "RubberStamps$Parser", name := "<init>", desc := "(LRubberStamps;)V" } : Jvm.MethodName) prog_4_method_1_code (2 : Nat) (Option.none : Option Jvm.ClassFile.FieldType)) ∈ lw_all := lw_g (lw_at lw_m2 16 rfl) rfl
theorem q318 : (Jvm.Cond.methodLink "RubberStamps$Parser" (9 : Nat) ({ cls := "java/lang/Object", name := "<init>", desc := "()V" } : Jvm.MethodName)) ∈ lw_all := lw_g (lw_at lw_m2 17 rfl) rfl
theorem q319 : (Jvm.Cond.classLink "RubberStamps$Parser" (15 : Nat) "java/util/ArrayList") ∈ lw_all := lw_g (lw_at lw_m2 18 rfl) rfl
theorem q320 : (Jvm.Cond.methodLink "RubberStamps$Parser" (17 : Nat) ({ cls := "java/util/ArrayList", name := "<init>", desc := "()V" } : Jvm.MethodName)) ∈ lw_all := lw_g (lw_at lw_m2 19 rfl) rfl
theorem q321 : (Jvm.Cond.fieldLink "RubberStamps$Parser" (18 : Nat) "RubberStamps$Parser" "stamps" "Ljava/util/ArrayList;") ∈ lw_all := lw_g (lw_at lw_m2 20 rfl) rfl
theorem q323 : (Jvm.Cond.fieldLink "RubberStamps$Parser" (22 : Nat) "RubberStamps$Parser" "words" "Ljava/util/ArrayList;") ∈ lw_all := lw_g (lw_at lw_m2 22 rfl) rfl
theorem q325 : (Jvm.Cond.fieldLink "RubberStamps$Parser" (25 : Nat) "RubberStamps$Parser" "at" "I") ∈ lw_all := lw_g (lw_at lw_m2 24 rfl) rfl
theorem q326 : (Jvm.Cond.fieldLink "RubberStamps$Parser" (3 : Nat) "RubberStamps$Parser" "this$0" "LRubberStamps;") ∈ lw_all := lw_g (lw_at lw_m2 25 rfl) rfl
theorem q327 : (Jvm.Cond.laysFinal "RubberStamps$Parser" "RubberStamps$Parser" "stamps" "Ljava/util/ArrayList;") ∈ lw_all := lw_g (lw_at lw_m2 26 rfl) rfl
theorem q328 : (Jvm.Cond.soleField "RubberStamps$Parser" "stamps") ∈ lw_all := lw_g (lw_at lw_m2 27 rfl) rfl
theorem q329 : (Jvm.Cond.laysFinal "RubberStamps$Parser" "RubberStamps$Parser" "words" "Ljava/util/ArrayList;") ∈ lw_all := lw_g (lw_at lw_m2 28 rfl) rfl
theorem q330 : (Jvm.Cond.soleField "RubberStamps$Parser" "words") ∈ lw_all := lw_g (lw_at lw_m2 29 rfl) rfl
theorem q331 : (Jvm.Cond.lays "RubberStamps$Parser" "RubberStamps$Parser" "at" "I") ∈ lw_all := lw_g (lw_at lw_m2 30 rfl) rfl
theorem q332 : (Jvm.Cond.soleField "RubberStamps$Parser" "at") ∈ lw_all := lw_g (lw_at lw_m2 31 rfl) rfl
theorem q333 : (Jvm.Cond.laysFinal "RubberStamps$Parser" "RubberStamps$Parser" "this$0" "LRubberStamps;") ∈ lw_all := lw_g (lw_at lw_m2 32 rfl) rfl
theorem q334 : (Jvm.Cond.soleField "RubberStamps$Parser" "this$0") ∈ lw_all := lw_g (lw_at lw_m2 33 rfl) rfl
theorem q335 : (Jvm.Cond.superclass "RubberStamps$Parser" "java/lang/Object") ∈ lw_all := lw_g (lw_at lw_m2 34 rfl) rfl
theorem q337 : (Jvm.Cond.instanceMethod ({ cls := "RubberStamps$Parser", name := "parse", desc := "()V" } : Jvm.MethodName)) ∈ lw_all := lw_g (lw_at lw_m2 36 rfl) rfl
theorem q338 : (Jvm.Cond.selects "RubberStamps$Parser" ({ cls := "RubberStamps$Parser", name := "parse", desc := "()V" } : Jvm.MethodName) ({ cls := "RubberStamps$Parser", name := "parse", desc := "()V" } : Jvm.MethodName)) ∈ lw_all := lw_g (lw_at lw_m2 37 rfl) rfl
theorem q339 : (Jvm.Cond.code ({ cls := "RubberStamps$Parser", name := "parse", desc := "()V" } : Jvm.MethodName) prog_4_method_6_code (1 : Nat) (Option.none : Option Jvm.ClassFile.FieldType)) ∈ lw_all := lw_g (lw_at lw_m2 38 rfl) rfl
theorem q340 : (Jvm.Cond.methodLink "RubberStamps$Parser" (85 : Nat) ({ cls := "RubberStamps$Parser", name := "item", desc := "()V" } : Jvm.MethodName)) ∈ lw_all := lw_g (lw_at lw_m2 39 rfl) rfl
theorem q341 : (Jvm.Cond.privateMethod ({ cls := "RubberStamps$Parser", name := "item", desc := "()V" } : Jvm.MethodName)) ∈ lw_tbl := lw_at lw_m2 40 rfl
theorem q342 : (Jvm.Cond.instanceMethod ({ cls := "RubberStamps$Parser", name := "item", desc := "()V" } : Jvm.MethodName)) ∈ lw_all := lw_g (lw_at lw_m2 41 rfl) rfl
theorem q343 : (Jvm.Cond.code ({ cls := "RubberStamps$Parser", name := "item", desc := "()V" } : Jvm.MethodName) prog_4_method_5_code (3 : Nat) (Option.none : Option Jvm.ClassFile.FieldType)) ∈ lw_all := lw_g (lw_at lw_m2 42 rfl) rfl
theorem q344 : (Jvm.Cond.methodLink "RubberStamps$Parser" (44 : Nat) ({ cls := "RubberStamps$Parser", name := "isAt", desc := "(CC)Z" } : Jvm.MethodName)) ∈ lw_all := lw_g (lw_at lw_m2 43 rfl) rfl
theorem q345 : (Jvm.Cond.privateMethod ({ cls := "RubberStamps$Parser", name := "isAt", desc := "(CC)Z" } : Jvm.MethodName)) ∈ lw_tbl := lw_at lw_m2 44 rfl
theorem q346 : (Jvm.Cond.instanceMethod ({ cls := "RubberStamps$Parser", name := "isAt", desc := "(CC)Z" } : Jvm.MethodName)) ∈ lw_all := lw_g (lw_at lw_m2 45 rfl) rfl
theorem q347 : (Jvm.Cond.code ({ cls := "RubberStamps$Parser", name := "isAt", desc := "(CC)Z" } : Jvm.MethodName) prog_4_method_2_code (3 : Nat) (Option.some Jvm.ClassFile.FieldType.boolean)) ∈ lw_all := lw_g (lw_at lw_m2 46 rfl) rfl
theorem q348 : (Jvm.Cond.methodLink "RubberStamps$Parser" (64 : Nat) ({ cls := "java/util/ArrayList", name := "size", desc := "()I" } : Jvm.MethodName)) ∈ lw_all := lw_g (lw_at lw_m2 47 rfl) rfl
theorem q352 : (Jvm.Cond.methodLink "RubberStamps$Parser" (48 : Nat) ({ cls := "RubberStamps$Parser", name := "check", desc := "(Z)V" } : Jvm.MethodName)) ∈ lw_all := lw_g (lw_at lw_m2 51 rfl) rfl
theorem q353 : (Jvm.Cond.privateMethod ({ cls := "RubberStamps$Parser", name := "check", desc := "(Z)V" } : Jvm.MethodName)) ∈ lw_tbl := lw_at lw_m2 52 rfl
theorem q354 : (Jvm.Cond.instanceMethod ({ cls := "RubberStamps$Parser", name := "check", desc := "(Z)V" } : Jvm.MethodName)) ∈ lw_all := lw_g (lw_at lw_m2 53 rfl) rfl
theorem q355 : (Jvm.Cond.code ({ cls := "RubberStamps$Parser", name := "check", desc := "(Z)V" } : Jvm.MethodName) prog_4_method_3_code (2 : Nat) (Option.none : Option Jvm.ClassFile.FieldType)) ∈ lw_all := lw_g (lw_at lw_m2 54 rfl) rfl
theorem q356 : (Jvm.Cond.classLink "RubberStamps$Parser" (36 : Nat) "RubberStamps$SyntaxError") ∈ lw_all := lw_g (lw_at lw_m2 55 rfl) rfl
theorem q397 : (Jvm.Cond.methodLink "RubberStamps$Parser" (38 : Nat) ({ cls := "RubberStamps$SyntaxError", name := "<init>", desc := "(I)V" } : Jvm.MethodName)) ∈ lw_all := lw_g (lw_at lw_m2 96 rfl) rfl
theorem q423 : (Jvm.Cond.classLink "RubberStamps$Parser" (67 : Nat) "RubberStamps$Stamp") ∈ lw_all := lw_g (lw_at lw_m2 122 rfl) rfl
theorem q425 : (Jvm.Cond.methodLink "RubberStamps$Parser" (69 : Nat) ({ cls := "RubberStamps$Parser", name := "letters", desc := "(I)Ljava/lang/String;" } : Jvm.MethodName)) ∈ lw_all := lw_g (lw_at lw_m2 124 rfl) rfl
theorem q426 : (Jvm.Cond.privateMethod ({ cls := "RubberStamps$Parser", name := "letters", desc := "(I)Ljava/lang/String;" } : Jvm.MethodName)) ∈ lw_tbl := lw_at lw_m2 125 rfl
theorem q427 : (Jvm.Cond.instanceMethod ({ cls := "RubberStamps$Parser", name := "letters", desc := "(I)Ljava/lang/String;" } : Jvm.MethodName)) ∈ lw_all := lw_g (lw_at lw_m2 126 rfl) rfl
theorem q428 : (Jvm.Cond.code ({ cls := "RubberStamps$Parser", name := "letters", desc := "(I)Ljava/lang/String;" } : Jvm.MethodName) prog_4_method_4_code (3 : Nat) (Option.some (Jvm.ClassFile.FieldType.object "java/lang/String"))) ∈ lw_all := lw_g (lw_at lw_m2 127 rfl) rfl
theorem q429 : (Jvm.Cond.classLink "RubberStamps$Parser" (41 : Nat) "java/lang/StringBuilder") ∈ lw_all := lw_g (lw_at lw_m2 128 rfl) rfl
theorem q431 : (Jvm.Cond.methodLink "RubberStamps$Parser" (43 : Nat) ({ cls := "java/lang/StringBuilder", name := "<init>", desc := "()V" } : Jvm.MethodName)) ∈ lw_all := lw_g (lw_at lw_m2 130 rfl) rfl
theorem q460 : (Jvm.Cond.methodLink "RubberStamps$Parser" (52 : Nat) ({ cls := "java/lang/StringBuilder", name := "length", desc := "()I" } : Jvm.MethodName)) ∈ lw_all := lw_g (lw_at lw_m2 159 rfl) rfl
theorem q467 : (Jvm.Cond.methodLink "RubberStamps$Parser" (56 : Nat) ({ cls := "java/lang/StringBuilder", name := "append", desc := "(C)Ljava/lang/StringBuilder;" } : Jvm.MethodName)) ∈ lw_all := lw_g (lw_at lw_m2 166 rfl) rfl
theorem q562 : (Jvm.Cond.methodLink "RubberStamps$Parser" (60 : Nat) ({ cls := "java/lang/StringBuilder", name := "toString", desc := "()Ljava/lang/String;" } : Jvm.MethodName)) ∈ lw_all := lw_g (lw_at lw_m3 21 rfl) rfl
theorem q716 : (Jvm.Cond.methodLink "RubberStamps$Parser" (73 : Nat) ({ cls := "RubberStamps$Stamp", name := "<init>", desc := "(Ljava/lang/String;)V" } : Jvm.MethodName)) ∈ lw_all := lw_g (lw_at lw_m3 175 rfl) rfl
theorem q759 : (Jvm.Cond.methodLink "RubberStamps$Parser" (76 : Nat) ({ cls := "java/util/ArrayList", name := "add", desc := "(Ljava/lang/Object;)Z" } : Jvm.MethodName)) ∈ lw_all := lw_g (lw_at lw_m3 218 rfl) rfl
theorem q785 : (Jvm.Cond.selects "RubberStamps$Parser" ({ cls := "java/lang/Object", name := "getClass", desc := "()Ljava/lang/Class;" } : Jvm.MethodName) ({ cls := "java/lang/Object", name := "getClass", desc := "()Ljava/lang/Class;" } : Jvm.MethodName)) ∈ lw_all := lw_g (lw_at lw_m4 4 rfl) rfl
theorem q809 : (Jvm.Cond.classLink "RubberStamps$Parser" (80 : Nat) "RubberStamps$Word") ∈ lw_all := lw_g (lw_at lw_m4 28 rfl) rfl
theorem q811 : (Jvm.Cond.methodLink "RubberStamps$Parser" (82 : Nat) ({ cls := "RubberStamps$Word", name := "<init>", desc := "(Ljava/lang/String;I)V" } : Jvm.MethodName)) ∈ lw_all := lw_g (lw_at lw_m4 30 rfl) rfl
theorem q1810 : (Jvm.Cond.castable "RubberStamps$Parser" "java/lang/Object") ∈ lw_tbl := lw_at lw_m8 69 rfl
theorem in_X7 : ∀ w ∈ wsX70, w ∈ lw_all := lw_in wsX70 [327, 329, 331, 333] (by decide +kernel) (by decide +kernel)
/-! RubberStamps$SyntaxError -/
set_option maxRecDepth 100000
def RX8 : String := "RubberStamps$SyntaxError"
def TX8 : u_T := fun k => match k with
  | 0 => ("java/lang/Throwable", "cause", "Ljava/lang/Throwable;", false)
  | 1 => ("java/lang/Throwable", "stackTrace", "[Ljava/lang/StackTraceElement;", false)
  | 2 => ("java/lang/Throwable", "suppressedExceptions", "Ljava/util/List;", false)
  | 3 => ("java/lang/Throwable", "detailMessage", "Ljava/lang/String;", false)
  | 4 => ("java/lang/Throwable", "backtrace", "Ljava/lang/Object;", false)
  | 5 => ("java/lang/Throwable", "depth", "I", false)
  | _ => ("RubberStamps$SyntaxError", "position", "I", true)
def tyX8 : Nat → FieldType := fun k => match k with
  | 0 => .object "java/lang/Throwable"
  | 1 => .array (.object "java/lang/StackTraceElement")
  | 2 => .object "java/util/List"
  | 3 => .object "java/lang/String"
  | 4 => .object "java/lang/Object"
  | 5 => .int
  | _ => .int
abbrev wsX80 : List Cond := u_ws RX8 TX8 7
theorem nmX8 : ∀ a, a < 7 → ∀ b, b < 7 → a ≠ b → (TX8 a).2.1 ≠ (TX8 b).2.1 := by decide +kernel
theorem tyX8_ok : ∀ k, k < 7 → parseFieldDescriptor (TX8 k).2.2.1 = some (tyX8 k) := by decide +kernel
abbrev cX8_init : ByteArray := prog_8_method_1_code
def yX8_init : MethodName := ⟨RX8, "<init>", "(I)V"⟩
def dkwX8_init_0 : List UInt8 := [42, 1, 1, 3, 3, 183, 0, 1, 42, 27, 181, 0, 7, 177]
abbrev dktX8_init_0 : List UInt8 := dkwX8_init_0 ++ []
theorem dksX8_init_0 : cX8_init.data.toList.drop 0 = dktX8_init_0 := by decide +kernel
theorem dX8_init_0 : decode cX8_init 0 = .ok (.aload_n 0, 1) := dk_42 (dk_at dksX8_init_0 0 rfl rfl)
theorem dX8_init_1 : decode cX8_init 1 = .ok (.aconst_null, 1) := dk_1 (dk_at dksX8_init_0 1 rfl rfl)
theorem dX8_init_2 : decode cX8_init 2 = .ok (.aconst_null, 1) := dk_1 (dk_at dksX8_init_0 2 rfl rfl)
theorem dX8_init_3 : decode cX8_init 3 = .ok (.iconst 0, 1) := dk_3 (dk_at dksX8_init_0 3 rfl rfl)
theorem dX8_init_4 : decode cX8_init 4 = .ok (.iconst 0, 1) := dk_3 (dk_at dksX8_init_0 4 rfl rfl)
theorem dX8_init_5 : decode cX8_init 5 = .ok (.invokespecial 1, 3) := dk_183 0 1 (dk_at dksX8_init_0 5 rfl rfl)
theorem dX8_init_8 : decode cX8_init 8 = .ok (.aload_n 0, 1) := dk_42 (dk_at dksX8_init_0 8 rfl rfl)
theorem dX8_init_9 : decode cX8_init 9 = .ok (.iload_n 1, 1) := dk_27 (dk_at dksX8_init_0 9 rfl rfl)
theorem dX8_init_10 : decode cX8_init 10 = .ok (.putfield 7, 3) := dk_181 0 7 (dk_at dksX8_init_0 10 rfl rfl)
theorem dX8_init_13 : decode cX8_init 13 = .ok (.return_, 1) := dk_177 (dk_at dksX8_init_0 13 rfl rfl)
theorem q79 : (Jvm.Cond.initialized "RubberStamps$SyntaxError") ∈ lw_all := lw_g (lw_at lw_m1 18 rfl) rfl
theorem q357 : (Jvm.Cond.instantiable "RubberStamps$SyntaxError" (7 : Nat)) ∈ lw_all := lw_g (lw_at lw_m2 56 rfl) rfl
theorem q358 : (Jvm.Cond.castable "RubberStamps$SyntaxError" "RubberStamps$SyntaxError") ∈ lw_tbl := lw_at lw_m2 57 rfl
theorem q363 : (Jvm.Cond.selects "RubberStamps$SyntaxError" ({ cls := "java/lang/Throwable", name := "fillInStackTrace", desc := "(I)Ljava/lang/Throwable;" } : Jvm.MethodName) ({ cls := "java/lang/Throwable", name := "fillInStackTrace", desc := "(I)Ljava/lang/Throwable;" } : Jvm.MethodName)) ∈ lw_all := lw_g (lw_at lw_m2 62 rfl) rfl
theorem q364 : (Jvm.Cond.selects "RubberStamps$SyntaxError" ({ cls := "java/lang/Throwable", name := "fillInStackTrace", desc := "()Ljava/lang/Throwable;" } : Jvm.MethodName) ({ cls := "java/lang/Throwable", name := "fillInStackTrace", desc := "()Ljava/lang/Throwable;" } : Jvm.MethodName)) ∈ lw_all := lw_g (lw_at lw_m2 63 rfl) rfl
theorem q365 : (Jvm.Cond.lays "RubberStamps$SyntaxError" "java/lang/Throwable" "cause" "Ljava/lang/Throwable;") ∈ lw_all := lw_g (lw_at lw_m2 64 rfl) rfl
theorem q367 : (Jvm.Cond.lays "RubberStamps$SyntaxError" "java/lang/Throwable" "stackTrace" "[Ljava/lang/StackTraceElement;") ∈ lw_all := lw_g (lw_at lw_m2 66 rfl) rfl
theorem q369 : (Jvm.Cond.lays "RubberStamps$SyntaxError" "java/lang/Throwable" "suppressedExceptions" "Ljava/util/List;") ∈ lw_all := lw_g (lw_at lw_m2 68 rfl) rfl
theorem q371 : (Jvm.Cond.lays "RubberStamps$SyntaxError" "java/lang/Throwable" "detailMessage" "Ljava/lang/String;") ∈ lw_all := lw_g (lw_at lw_m2 70 rfl) rfl
theorem q373 : (Jvm.Cond.lays "RubberStamps$SyntaxError" "java/lang/Throwable" "backtrace" "Ljava/lang/Object;") ∈ lw_all := lw_g (lw_at lw_m2 72 rfl) rfl
theorem q398 : (Jvm.Cond.instanceMethod ({ cls := "RubberStamps$SyntaxError", name := "<init>", desc := "(I)V" } : Jvm.MethodName)) ∈ lw_all := lw_g (lw_at lw_m2 97 rfl) rfl
theorem q399 : (Jvm.Cond.code ({ cls := "RubberStamps$SyntaxError", name := "<init>", desc := "(I)V" } : Jvm.MethodName) prog_8_method_1_code (2 : Nat) (Option.none : Option Jvm.ClassFile.FieldType)) ∈ lw_all := lw_g (lw_at lw_m2 98 rfl) rfl
theorem q400 : (Jvm.Cond.methodLink "RubberStamps$SyntaxError" (1 : Nat) ({ cls := "java/lang/Exception", name := "<init>", desc := "(Ljava/lang/String;Ljava/lang/Throwable;ZZ)V" } : Jvm.MethodName)) ∈ lw_all := lw_g (lw_at lw_m2 99 rfl) rfl
theorem q406 : (Jvm.Cond.fieldLink "RubberStamps$SyntaxError" (7 : Nat) "RubberStamps$SyntaxError" "position" "I") ∈ lw_all := lw_g (lw_at lw_m2 105 rfl) rfl
theorem q413 : (Jvm.Cond.laysFinal "RubberStamps$SyntaxError" "RubberStamps$SyntaxError" "position" "I") ∈ lw_all := lw_g (lw_at lw_m2 112 rfl) rfl
theorem q414 : (Jvm.Cond.soleField "RubberStamps$SyntaxError" "position") ∈ lw_all := lw_g (lw_at lw_m2 113 rfl) rfl
theorem q419 : (Jvm.Cond.lays "RubberStamps$SyntaxError" "java/lang/Throwable" "depth" "I") ∈ lw_all := lw_g (lw_at lw_m2 118 rfl) rfl
theorem q422 : (Jvm.Cond.superclass "RubberStamps$SyntaxError" "java/lang/Exception") ∈ lw_all := lw_g (lw_at lw_m2 121 rfl) rfl
theorem q789 : (Jvm.Cond.selects "RubberStamps$SyntaxError" ({ cls := "java/lang/Object", name := "getClass", desc := "()Ljava/lang/Class;" } : Jvm.MethodName) ({ cls := "java/lang/Object", name := "getClass", desc := "()Ljava/lang/Class;" } : Jvm.MethodName)) ∈ lw_all := lw_g (lw_at lw_m4 8 rfl) rfl
theorem q1811 : (Jvm.Cond.castable "RubberStamps$SyntaxError" "java/lang/Object") ∈ lw_tbl := lw_at lw_m8 70 rfl
theorem in_X8 : ∀ w ∈ wsX80, w ∈ lw_all := lw_in wsX80 [365, 367, 369, 371, 373, 419, 413] (by decide +kernel) (by decide +kernel)
/-! RubberStamps$Stamp -/
set_option maxRecDepth 100000
def RX9 : String := "RubberStamps$Stamp"
def TX9 : u_T := fun k => match k with
  | 0 => ("RubberStamps$Stamp", "letters", "Ljava/lang/String;", true)
  | _ => ("RubberStamps$Stamp", "turned", "Ljava/lang/String;", true)
def tyX9 : Nat → FieldType := fun k => match k with
  | 0 => .object "java/lang/String"
  | _ => .object "java/lang/String"
abbrev wsX90 : List Cond := u_ws RX9 TX9 2
theorem nmX9 : ∀ a, a < 2 → ∀ b, b < 2 → a ≠ b → (TX9 a).2.1 ≠ (TX9 b).2.1 := by decide +kernel
theorem tyX9_ok : ∀ k, k < 2 → parseFieldDescriptor (TX9 k).2.2.1 = some (tyX9 k) := by decide +kernel
abbrev cX9_init : ByteArray := prog_6_method_1_code
def yX9_init : MethodName := ⟨RX9, "<init>", "(Ljava/lang/String;)V"⟩
def dkwX9_init_0 : List UInt8 := [42, 183, 0, 1, 42, 43, 181, 0, 7, 42, 43, 184, 0, 13, 181, 0, 19, 177]
abbrev dktX9_init_0 : List UInt8 := dkwX9_init_0 ++ []
theorem dksX9_init_0 : cX9_init.data.toList.drop 0 = dktX9_init_0 := by decide +kernel
theorem dX9_init_0 : decode cX9_init 0 = .ok (.aload_n 0, 1) := dk_42 (dk_at dksX9_init_0 0 rfl rfl)
theorem dX9_init_1 : decode cX9_init 1 = .ok (.invokespecial 1, 3) := dk_183 0 1 (dk_at dksX9_init_0 1 rfl rfl)
theorem dX9_init_4 : decode cX9_init 4 = .ok (.aload_n 0, 1) := dk_42 (dk_at dksX9_init_0 4 rfl rfl)
theorem dX9_init_5 : decode cX9_init 5 = .ok (.aload_n 1, 1) := dk_43 (dk_at dksX9_init_0 5 rfl rfl)
theorem dX9_init_6 : decode cX9_init 6 = .ok (.putfield 7, 3) := dk_181 0 7 (dk_at dksX9_init_0 6 rfl rfl)
theorem dX9_init_9 : decode cX9_init 9 = .ok (.aload_n 0, 1) := dk_42 (dk_at dksX9_init_0 9 rfl rfl)
theorem dX9_init_10 : decode cX9_init 10 = .ok (.aload_n 1, 1) := dk_43 (dk_at dksX9_init_0 10 rfl rfl)
theorem dX9_init_11 : decode cX9_init 11 = .ok (.invokestatic 13, 3) := dk_184 0 13 (dk_at dksX9_init_0 11 rfl rfl)
theorem dX9_init_14 : decode cX9_init 14 = .ok (.putfield 19, 3) := dk_181 0 19 (dk_at dksX9_init_0 14 rfl rfl)
theorem dX9_init_17 : decode cX9_init 17 = .ok (.return_, 1) := dk_177 (dk_at dksX9_init_0 17 rfl rfl)
theorem q80 : (Jvm.Cond.initialized "RubberStamps$Stamp") ∈ lw_all := lw_g (lw_at lw_m1 19 rfl) rfl
theorem q424 : (Jvm.Cond.instantiable "RubberStamps$Stamp" (2 : Nat)) ∈ lw_all := lw_g (lw_at lw_m2 123 rfl) rfl
theorem q717 : (Jvm.Cond.instanceMethod ({ cls := "RubberStamps$Stamp", name := "<init>", desc := "(Ljava/lang/String;)V" } : Jvm.MethodName)) ∈ lw_all := lw_g (lw_at lw_m3 176 rfl) rfl
theorem q718 : (Jvm.Cond.code ({ cls := "RubberStamps$Stamp", name := "<init>", desc := "(Ljava/lang/String;)V" } : Jvm.MethodName) prog_6_method_1_code (2 : Nat) (Option.none : Option Jvm.ClassFile.FieldType)) ∈ lw_all := lw_g (lw_at lw_m3 177 rfl) rfl
theorem q719 : (Jvm.Cond.methodLink "RubberStamps$Stamp" (1 : Nat) ({ cls := "java/lang/Object", name := "<init>", desc := "()V" } : Jvm.MethodName)) ∈ lw_all := lw_g (lw_at lw_m3 178 rfl) rfl
theorem q720 : (Jvm.Cond.methodLinkNest "RubberStamps$Stamp" (13 : Nat) ({ cls := "RubberStamps", name := "turned", desc := "(Ljava/lang/String;)Ljava/lang/String;" } : Jvm.MethodName) "RubberStamps") ∈ lw_tbl := lw_at lw_m3 179 rfl
theorem q746 : (Jvm.Cond.fieldLink "RubberStamps$Stamp" (7 : Nat) "RubberStamps$Stamp" "letters" "Ljava/lang/String;") ∈ lw_all := lw_g (lw_at lw_m3 205 rfl) rfl
theorem q750 : (Jvm.Cond.fieldLink "RubberStamps$Stamp" (19 : Nat) "RubberStamps$Stamp" "turned" "Ljava/lang/String;") ∈ lw_all := lw_g (lw_at lw_m3 209 rfl) rfl
theorem q754 : (Jvm.Cond.laysFinal "RubberStamps$Stamp" "RubberStamps$Stamp" "letters" "Ljava/lang/String;") ∈ lw_all := lw_g (lw_at lw_m3 213 rfl) rfl
theorem q755 : (Jvm.Cond.soleField "RubberStamps$Stamp" "letters") ∈ lw_all := lw_g (lw_at lw_m3 214 rfl) rfl
theorem q756 : (Jvm.Cond.laysFinal "RubberStamps$Stamp" "RubberStamps$Stamp" "turned" "Ljava/lang/String;") ∈ lw_all := lw_g (lw_at lw_m3 215 rfl) rfl
theorem q757 : (Jvm.Cond.soleField "RubberStamps$Stamp" "turned") ∈ lw_all := lw_g (lw_at lw_m3 216 rfl) rfl
theorem q758 : (Jvm.Cond.superclass "RubberStamps$Stamp" "java/lang/Object") ∈ lw_all := lw_g (lw_at lw_m3 217 rfl) rfl
theorem q787 : (Jvm.Cond.selects "RubberStamps$Stamp" ({ cls := "java/lang/Object", name := "getClass", desc := "()Ljava/lang/Class;" } : Jvm.MethodName) ({ cls := "java/lang/Object", name := "getClass", desc := "()Ljava/lang/Class;" } : Jvm.MethodName)) ∈ lw_all := lw_g (lw_at lw_m4 6 rfl) rfl
theorem q1812 : (Jvm.Cond.castable "RubberStamps$Stamp" "java/lang/Object") ∈ lw_tbl := lw_at lw_m8 71 rfl
theorem in_X9 : ∀ w ∈ wsX90, w ∈ lw_all := lw_in wsX90 [754, 756] (by decide +kernel) (by decide +kernel)
/-! RubberStamps$Word -/
set_option maxRecDepth 100000
def RX10 : String := "RubberStamps$Word"
def TX10 : u_T := fun k => match k with
  | 0 => ("RubberStamps$Word", "letters", "Ljava/lang/String;", true)
  | _ => ("RubberStamps$Word", "color", "I", false)
def tyX10 : Nat → FieldType := fun k => match k with
  | 0 => .object "java/lang/String"
  | _ => .int
abbrev wsX100 : List Cond := u_ws RX10 TX10 2
theorem nmX10 : ∀ a, a < 2 → ∀ b, b < 2 → a ≠ b → (TX10 a).2.1 ≠ (TX10 b).2.1 := by decide +kernel
theorem tyX10_ok : ∀ k, k < 2 → parseFieldDescriptor (TX10 k).2.2.1 = some (tyX10 k) := by decide +kernel
abbrev cX10_init : ByteArray := prog_9_method_1_code
def yX10_init : MethodName := ⟨RX10, "<init>", "(Ljava/lang/String;I)V"⟩
def dkwX10_init_0 : List UInt8 := [42, 183, 0, 1, 42, 43, 181, 0, 7, 42, 28, 181, 0, 13, 177]
abbrev dktX10_init_0 : List UInt8 := dkwX10_init_0 ++ []
theorem dksX10_init_0 : cX10_init.data.toList.drop 0 = dktX10_init_0 := by decide +kernel
theorem dX10_init_0 : decode cX10_init 0 = .ok (.aload_n 0, 1) := dk_42 (dk_at dksX10_init_0 0 rfl rfl)
theorem dX10_init_1 : decode cX10_init 1 = .ok (.invokespecial 1, 3) := dk_183 0 1 (dk_at dksX10_init_0 1 rfl rfl)
theorem dX10_init_4 : decode cX10_init 4 = .ok (.aload_n 0, 1) := dk_42 (dk_at dksX10_init_0 4 rfl rfl)
theorem dX10_init_5 : decode cX10_init 5 = .ok (.aload_n 1, 1) := dk_43 (dk_at dksX10_init_0 5 rfl rfl)
theorem dX10_init_6 : decode cX10_init 6 = .ok (.putfield 7, 3) := dk_181 0 7 (dk_at dksX10_init_0 6 rfl rfl)
theorem dX10_init_9 : decode cX10_init 9 = .ok (.aload_n 0, 1) := dk_42 (dk_at dksX10_init_0 9 rfl rfl)
theorem dX10_init_10 : decode cX10_init 10 = .ok (.iload_n 2, 1) := dk_28 (dk_at dksX10_init_0 10 rfl rfl)
theorem dX10_init_11 : decode cX10_init 11 = .ok (.putfield 13, 3) := dk_181 0 13 (dk_at dksX10_init_0 11 rfl rfl)
theorem dX10_init_14 : decode cX10_init 14 = .ok (.return_, 1) := dk_177 (dk_at dksX10_init_0 14 rfl rfl)
abbrev cX10_copy : ByteArray := prog_9_method_2_code
def yX10_copy : MethodName := ⟨RX10, "copy", "()LRubberStamps$Word;"⟩
def dkwX10_copy_0 : List UInt8 := [187, 0, 8, 89, 42, 180, 0, 7, 42, 180, 0, 13, 183, 0, 17, 176]
abbrev dktX10_copy_0 : List UInt8 := dkwX10_copy_0 ++ []
theorem dksX10_copy_0 : cX10_copy.data.toList.drop 0 = dktX10_copy_0 := by decide +kernel
theorem dX10_copy_0 : decode cX10_copy 0 = .ok (.new 8, 3) := dk_187 0 8 (dk_at dksX10_copy_0 0 rfl rfl)
theorem dX10_copy_3 : decode cX10_copy 3 = .ok (.dup, 1) := dk_89 (dk_at dksX10_copy_0 3 rfl rfl)
theorem dX10_copy_4 : decode cX10_copy 4 = .ok (.aload_n 0, 1) := dk_42 (dk_at dksX10_copy_0 4 rfl rfl)
theorem dX10_copy_5 : decode cX10_copy 5 = .ok (.getfield 7, 3) := dk_180 0 7 (dk_at dksX10_copy_0 5 rfl rfl)
theorem dX10_copy_8 : decode cX10_copy 8 = .ok (.aload_n 0, 1) := dk_42 (dk_at dksX10_copy_0 8 rfl rfl)
theorem dX10_copy_9 : decode cX10_copy 9 = .ok (.getfield 13, 3) := dk_180 0 13 (dk_at dksX10_copy_0 9 rfl rfl)
theorem dX10_copy_12 : decode cX10_copy 12 = .ok (.invokespecial 17, 3) := dk_183 0 17 (dk_at dksX10_copy_0 12 rfl rfl)
theorem dX10_copy_15 : decode cX10_copy 15 = .ok (.areturn, 1) := dk_176 (dk_at dksX10_copy_0 15 rfl rfl)
theorem q92 : (Jvm.Cond.initialized "RubberStamps$Word") ∈ lw_all := lw_g (lw_at lw_m1 31 rfl) rfl
theorem q790 : (Jvm.Cond.selects "RubberStamps$Word" ({ cls := "java/lang/Object", name := "getClass", desc := "()Ljava/lang/Class;" } : Jvm.MethodName) ({ cls := "java/lang/Object", name := "getClass", desc := "()Ljava/lang/Class;" } : Jvm.MethodName)) ∈ lw_all := lw_g (lw_at lw_m4 9 rfl) rfl
theorem q810 : (Jvm.Cond.instantiable "RubberStamps$Word" (2 : Nat)) ∈ lw_all := lw_g (lw_at lw_m4 29 rfl) rfl
theorem q812 : (Jvm.Cond.instanceMethod ({ cls := "RubberStamps$Word", name := "<init>", desc := "(Ljava/lang/String;I)V" } : Jvm.MethodName)) ∈ lw_all := lw_g (lw_at lw_m4 31 rfl) rfl
theorem q813 : (Jvm.Cond.code ({ cls := "RubberStamps$Word", name := "<init>", desc := "(Ljava/lang/String;I)V" } : Jvm.MethodName) prog_9_method_1_code (3 : Nat) (Option.none : Option Jvm.ClassFile.FieldType)) ∈ lw_all := lw_g (lw_at lw_m4 32 rfl) rfl
theorem q814 : (Jvm.Cond.methodLink "RubberStamps$Word" (1 : Nat) ({ cls := "java/lang/Object", name := "<init>", desc := "()V" } : Jvm.MethodName)) ∈ lw_all := lw_g (lw_at lw_m4 33 rfl) rfl
theorem q815 : (Jvm.Cond.fieldLink "RubberStamps$Word" (7 : Nat) "RubberStamps$Word" "letters" "Ljava/lang/String;") ∈ lw_all := lw_g (lw_at lw_m4 34 rfl) rfl
theorem q818 : (Jvm.Cond.fieldLink "RubberStamps$Word" (13 : Nat) "RubberStamps$Word" "color" "I") ∈ lw_all := lw_g (lw_at lw_m4 37 rfl) rfl
theorem q821 : (Jvm.Cond.laysFinal "RubberStamps$Word" "RubberStamps$Word" "letters" "Ljava/lang/String;") ∈ lw_all := lw_g (lw_at lw_m4 40 rfl) rfl
theorem q822 : (Jvm.Cond.soleField "RubberStamps$Word" "letters") ∈ lw_all := lw_g (lw_at lw_m4 41 rfl) rfl
theorem q823 : (Jvm.Cond.lays "RubberStamps$Word" "RubberStamps$Word" "color" "I") ∈ lw_all := lw_g (lw_at lw_m4 42 rfl) rfl
theorem q824 : (Jvm.Cond.soleField "RubberStamps$Word" "color") ∈ lw_all := lw_g (lw_at lw_m4 43 rfl) rfl
theorem q825 : (Jvm.Cond.superclass "RubberStamps$Word" "java/lang/Object") ∈ lw_all := lw_g (lw_at lw_m4 44 rfl) rfl
theorem q902 : (Jvm.Cond.instanceMethod ({ cls := "RubberStamps$Word", name := "copy", desc := "()LRubberStamps$Word;" } : Jvm.MethodName)) ∈ lw_all := lw_g (lw_at lw_m4 121 rfl) rfl
theorem q903 : (Jvm.Cond.selects "RubberStamps$Word" ({ cls := "RubberStamps$Word", name := "copy", desc := "()LRubberStamps$Word;" } : Jvm.MethodName) ({ cls := "RubberStamps$Word", name := "copy", desc := "()LRubberStamps$Word;" } : Jvm.MethodName)) ∈ lw_all := lw_g (lw_at lw_m4 122 rfl) rfl
theorem q904 : (Jvm.Cond.code ({ cls := "RubberStamps$Word", name := "copy", desc := "()LRubberStamps$Word;" } : Jvm.MethodName) prog_9_method_2_code (1 : Nat) (Option.some (Jvm.ClassFile.FieldType.object "RubberStamps$Word"))) ∈ lw_all := lw_g (lw_at lw_m4 123 rfl) rfl
theorem q905 : (Jvm.Cond.classLink "RubberStamps$Word" (8 : Nat) "RubberStamps$Word") ∈ lw_all := lw_g (lw_at lw_m4 124 rfl) rfl
theorem q906 : (Jvm.Cond.methodLink "RubberStamps$Word" (17 : Nat) ({ cls := "RubberStamps$Word", name := "<init>", desc := "(Ljava/lang/String;I)V" } : Jvm.MethodName)) ∈ lw_all := lw_g (lw_at lw_m4 125 rfl) rfl
theorem q1815 : (Jvm.Cond.castable "RubberStamps$Word" "java/lang/Object") ∈ lw_tbl := lw_at lw_m8 74 rfl
theorem in_X10 : ∀ w ∈ wsX100, w ∈ lw_all := lw_in wsX100 [821, 823] (by decide +kernel) (by decide +kernel)
