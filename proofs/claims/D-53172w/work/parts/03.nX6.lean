/-! RubberStampsModel -/
set_option maxRecDepth 100000
def RX6 : String := "RubberStampsModel"
def TX6 : u_T := fun k => match k with
  | 0 => ("RubberStampsModel", "now", "[I", true)
  | 1 => ("RubberStampsModel", "past", "[I", true)
  | 2 => ("RubberStampsModel", "aside", "[I", true)
  | 3 => ("RubberStampsModel", "made", "[I", true)
  | 4 => ("RubberStampsModel", "saved", "I", false)
  | 5 => ("RubberStampsModel", "refusal", "I", false)
  | 6 => ("RubberStampsModel", "text", "[I", true)
  | 7 => ("RubberStampsModel", "length", "I", false)
  | 8 => ("RubberStampsModel", "spot", "I", false)
  | 9 => ("RubberStampsModel", "least", "[I", true)
  | 10 => ("RubberStampsModel", "plan", "[I", true)
  | 11 => ("RubberStampsModel", "planMany", "I", false)
  | 12 => ("RubberStampsModel", "tried", "[I", true)
  | 13 => ("RubberStampsModel", "ahead", "[I", true)
  | 14 => ("RubberStampsModel", "best", "[I", true)
  | 15 => ("RubberStampsModel", "bestCleanings", "I", false)
  | 16 => ("RubberStampsModel", "bestPart", "[I", true)
  | _ => ("RubberStampsModel", "hash", "J", false)
def tyX6 : Nat → FieldType := fun k => match k with
  | 0 => .array .int
  | 1 => .array .int
  | 2 => .array .int
  | 3 => .array .int
  | 4 => .int
  | 5 => .int
  | 6 => .array .int
  | 7 => .int
  | 8 => .int
  | 9 => .array .int
  | 10 => .array .int
  | 11 => .int
  | 12 => .array .int
  | 13 => .array .int
  | 14 => .array .int
  | 15 => .int
  | 16 => .array .int
  | _ => .long
abbrev wsX60 : List Cond := u_ws RX6 TX6 18
set_option maxRecDepth 100000 in
theorem nmX6 : ∀ a, a < 18 → ∀ b, b < 18 → a ≠ b → (TX6 a).2.1 ≠ (TX6 b).2.1 := by decide +kernel
set_option maxRecDepth 100000 in
theorem tyX6_ok : ∀ k, k < 18 → parseFieldDescriptor (TX6 k).2.2.1 = some (tyX6 k) := by decide +kernel
abbrev cX6_init : ByteArray := prog_11_method_1_code
def yX6_init : MethodName := ⟨RX6, "<init>", "()V"⟩
def dkwX6_init_4 : List UInt8 := [181, 0, 40, 42, 180, 0, 7, 5, 16, 100, 79, 42, 180, 0, 7, 6, 8, 79, 177]
abbrev dktX6_init_4 : List UInt8 := dkwX6_init_4 ++ []
def dkwX6_init_3 : List UInt8 := [181, 0, 31, 42, 17, 5, 85, 188, 10, 181, 0, 34, 42, 16, 7, 188, 10, 181, 0, 37, 42, 7, 188, 10]
abbrev dktX6_init_3 : List UInt8 := dkwX6_init_3 ++ dktX6_init_4
def dkwX6_init_2 : List UInt8 := [181, 0, 22, 42, 16, 13, 188, 10, 181, 0, 25, 42, 16, 12, 188, 10, 181, 0, 28, 42, 16, 7, 188, 10]
abbrev dktX6_init_2 : List UInt8 := dkwX6_init_2 ++ dktX6_init_3
def dkwX6_init_1 : List UInt8 := [17, 0, 195, 188, 10, 181, 0, 16, 42, 17, 0, 195, 188, 10, 181, 0, 19, 42, 17, 0, 150, 188, 10]
abbrev dktX6_init_1 : List UInt8 := dkwX6_init_1 ++ dktX6_init_2
def dkwX6_init_0 : List UInt8 := [42, 183, 0, 1, 42, 17, 0, 195, 188, 10, 181, 0, 7, 42, 17, 3, 12, 188, 10, 181, 0, 13, 42]
abbrev dktX6_init_0 : List UInt8 := dkwX6_init_0 ++ dktX6_init_1
theorem dksX6_init_0 : cX6_init.data.toList.drop 0 = dktX6_init_0 := by decide +kernel
theorem dksX6_init_1 : cX6_init.data.toList.drop 23 = dktX6_init_1 := dk_seg dksX6_init_0 23 rfl rfl
theorem dksX6_init_2 : cX6_init.data.toList.drop 46 = dktX6_init_2 := dk_seg dksX6_init_1 23 rfl rfl
theorem dksX6_init_3 : cX6_init.data.toList.drop 70 = dktX6_init_3 := dk_seg dksX6_init_2 24 rfl rfl
theorem dksX6_init_4 : cX6_init.data.toList.drop 94 = dktX6_init_4 := dk_seg dksX6_init_3 24 rfl rfl
theorem dX6_init_0 : decode cX6_init 0 = .ok (.aload_n 0, 1) := dk_42 (dk_at dksX6_init_0 0 rfl rfl)
theorem dX6_init_1 : decode cX6_init 1 = .ok (.invokespecial 1, 3) := dk_183 0 1 (dk_at dksX6_init_0 1 rfl rfl)
theorem dX6_init_4 : decode cX6_init 4 = .ok (.aload_n 0, 1) := dk_42 (dk_at dksX6_init_0 4 rfl rfl)
theorem dX6_init_5 : decode cX6_init 5 = .ok (.sipush 195, 3) := dk_17 0 195 (dk_at dksX6_init_0 5 rfl rfl)
theorem dX6_init_8 : decode cX6_init 8 = .ok (.newarray .int, 2) := dk_188_10 (dk_at dksX6_init_0 8 rfl rfl)
theorem dX6_init_10 : decode cX6_init 10 = .ok (.putfield 7, 3) := dk_181 0 7 (dk_at dksX6_init_0 10 rfl rfl)
theorem dX6_init_13 : decode cX6_init 13 = .ok (.aload_n 0, 1) := dk_42 (dk_at dksX6_init_0 13 rfl rfl)
theorem dX6_init_14 : decode cX6_init 14 = .ok (.sipush 780, 3) := dk_17 3 12 (dk_at dksX6_init_0 14 rfl rfl)
theorem dX6_init_17 : decode cX6_init 17 = .ok (.newarray .int, 2) := dk_188_10 (dk_at dksX6_init_0 17 rfl rfl)
theorem dX6_init_19 : decode cX6_init 19 = .ok (.putfield 13, 3) := dk_181 0 13 (dk_at dksX6_init_0 19 rfl rfl)
theorem dX6_init_22 : decode cX6_init 22 = .ok (.aload_n 0, 1) := dk_42 (dk_at dksX6_init_0 22 rfl rfl)
theorem dX6_init_23 : decode cX6_init 23 = .ok (.sipush 195, 3) := dk_17 0 195 (dk_at dksX6_init_1 0 rfl rfl)
theorem dX6_init_26 : decode cX6_init 26 = .ok (.newarray .int, 2) := dk_188_10 (dk_at dksX6_init_1 3 rfl rfl)
theorem dX6_init_28 : decode cX6_init 28 = .ok (.putfield 16, 3) := dk_181 0 16 (dk_at dksX6_init_1 5 rfl rfl)
theorem dX6_init_31 : decode cX6_init 31 = .ok (.aload_n 0, 1) := dk_42 (dk_at dksX6_init_1 8 rfl rfl)
theorem dX6_init_32 : decode cX6_init 32 = .ok (.sipush 195, 3) := dk_17 0 195 (dk_at dksX6_init_1 9 rfl rfl)
theorem dX6_init_35 : decode cX6_init 35 = .ok (.newarray .int, 2) := dk_188_10 (dk_at dksX6_init_1 12 rfl rfl)
theorem dX6_init_37 : decode cX6_init 37 = .ok (.putfield 19, 3) := dk_181 0 19 (dk_at dksX6_init_1 14 rfl rfl)
theorem dX6_init_40 : decode cX6_init 40 = .ok (.aload_n 0, 1) := dk_42 (dk_at dksX6_init_1 17 rfl rfl)
theorem dX6_init_41 : decode cX6_init 41 = .ok (.sipush 150, 3) := dk_17 0 150 (dk_at dksX6_init_1 18 rfl rfl)
theorem dX6_init_44 : decode cX6_init 44 = .ok (.newarray .int, 2) := dk_188_10 (dk_at dksX6_init_1 21 rfl rfl)
theorem dX6_init_46 : decode cX6_init 46 = .ok (.putfield 22, 3) := dk_181 0 22 (dk_at dksX6_init_2 0 rfl rfl)
theorem dX6_init_49 : decode cX6_init 49 = .ok (.aload_n 0, 1) := dk_42 (dk_at dksX6_init_2 3 rfl rfl)
theorem dX6_init_50 : decode cX6_init 50 = .ok (.bipush 13, 2) := dk_16 13 (dk_at dksX6_init_2 4 rfl rfl)
theorem dX6_init_52 : decode cX6_init 52 = .ok (.newarray .int, 2) := dk_188_10 (dk_at dksX6_init_2 6 rfl rfl)
theorem dX6_init_54 : decode cX6_init 54 = .ok (.putfield 25, 3) := dk_181 0 25 (dk_at dksX6_init_2 8 rfl rfl)
theorem dX6_init_57 : decode cX6_init 57 = .ok (.aload_n 0, 1) := dk_42 (dk_at dksX6_init_2 11 rfl rfl)
theorem dX6_init_58 : decode cX6_init 58 = .ok (.bipush 12, 2) := dk_16 12 (dk_at dksX6_init_2 12 rfl rfl)
theorem dX6_init_60 : decode cX6_init 60 = .ok (.newarray .int, 2) := dk_188_10 (dk_at dksX6_init_2 14 rfl rfl)
theorem dX6_init_62 : decode cX6_init 62 = .ok (.putfield 28, 3) := dk_181 0 28 (dk_at dksX6_init_2 16 rfl rfl)
theorem dX6_init_65 : decode cX6_init 65 = .ok (.aload_n 0, 1) := dk_42 (dk_at dksX6_init_2 19 rfl rfl)
theorem dX6_init_66 : decode cX6_init 66 = .ok (.bipush 7, 2) := dk_16 7 (dk_at dksX6_init_2 20 rfl rfl)
theorem dX6_init_68 : decode cX6_init 68 = .ok (.newarray .int, 2) := dk_188_10 (dk_at dksX6_init_2 22 rfl rfl)
theorem dX6_init_70 : decode cX6_init 70 = .ok (.putfield 31, 3) := dk_181 0 31 (dk_at dksX6_init_3 0 rfl rfl)
theorem dX6_init_73 : decode cX6_init 73 = .ok (.aload_n 0, 1) := dk_42 (dk_at dksX6_init_3 3 rfl rfl)
theorem dX6_init_74 : decode cX6_init 74 = .ok (.sipush 1365, 3) := dk_17 5 85 (dk_at dksX6_init_3 4 rfl rfl)
theorem dX6_init_77 : decode cX6_init 77 = .ok (.newarray .int, 2) := dk_188_10 (dk_at dksX6_init_3 7 rfl rfl)
theorem dX6_init_79 : decode cX6_init 79 = .ok (.putfield 34, 3) := dk_181 0 34 (dk_at dksX6_init_3 9 rfl rfl)
theorem dX6_init_82 : decode cX6_init 82 = .ok (.aload_n 0, 1) := dk_42 (dk_at dksX6_init_3 12 rfl rfl)
theorem dX6_init_83 : decode cX6_init 83 = .ok (.bipush 7, 2) := dk_16 7 (dk_at dksX6_init_3 13 rfl rfl)
theorem dX6_init_85 : decode cX6_init 85 = .ok (.newarray .int, 2) := dk_188_10 (dk_at dksX6_init_3 15 rfl rfl)
theorem dX6_init_87 : decode cX6_init 87 = .ok (.putfield 37, 3) := dk_181 0 37 (dk_at dksX6_init_3 17 rfl rfl)
theorem dX6_init_90 : decode cX6_init 90 = .ok (.aload_n 0, 1) := dk_42 (dk_at dksX6_init_3 20 rfl rfl)
theorem dX6_init_91 : decode cX6_init 91 = .ok (.iconst 4, 1) := dk_7 (dk_at dksX6_init_3 21 rfl rfl)
theorem dX6_init_92 : decode cX6_init 92 = .ok (.newarray .int, 2) := dk_188_10 (dk_at dksX6_init_3 22 rfl rfl)
theorem dX6_init_94 : decode cX6_init 94 = .ok (.putfield 40, 3) := dk_181 0 40 (dk_at dksX6_init_4 0 rfl rfl)
theorem dX6_init_97 : decode cX6_init 97 = .ok (.aload_n 0, 1) := dk_42 (dk_at dksX6_init_4 3 rfl rfl)
theorem dX6_init_98 : decode cX6_init 98 = .ok (.getfield 7, 3) := dk_180 0 7 (dk_at dksX6_init_4 4 rfl rfl)
theorem dX6_init_101 : decode cX6_init 101 = .ok (.iconst 2, 1) := dk_5 (dk_at dksX6_init_4 7 rfl rfl)
theorem dX6_init_102 : decode cX6_init 102 = .ok (.bipush 100, 2) := dk_16 100 (dk_at dksX6_init_4 8 rfl rfl)
theorem dX6_init_104 : decode cX6_init 104 = .ok (.iastore, 1) := dk_79 (dk_at dksX6_init_4 10 rfl rfl)
theorem dX6_init_105 : decode cX6_init 105 = .ok (.aload_n 0, 1) := dk_42 (dk_at dksX6_init_4 11 rfl rfl)
theorem dX6_init_106 : decode cX6_init 106 = .ok (.getfield 7, 3) := dk_180 0 7 (dk_at dksX6_init_4 12 rfl rfl)
theorem dX6_init_109 : decode cX6_init 109 = .ok (.iconst 3, 1) := dk_6 (dk_at dksX6_init_4 15 rfl rfl)
theorem dX6_init_110 : decode cX6_init 110 = .ok (.iconst 5, 1) := dk_8 (dk_at dksX6_init_4 16 rfl rfl)
theorem dX6_init_111 : decode cX6_init 111 = .ok (.iastore, 1) := dk_79 (dk_at dksX6_init_4 17 rfl rfl)
theorem dX6_init_112 : decode cX6_init 112 = .ok (.return_, 1) := dk_177 (dk_at dksX6_init_4 18 rfl rfl)
abbrev cX6_thrown : ByteArray := prog_11_method_2_code
def yX6_thrown : MethodName := ⟨RX6, "thrown", "()I"⟩
theorem dX6_thrown_0 : decode cX6_thrown 0 = .ok (.aload_n 0, 1) := by decide +kernel
theorem dX6_thrown_1 : decode cX6_thrown 1 = .ok (.getfield 43, 3) := by decide +kernel
theorem dX6_thrown_4 : decode cX6_thrown 4 = .ok (.ireturn, 1) := by decide +kernel
abbrev cX6_undo : ByteArray := prog_11_method_6_code
def yX6_undo : MethodName := ⟨RX6, "undo", "()I"⟩
def dkwX6_undo_3 : List UInt8 := [180, 0, 47, 172]
abbrev dktX6_undo_3 : List UInt8 := dkwX6_undo_3 ++ []
def dkwX6_undo_2 : List UInt8 := [180, 0, 13, 17, 0, 195, 42, 180, 0, 47, 104, 27, 96, 46, 79, 132, 1, 1, 167, 255, 225, 42]
abbrev dktX6_undo_2 : List UInt8 := dkwX6_undo_2 ++ dktX6_undo_3
def dkwX6_undo_1 : List UInt8 := [180, 0, 47, 4, 100, 181, 0, 47, 3, 60, 27, 17, 0, 195, 162, 0, 30, 42, 180, 0, 7, 27, 42]
abbrev dktX6_undo_1 : List UInt8 := dkwX6_undo_1 ++ dktX6_undo_2
def dkwX6_undo_0 : List UInt8 := [42, 42, 180, 0, 47, 154, 0, 7, 4, 167, 0, 4, 3, 182, 0, 50, 153, 0, 5, 3, 172, 42, 89]
abbrev dktX6_undo_0 : List UInt8 := dkwX6_undo_0 ++ dktX6_undo_1
theorem dksX6_undo_0 : cX6_undo.data.toList.drop 0 = dktX6_undo_0 := by decide +kernel
theorem dksX6_undo_1 : cX6_undo.data.toList.drop 23 = dktX6_undo_1 := dk_seg dksX6_undo_0 23 rfl rfl
theorem dksX6_undo_2 : cX6_undo.data.toList.drop 46 = dktX6_undo_2 := dk_seg dksX6_undo_1 23 rfl rfl
theorem dksX6_undo_3 : cX6_undo.data.toList.drop 68 = dktX6_undo_3 := dk_seg dksX6_undo_2 22 rfl rfl
theorem dX6_undo_0 : decode cX6_undo 0 = .ok (.aload_n 0, 1) := dk_42 (dk_at dksX6_undo_0 0 rfl rfl)
theorem dX6_undo_1 : decode cX6_undo 1 = .ok (.aload_n 0, 1) := dk_42 (dk_at dksX6_undo_0 1 rfl rfl)
theorem dX6_undo_2 : decode cX6_undo 2 = .ok (.getfield 47, 3) := dk_180 0 47 (dk_at dksX6_undo_0 2 rfl rfl)
theorem dX6_undo_5 : decode cX6_undo 5 = .ok (.ifCond .ne 7, 3) := dk_154 0 7 (dk_at dksX6_undo_0 5 rfl rfl)
theorem dX6_undo_8 : decode cX6_undo 8 = .ok (.iconst 1, 1) := dk_4 (dk_at dksX6_undo_0 8 rfl rfl)
theorem dX6_undo_9 : decode cX6_undo 9 = .ok (.goto 4, 3) := dk_167 0 4 (dk_at dksX6_undo_0 9 rfl rfl)
theorem dX6_undo_12 : decode cX6_undo 12 = .ok (.iconst 0, 1) := dk_3 (dk_at dksX6_undo_0 12 rfl rfl)
theorem dX6_undo_13 : decode cX6_undo 13 = .ok (.invokevirtual 50, 3) := dk_182 0 50 (dk_at dksX6_undo_0 13 rfl rfl)
theorem dX6_undo_16 : decode cX6_undo 16 = .ok (.ifCond .eq 5, 3) := dk_153 0 5 (dk_at dksX6_undo_0 16 rfl rfl)
theorem dX6_undo_19 : decode cX6_undo 19 = .ok (.iconst 0, 1) := dk_3 (dk_at dksX6_undo_0 19 rfl rfl)
theorem dX6_undo_20 : decode cX6_undo 20 = .ok (.ireturn, 1) := dk_172 (dk_at dksX6_undo_0 20 rfl rfl)
theorem dX6_undo_21 : decode cX6_undo 21 = .ok (.aload_n 0, 1) := dk_42 (dk_at dksX6_undo_0 21 rfl rfl)
theorem dX6_undo_22 : decode cX6_undo 22 = .ok (.dup, 1) := dk_89 (dk_at dksX6_undo_0 22 rfl rfl)
theorem dX6_undo_23 : decode cX6_undo 23 = .ok (.getfield 47, 3) := dk_180 0 47 (dk_at dksX6_undo_1 0 rfl rfl)
theorem dX6_undo_26 : decode cX6_undo 26 = .ok (.iconst 1, 1) := dk_4 (dk_at dksX6_undo_1 3 rfl rfl)
theorem dX6_undo_27 : decode cX6_undo 27 = .ok (.isub, 1) := dk_100 (dk_at dksX6_undo_1 4 rfl rfl)
theorem dX6_undo_28 : decode cX6_undo 28 = .ok (.putfield 47, 3) := dk_181 0 47 (dk_at dksX6_undo_1 5 rfl rfl)
theorem dX6_undo_31 : decode cX6_undo 31 = .ok (.iconst 0, 1) := dk_3 (dk_at dksX6_undo_1 8 rfl rfl)
theorem dX6_undo_32 : decode cX6_undo 32 = .ok (.istore_n 1, 1) := dk_60 (dk_at dksX6_undo_1 9 rfl rfl)
theorem dX6_undo_33 : decode cX6_undo 33 = .ok (.iload_n 1, 1) := dk_27 (dk_at dksX6_undo_1 10 rfl rfl)
theorem dX6_undo_34 : decode cX6_undo 34 = .ok (.sipush 195, 3) := dk_17 0 195 (dk_at dksX6_undo_1 11 rfl rfl)
theorem dX6_undo_37 : decode cX6_undo 37 = .ok (.if_icmp .ge 30, 3) := dk_162 0 30 (dk_at dksX6_undo_1 14 rfl rfl)
theorem dX6_undo_40 : decode cX6_undo 40 = .ok (.aload_n 0, 1) := dk_42 (dk_at dksX6_undo_1 17 rfl rfl)
theorem dX6_undo_41 : decode cX6_undo 41 = .ok (.getfield 7, 3) := dk_180 0 7 (dk_at dksX6_undo_1 18 rfl rfl)
theorem dX6_undo_44 : decode cX6_undo 44 = .ok (.iload_n 1, 1) := dk_27 (dk_at dksX6_undo_1 21 rfl rfl)
theorem dX6_undo_45 : decode cX6_undo 45 = .ok (.aload_n 0, 1) := dk_42 (dk_at dksX6_undo_1 22 rfl rfl)
theorem dX6_undo_46 : decode cX6_undo 46 = .ok (.getfield 13, 3) := dk_180 0 13 (dk_at dksX6_undo_2 0 rfl rfl)
theorem dX6_undo_49 : decode cX6_undo 49 = .ok (.sipush 195, 3) := dk_17 0 195 (dk_at dksX6_undo_2 3 rfl rfl)
theorem dX6_undo_52 : decode cX6_undo 52 = .ok (.aload_n 0, 1) := dk_42 (dk_at dksX6_undo_2 6 rfl rfl)
theorem dX6_undo_53 : decode cX6_undo 53 = .ok (.getfield 47, 3) := dk_180 0 47 (dk_at dksX6_undo_2 7 rfl rfl)
theorem dX6_undo_56 : decode cX6_undo 56 = .ok (.imul, 1) := dk_104 (dk_at dksX6_undo_2 10 rfl rfl)
theorem dX6_undo_57 : decode cX6_undo 57 = .ok (.iload_n 1, 1) := dk_27 (dk_at dksX6_undo_2 11 rfl rfl)
theorem dX6_undo_58 : decode cX6_undo 58 = .ok (.iadd, 1) := dk_96 (dk_at dksX6_undo_2 12 rfl rfl)
theorem dX6_undo_59 : decode cX6_undo 59 = .ok (.iaload, 1) := dk_46 (dk_at dksX6_undo_2 13 rfl rfl)
theorem dX6_undo_60 : decode cX6_undo 60 = .ok (.iastore, 1) := dk_79 (dk_at dksX6_undo_2 14 rfl rfl)
theorem dX6_undo_61 : decode cX6_undo 61 = .ok (.iinc 1 1, 3) := dk_132 1 1 (dk_at dksX6_undo_2 15 rfl rfl)
theorem dX6_undo_64 : decode cX6_undo 64 = .ok (.goto (-31), 3) := dk_167 255 225 (dk_at dksX6_undo_2 18 rfl rfl)
theorem dX6_undo_67 : decode cX6_undo 67 = .ok (.aload_n 0, 1) := dk_42 (dk_at dksX6_undo_2 21 rfl rfl)
theorem dX6_undo_68 : decode cX6_undo 68 = .ok (.getfield 47, 3) := dk_180 0 47 (dk_at dksX6_undo_3 0 rfl rfl)
theorem dX6_undo_71 : decode cX6_undo 71 = .ok (.ireturn, 1) := dk_172 (dk_at dksX6_undo_3 3 rfl rfl)
abbrev cX6_refused : ByteArray := prog_11_method_3_code
def yX6_refused : MethodName := ⟨RX6, "refused", "(I)Z"⟩
def dkwX6_refused_0 : List UInt8 := [42, 27, 181, 0, 43, 27, 158, 0, 7, 4, 167, 0, 4, 3, 172]
abbrev dktX6_refused_0 : List UInt8 := dkwX6_refused_0 ++ []
theorem dksX6_refused_0 : cX6_refused.data.toList.drop 0 = dktX6_refused_0 := by decide +kernel
theorem dX6_refused_0 : decode cX6_refused 0 = .ok (.aload_n 0, 1) := dk_42 (dk_at dksX6_refused_0 0 rfl rfl)
theorem dX6_refused_1 : decode cX6_refused 1 = .ok (.iload_n 1, 1) := dk_27 (dk_at dksX6_refused_0 1 rfl rfl)
theorem dX6_refused_2 : decode cX6_refused 2 = .ok (.putfield 43, 3) := dk_181 0 43 (dk_at dksX6_refused_0 2 rfl rfl)
theorem dX6_refused_5 : decode cX6_refused 5 = .ok (.iload_n 1, 1) := dk_27 (dk_at dksX6_refused_0 5 rfl rfl)
theorem dX6_refused_6 : decode cX6_refused 6 = .ok (.ifCond .le 7, 3) := dk_158 0 7 (dk_at dksX6_refused_0 6 rfl rfl)
theorem dX6_refused_9 : decode cX6_refused 9 = .ok (.iconst 1, 1) := dk_4 (dk_at dksX6_refused_0 9 rfl rfl)
theorem dX6_refused_10 : decode cX6_refused 10 = .ok (.goto 4, 3) := dk_167 0 4 (dk_at dksX6_refused_0 10 rfl rfl)
theorem dX6_refused_13 : decode cX6_refused 13 = .ok (.iconst 0, 1) := dk_3 (dk_at dksX6_refused_0 13 rfl rfl)
theorem dX6_refused_14 : decode cX6_refused 14 = .ok (.ireturn, 1) := dk_172 (dk_at dksX6_refused_0 14 rfl rfl)
abbrev cX6_append : ByteArray := prog_11_method_18_code
def yX6_append : MethodName := ⟨RX6, "append", "(I)I"⟩
def dkwX6_append_2 : List UInt8 := [27, 79, 42, 89, 180, 0, 72, 4, 96, 181, 0, 72, 42, 180, 0, 72, 172]
abbrev dktX6_append_2 : List UInt8 := dkwX6_append_2 ++ []
def dkwX6_append_1 : List UInt8 := [160, 0, 7, 5, 167, 0, 4, 3, 182, 0, 50, 153, 0, 5, 3, 172, 42, 180, 0, 22, 42, 180, 0, 72]
abbrev dktX6_append_1 : List UInt8 := dkwX6_append_1 ++ dktX6_append_2
def dkwX6_append_0 : List UInt8 := [42, 27, 3, 16, 127, 184, 0, 54, 154, 0, 7, 4, 167, 0, 18, 42, 180, 0, 72, 17, 0, 150]
abbrev dktX6_append_0 : List UInt8 := dkwX6_append_0 ++ dktX6_append_1
theorem dksX6_append_0 : cX6_append.data.toList.drop 0 = dktX6_append_0 := by decide +kernel
theorem dksX6_append_1 : cX6_append.data.toList.drop 22 = dktX6_append_1 := dk_seg dksX6_append_0 22 rfl rfl
theorem dksX6_append_2 : cX6_append.data.toList.drop 46 = dktX6_append_2 := dk_seg dksX6_append_1 24 rfl rfl
theorem dX6_append_0 : decode cX6_append 0 = .ok (.aload_n 0, 1) := dk_42 (dk_at dksX6_append_0 0 rfl rfl)
theorem dX6_append_1 : decode cX6_append 1 = .ok (.iload_n 1, 1) := dk_27 (dk_at dksX6_append_0 1 rfl rfl)
theorem dX6_append_2 : decode cX6_append 2 = .ok (.iconst 0, 1) := dk_3 (dk_at dksX6_append_0 2 rfl rfl)
theorem dX6_append_3 : decode cX6_append 3 = .ok (.bipush 127, 2) := dk_16 127 (dk_at dksX6_append_0 3 rfl rfl)
theorem dX6_append_5 : decode cX6_append 5 = .ok (.invokestatic 54, 3) := dk_184 0 54 (dk_at dksX6_append_0 5 rfl rfl)
theorem dX6_append_8 : decode cX6_append 8 = .ok (.ifCond .ne 7, 3) := dk_154 0 7 (dk_at dksX6_append_0 8 rfl rfl)
theorem dX6_append_11 : decode cX6_append 11 = .ok (.iconst 1, 1) := dk_4 (dk_at dksX6_append_0 11 rfl rfl)
theorem dX6_append_12 : decode cX6_append 12 = .ok (.goto 18, 3) := dk_167 0 18 (dk_at dksX6_append_0 12 rfl rfl)
theorem dX6_append_15 : decode cX6_append 15 = .ok (.aload_n 0, 1) := dk_42 (dk_at dksX6_append_0 15 rfl rfl)
theorem dX6_append_16 : decode cX6_append 16 = .ok (.getfield 72, 3) := dk_180 0 72 (dk_at dksX6_append_0 16 rfl rfl)
theorem dX6_append_19 : decode cX6_append 19 = .ok (.sipush 150, 3) := dk_17 0 150 (dk_at dksX6_append_0 19 rfl rfl)
theorem dX6_append_22 : decode cX6_append 22 = .ok (.if_icmp .ne 7, 3) := dk_160 0 7 (dk_at dksX6_append_1 0 rfl rfl)
theorem dX6_append_25 : decode cX6_append 25 = .ok (.iconst 2, 1) := dk_5 (dk_at dksX6_append_1 3 rfl rfl)
theorem dX6_append_26 : decode cX6_append 26 = .ok (.goto 4, 3) := dk_167 0 4 (dk_at dksX6_append_1 4 rfl rfl)
theorem dX6_append_29 : decode cX6_append 29 = .ok (.iconst 0, 1) := dk_3 (dk_at dksX6_append_1 7 rfl rfl)
theorem dX6_append_30 : decode cX6_append 30 = .ok (.invokevirtual 50, 3) := dk_182 0 50 (dk_at dksX6_append_1 8 rfl rfl)
theorem dX6_append_33 : decode cX6_append 33 = .ok (.ifCond .eq 5, 3) := dk_153 0 5 (dk_at dksX6_append_1 11 rfl rfl)
theorem dX6_append_36 : decode cX6_append 36 = .ok (.iconst 0, 1) := dk_3 (dk_at dksX6_append_1 14 rfl rfl)
theorem dX6_append_37 : decode cX6_append 37 = .ok (.ireturn, 1) := dk_172 (dk_at dksX6_append_1 15 rfl rfl)
theorem dX6_append_38 : decode cX6_append 38 = .ok (.aload_n 0, 1) := dk_42 (dk_at dksX6_append_1 16 rfl rfl)
theorem dX6_append_39 : decode cX6_append 39 = .ok (.getfield 22, 3) := dk_180 0 22 (dk_at dksX6_append_1 17 rfl rfl)
theorem dX6_append_42 : decode cX6_append 42 = .ok (.aload_n 0, 1) := dk_42 (dk_at dksX6_append_1 20 rfl rfl)
theorem dX6_append_43 : decode cX6_append 43 = .ok (.getfield 72, 3) := dk_180 0 72 (dk_at dksX6_append_1 21 rfl rfl)
theorem dX6_append_46 : decode cX6_append 46 = .ok (.iload_n 1, 1) := dk_27 (dk_at dksX6_append_2 0 rfl rfl)
theorem dX6_append_47 : decode cX6_append 47 = .ok (.iastore, 1) := dk_79 (dk_at dksX6_append_2 1 rfl rfl)
theorem dX6_append_48 : decode cX6_append 48 = .ok (.aload_n 0, 1) := dk_42 (dk_at dksX6_append_2 2 rfl rfl)
theorem dX6_append_49 : decode cX6_append 49 = .ok (.dup, 1) := dk_89 (dk_at dksX6_append_2 3 rfl rfl)
theorem dX6_append_50 : decode cX6_append 50 = .ok (.getfield 72, 3) := dk_180 0 72 (dk_at dksX6_append_2 4 rfl rfl)
theorem dX6_append_53 : decode cX6_append 53 = .ok (.iconst 1, 1) := dk_4 (dk_at dksX6_append_2 7 rfl rfl)
theorem dX6_append_54 : decode cX6_append 54 = .ok (.iadd, 1) := dk_96 (dk_at dksX6_append_2 8 rfl rfl)
theorem dX6_append_55 : decode cX6_append 55 = .ok (.putfield 72, 3) := dk_181 0 72 (dk_at dksX6_append_2 9 rfl rfl)
theorem dX6_append_58 : decode cX6_append 58 = .ok (.aload_n 0, 1) := dk_42 (dk_at dksX6_append_2 12 rfl rfl)
theorem dX6_append_59 : decode cX6_append 59 = .ok (.getfield 72, 3) := dk_180 0 72 (dk_at dksX6_append_2 13 rfl rfl)
theorem dX6_append_62 : decode cX6_append 62 = .ok (.ireturn, 1) := dk_172 (dk_at dksX6_append_2 16 rfl rfl)
abbrev cX6_in : ByteArray := prog_11_method_4_code
def yX6_in : MethodName := ⟨RX6, "in", "(III)Z"⟩
def dkwX6_in_0 : List UInt8 := [26, 27, 161, 0, 12, 26, 28, 163, 0, 7, 4, 167, 0, 4, 3, 172]
abbrev dktX6_in_0 : List UInt8 := dkwX6_in_0 ++ []
theorem dksX6_in_0 : cX6_in.data.toList.drop 0 = dktX6_in_0 := by decide +kernel
theorem dX6_in_0 : decode cX6_in 0 = .ok (.iload_n 0, 1) := dk_26 (dk_at dksX6_in_0 0 rfl rfl)
theorem dX6_in_1 : decode cX6_in 1 = .ok (.iload_n 1, 1) := dk_27 (dk_at dksX6_in_0 1 rfl rfl)
theorem dX6_in_2 : decode cX6_in 2 = .ok (.if_icmp .lt 12, 3) := dk_161 0 12 (dk_at dksX6_in_0 2 rfl rfl)
theorem dX6_in_5 : decode cX6_in 5 = .ok (.iload_n 0, 1) := dk_26 (dk_at dksX6_in_0 5 rfl rfl)
theorem dX6_in_6 : decode cX6_in 6 = .ok (.iload_n 2, 1) := dk_28 (dk_at dksX6_in_0 6 rfl rfl)
theorem dX6_in_7 : decode cX6_in 7 = .ok (.if_icmp .gt 7, 3) := dk_163 0 7 (dk_at dksX6_in_0 7 rfl rfl)
theorem dX6_in_10 : decode cX6_in 10 = .ok (.iconst 1, 1) := dk_4 (dk_at dksX6_in_0 10 rfl rfl)
theorem dX6_in_11 : decode cX6_in 11 = .ok (.goto 4, 3) := dk_167 0 4 (dk_at dksX6_in_0 11 rfl rfl)
theorem dX6_in_14 : decode cX6_in 14 = .ok (.iconst 0, 1) := dk_3 (dk_at dksX6_in_0 14 rfl rfl)
theorem dX6_in_15 : decode cX6_in 15 = .ok (.ireturn, 1) := dk_172 (dk_at dksX6_in_0 15 rfl rfl)
abbrev cX6_clearText : ByteArray := prog_11_method_19_code
def yX6_clearText : MethodName := ⟨RX6, "clearText", "()I"⟩
def dkwX6_clearText_0 : List UInt8 := [42, 3, 181, 0, 43, 42, 180, 0, 72, 60, 42, 3, 181, 0, 72, 27, 172]
abbrev dktX6_clearText_0 : List UInt8 := dkwX6_clearText_0 ++ []
theorem dksX6_clearText_0 : cX6_clearText.data.toList.drop 0 = dktX6_clearText_0 := by decide +kernel
theorem dX6_clearText_0 : decode cX6_clearText 0 = .ok (.aload_n 0, 1) := dk_42 (dk_at dksX6_clearText_0 0 rfl rfl)
theorem dX6_clearText_1 : decode cX6_clearText 1 = .ok (.iconst 0, 1) := dk_3 (dk_at dksX6_clearText_0 1 rfl rfl)
theorem dX6_clearText_2 : decode cX6_clearText 2 = .ok (.putfield 43, 3) := dk_181 0 43 (dk_at dksX6_clearText_0 2 rfl rfl)
theorem dX6_clearText_5 : decode cX6_clearText 5 = .ok (.aload_n 0, 1) := dk_42 (dk_at dksX6_clearText_0 5 rfl rfl)
theorem dX6_clearText_6 : decode cX6_clearText 6 = .ok (.getfield 72, 3) := dk_180 0 72 (dk_at dksX6_clearText_0 6 rfl rfl)
theorem dX6_clearText_9 : decode cX6_clearText 9 = .ok (.istore_n 1, 1) := dk_60 (dk_at dksX6_clearText_0 9 rfl rfl)
theorem dX6_clearText_10 : decode cX6_clearText 10 = .ok (.aload_n 0, 1) := dk_42 (dk_at dksX6_clearText_0 10 rfl rfl)
theorem dX6_clearText_11 : decode cX6_clearText 11 = .ok (.iconst 0, 1) := dk_3 (dk_at dksX6_clearText_0 11 rfl rfl)
theorem dX6_clearText_12 : decode cX6_clearText 12 = .ok (.putfield 72, 3) := dk_181 0 72 (dk_at dksX6_clearText_0 12 rfl rfl)
theorem dX6_clearText_15 : decode cX6_clearText 15 = .ok (.iload_n 1, 1) := dk_27 (dk_at dksX6_clearText_0 15 rfl rfl)
theorem dX6_clearText_16 : decode cX6_clearText 16 = .ok (.ireturn, 1) := dk_172 (dk_at dksX6_clearText_0 16 rfl rfl)
abbrev cX6_parse : ByteArray := prog_11_method_24_code
def yX6_parse : MethodName := ⟨RX6, "parse", "()I"⟩
def dkwX6_parse_7 : List UInt8 := [96, 172]
abbrev dktX6_parse_7 : List UInt8 := dkwX6_parse_7 ++ []
def dkwX6_parse_6 : List UInt8 := [180, 0, 19, 28, 46, 79, 132, 2, 1, 167, 255, 234, 42, 180, 0, 7, 3, 46, 42, 180, 0, 7, 4, 46]
abbrev dktX6_parse_6 : List UInt8 := dkwX6_parse_6 ++ dktX6_parse_7
def dkwX6_parse_5 : List UInt8 := [42, 182, 0, 99, 42, 182, 0, 102, 3, 61, 28, 17, 0, 195, 162, 0, 21, 42, 180, 0, 7, 28, 42]
abbrev dktX6_parse_5 : List UInt8 := dkwX6_parse_5 ++ dktX6_parse_6
def dkwX6_parse_4 : List UInt8 := [17, 0, 195, 162, 0, 21, 42, 180, 0, 19, 28, 42, 180, 0, 7, 28, 46, 79, 132, 2, 1, 167, 255, 234]
abbrev dktX6_parse_4 : List UInt8 := dkwX6_parse_4 ++ dktX6_parse_5
def dkwX6_parse_3 : List UInt8 := [60, 167, 255, 236, 27, 154, 0, 15, 42, 182, 0, 99, 16, 246, 42, 180, 0, 75, 100, 172, 3, 61, 28]
abbrev dktX6_parse_3 : List UInt8 := dkwX6_parse_3 ++ dktX6_parse_4
def dkwX6_parse_2 : List UInt8 := [181, 0, 75, 4, 60, 27, 153, 0, 22, 42, 180, 0, 75, 42, 180, 0, 72, 162, 0, 11, 42, 182, 0, 95]
abbrev dktX6_parse_2 : List UInt8 := dkwX6_parse_2 ++ dktX6_parse_3
def dkwX6_parse_1 : List UInt8 := [180, 0, 7, 7, 3, 79, 42, 180, 0, 7, 8, 3, 79, 42, 180, 0, 7, 16, 6, 3, 79, 42, 3]
abbrev dktX6_parse_1 : List UInt8 := dkwX6_parse_1 ++ dktX6_parse_2
def dkwX6_parse_0 : List UInt8 := [42, 3, 181, 0, 43, 42, 182, 0, 92, 42, 180, 0, 7, 3, 3, 79, 42, 180, 0, 7, 4, 3, 79, 42]
abbrev dktX6_parse_0 : List UInt8 := dkwX6_parse_0 ++ dktX6_parse_1
theorem dksX6_parse_0 : cX6_parse.data.toList.drop 0 = dktX6_parse_0 := by decide +kernel
theorem dksX6_parse_1 : cX6_parse.data.toList.drop 24 = dktX6_parse_1 := dk_seg dksX6_parse_0 24 rfl rfl
theorem dksX6_parse_2 : cX6_parse.data.toList.drop 47 = dktX6_parse_2 := dk_seg dksX6_parse_1 23 rfl rfl
theorem dksX6_parse_3 : cX6_parse.data.toList.drop 71 = dktX6_parse_3 := dk_seg dksX6_parse_2 24 rfl rfl
theorem dksX6_parse_4 : cX6_parse.data.toList.drop 94 = dktX6_parse_4 := dk_seg dksX6_parse_3 23 rfl rfl
theorem dksX6_parse_5 : cX6_parse.data.toList.drop 118 = dktX6_parse_5 := dk_seg dksX6_parse_4 24 rfl rfl
theorem dksX6_parse_6 : cX6_parse.data.toList.drop 141 = dktX6_parse_6 := dk_seg dksX6_parse_5 23 rfl rfl
theorem dksX6_parse_7 : cX6_parse.data.toList.drop 165 = dktX6_parse_7 := dk_seg dksX6_parse_6 24 rfl rfl
theorem dX6_parse_0 : decode cX6_parse 0 = .ok (.aload_n 0, 1) := dk_42 (dk_at dksX6_parse_0 0 rfl rfl)
theorem dX6_parse_1 : decode cX6_parse 1 = .ok (.iconst 0, 1) := dk_3 (dk_at dksX6_parse_0 1 rfl rfl)
theorem dX6_parse_2 : decode cX6_parse 2 = .ok (.putfield 43, 3) := dk_181 0 43 (dk_at dksX6_parse_0 2 rfl rfl)
theorem dX6_parse_5 : decode cX6_parse 5 = .ok (.aload_n 0, 1) := dk_42 (dk_at dksX6_parse_0 5 rfl rfl)
theorem dX6_parse_6 : decode cX6_parse 6 = .ok (.invokevirtual 92, 3) := dk_182 0 92 (dk_at dksX6_parse_0 6 rfl rfl)
theorem dX6_parse_9 : decode cX6_parse 9 = .ok (.aload_n 0, 1) := dk_42 (dk_at dksX6_parse_0 9 rfl rfl)
theorem dX6_parse_10 : decode cX6_parse 10 = .ok (.getfield 7, 3) := dk_180 0 7 (dk_at dksX6_parse_0 10 rfl rfl)
theorem dX6_parse_13 : decode cX6_parse 13 = .ok (.iconst 0, 1) := dk_3 (dk_at dksX6_parse_0 13 rfl rfl)
theorem dX6_parse_14 : decode cX6_parse 14 = .ok (.iconst 0, 1) := dk_3 (dk_at dksX6_parse_0 14 rfl rfl)
theorem dX6_parse_15 : decode cX6_parse 15 = .ok (.iastore, 1) := dk_79 (dk_at dksX6_parse_0 15 rfl rfl)
theorem dX6_parse_16 : decode cX6_parse 16 = .ok (.aload_n 0, 1) := dk_42 (dk_at dksX6_parse_0 16 rfl rfl)
theorem dX6_parse_17 : decode cX6_parse 17 = .ok (.getfield 7, 3) := dk_180 0 7 (dk_at dksX6_parse_0 17 rfl rfl)
theorem dX6_parse_20 : decode cX6_parse 20 = .ok (.iconst 1, 1) := dk_4 (dk_at dksX6_parse_0 20 rfl rfl)
theorem dX6_parse_21 : decode cX6_parse 21 = .ok (.iconst 0, 1) := dk_3 (dk_at dksX6_parse_0 21 rfl rfl)
theorem dX6_parse_22 : decode cX6_parse 22 = .ok (.iastore, 1) := dk_79 (dk_at dksX6_parse_0 22 rfl rfl)
theorem dX6_parse_23 : decode cX6_parse 23 = .ok (.aload_n 0, 1) := dk_42 (dk_at dksX6_parse_0 23 rfl rfl)
theorem dX6_parse_24 : decode cX6_parse 24 = .ok (.getfield 7, 3) := dk_180 0 7 (dk_at dksX6_parse_1 0 rfl rfl)
theorem dX6_parse_27 : decode cX6_parse 27 = .ok (.iconst 4, 1) := dk_7 (dk_at dksX6_parse_1 3 rfl rfl)
theorem dX6_parse_28 : decode cX6_parse 28 = .ok (.iconst 0, 1) := dk_3 (dk_at dksX6_parse_1 4 rfl rfl)
theorem dX6_parse_29 : decode cX6_parse 29 = .ok (.iastore, 1) := dk_79 (dk_at dksX6_parse_1 5 rfl rfl)
theorem dX6_parse_30 : decode cX6_parse 30 = .ok (.aload_n 0, 1) := dk_42 (dk_at dksX6_parse_1 6 rfl rfl)
theorem dX6_parse_31 : decode cX6_parse 31 = .ok (.getfield 7, 3) := dk_180 0 7 (dk_at dksX6_parse_1 7 rfl rfl)
theorem dX6_parse_34 : decode cX6_parse 34 = .ok (.iconst 5, 1) := dk_8 (dk_at dksX6_parse_1 10 rfl rfl)
theorem dX6_parse_35 : decode cX6_parse 35 = .ok (.iconst 0, 1) := dk_3 (dk_at dksX6_parse_1 11 rfl rfl)
theorem dX6_parse_36 : decode cX6_parse 36 = .ok (.iastore, 1) := dk_79 (dk_at dksX6_parse_1 12 rfl rfl)
theorem dX6_parse_37 : decode cX6_parse 37 = .ok (.aload_n 0, 1) := dk_42 (dk_at dksX6_parse_1 13 rfl rfl)
theorem dX6_parse_38 : decode cX6_parse 38 = .ok (.getfield 7, 3) := dk_180 0 7 (dk_at dksX6_parse_1 14 rfl rfl)
theorem dX6_parse_41 : decode cX6_parse 41 = .ok (.bipush 6, 2) := dk_16 6 (dk_at dksX6_parse_1 17 rfl rfl)
theorem dX6_parse_43 : decode cX6_parse 43 = .ok (.iconst 0, 1) := dk_3 (dk_at dksX6_parse_1 19 rfl rfl)
theorem dX6_parse_44 : decode cX6_parse 44 = .ok (.iastore, 1) := dk_79 (dk_at dksX6_parse_1 20 rfl rfl)
theorem dX6_parse_45 : decode cX6_parse 45 = .ok (.aload_n 0, 1) := dk_42 (dk_at dksX6_parse_1 21 rfl rfl)
theorem dX6_parse_46 : decode cX6_parse 46 = .ok (.iconst 0, 1) := dk_3 (dk_at dksX6_parse_1 22 rfl rfl)
theorem dX6_parse_47 : decode cX6_parse 47 = .ok (.putfield 75, 3) := dk_181 0 75 (dk_at dksX6_parse_2 0 rfl rfl)
theorem dX6_parse_50 : decode cX6_parse 50 = .ok (.iconst 1, 1) := dk_4 (dk_at dksX6_parse_2 3 rfl rfl)
theorem dX6_parse_51 : decode cX6_parse 51 = .ok (.istore_n 1, 1) := dk_60 (dk_at dksX6_parse_2 4 rfl rfl)
theorem dX6_parse_52 : decode cX6_parse 52 = .ok (.iload_n 1, 1) := dk_27 (dk_at dksX6_parse_2 5 rfl rfl)
theorem dX6_parse_53 : decode cX6_parse 53 = .ok (.ifCond .eq 22, 3) := dk_153 0 22 (dk_at dksX6_parse_2 6 rfl rfl)
theorem dX6_parse_56 : decode cX6_parse 56 = .ok (.aload_n 0, 1) := dk_42 (dk_at dksX6_parse_2 9 rfl rfl)
theorem dX6_parse_57 : decode cX6_parse 57 = .ok (.getfield 75, 3) := dk_180 0 75 (dk_at dksX6_parse_2 10 rfl rfl)
theorem dX6_parse_60 : decode cX6_parse 60 = .ok (.aload_n 0, 1) := dk_42 (dk_at dksX6_parse_2 13 rfl rfl)
theorem dX6_parse_61 : decode cX6_parse 61 = .ok (.getfield 72, 3) := dk_180 0 72 (dk_at dksX6_parse_2 14 rfl rfl)
theorem dX6_parse_64 : decode cX6_parse 64 = .ok (.if_icmp .ge 11, 3) := dk_162 0 11 (dk_at dksX6_parse_2 17 rfl rfl)
theorem dX6_parse_67 : decode cX6_parse 67 = .ok (.aload_n 0, 1) := dk_42 (dk_at dksX6_parse_2 20 rfl rfl)
theorem dX6_parse_68 : decode cX6_parse 68 = .ok (.invokevirtual 95, 3) := dk_182 0 95 (dk_at dksX6_parse_2 21 rfl rfl)
theorem dX6_parse_71 : decode cX6_parse 71 = .ok (.istore_n 1, 1) := dk_60 (dk_at dksX6_parse_3 0 rfl rfl)
theorem dX6_parse_72 : decode cX6_parse 72 = .ok (.goto (-20), 3) := dk_167 255 236 (dk_at dksX6_parse_3 1 rfl rfl)
theorem dX6_parse_75 : decode cX6_parse 75 = .ok (.iload_n 1, 1) := dk_27 (dk_at dksX6_parse_3 4 rfl rfl)
theorem dX6_parse_76 : decode cX6_parse 76 = .ok (.ifCond .ne 15, 3) := dk_154 0 15 (dk_at dksX6_parse_3 5 rfl rfl)
theorem dX6_parse_79 : decode cX6_parse 79 = .ok (.aload_n 0, 1) := dk_42 (dk_at dksX6_parse_3 8 rfl rfl)
theorem dX6_parse_80 : decode cX6_parse 80 = .ok (.invokevirtual 99, 3) := dk_182 0 99 (dk_at dksX6_parse_3 9 rfl rfl)
theorem dX6_parse_83 : decode cX6_parse 83 = .ok (.bipush (-10), 2) := dk_16 246 (dk_at dksX6_parse_3 12 rfl rfl)
theorem dX6_parse_85 : decode cX6_parse 85 = .ok (.aload_n 0, 1) := dk_42 (dk_at dksX6_parse_3 14 rfl rfl)
theorem dX6_parse_86 : decode cX6_parse 86 = .ok (.getfield 75, 3) := dk_180 0 75 (dk_at dksX6_parse_3 15 rfl rfl)
theorem dX6_parse_89 : decode cX6_parse 89 = .ok (.isub, 1) := dk_100 (dk_at dksX6_parse_3 18 rfl rfl)
theorem dX6_parse_90 : decode cX6_parse 90 = .ok (.ireturn, 1) := dk_172 (dk_at dksX6_parse_3 19 rfl rfl)
theorem dX6_parse_91 : decode cX6_parse 91 = .ok (.iconst 0, 1) := dk_3 (dk_at dksX6_parse_3 20 rfl rfl)
theorem dX6_parse_92 : decode cX6_parse 92 = .ok (.istore_n 2, 1) := dk_61 (dk_at dksX6_parse_3 21 rfl rfl)
theorem dX6_parse_93 : decode cX6_parse 93 = .ok (.iload_n 2, 1) := dk_28 (dk_at dksX6_parse_3 22 rfl rfl)
theorem dX6_parse_94 : decode cX6_parse 94 = .ok (.sipush 195, 3) := dk_17 0 195 (dk_at dksX6_parse_4 0 rfl rfl)
theorem dX6_parse_97 : decode cX6_parse 97 = .ok (.if_icmp .ge 21, 3) := dk_162 0 21 (dk_at dksX6_parse_4 3 rfl rfl)
theorem dX6_parse_100 : decode cX6_parse 100 = .ok (.aload_n 0, 1) := dk_42 (dk_at dksX6_parse_4 6 rfl rfl)
theorem dX6_parse_101 : decode cX6_parse 101 = .ok (.getfield 19, 3) := dk_180 0 19 (dk_at dksX6_parse_4 7 rfl rfl)
theorem dX6_parse_104 : decode cX6_parse 104 = .ok (.iload_n 2, 1) := dk_28 (dk_at dksX6_parse_4 10 rfl rfl)
theorem dX6_parse_105 : decode cX6_parse 105 = .ok (.aload_n 0, 1) := dk_42 (dk_at dksX6_parse_4 11 rfl rfl)
theorem dX6_parse_106 : decode cX6_parse 106 = .ok (.getfield 7, 3) := dk_180 0 7 (dk_at dksX6_parse_4 12 rfl rfl)
theorem dX6_parse_109 : decode cX6_parse 109 = .ok (.iload_n 2, 1) := dk_28 (dk_at dksX6_parse_4 15 rfl rfl)
theorem dX6_parse_110 : decode cX6_parse 110 = .ok (.iaload, 1) := dk_46 (dk_at dksX6_parse_4 16 rfl rfl)
theorem dX6_parse_111 : decode cX6_parse 111 = .ok (.iastore, 1) := dk_79 (dk_at dksX6_parse_4 17 rfl rfl)
theorem dX6_parse_112 : decode cX6_parse 112 = .ok (.iinc 2 1, 3) := dk_132 2 1 (dk_at dksX6_parse_4 18 rfl rfl)
theorem dX6_parse_115 : decode cX6_parse 115 = .ok (.goto (-22), 3) := dk_167 255 234 (dk_at dksX6_parse_4 21 rfl rfl)
theorem dX6_parse_118 : decode cX6_parse 118 = .ok (.aload_n 0, 1) := dk_42 (dk_at dksX6_parse_5 0 rfl rfl)
theorem dX6_parse_119 : decode cX6_parse 119 = .ok (.invokevirtual 99, 3) := dk_182 0 99 (dk_at dksX6_parse_5 1 rfl rfl)
theorem dX6_parse_122 : decode cX6_parse 122 = .ok (.aload_n 0, 1) := dk_42 (dk_at dksX6_parse_5 4 rfl rfl)
theorem dX6_parse_123 : decode cX6_parse 123 = .ok (.invokevirtual 102, 3) := dk_182 0 102 (dk_at dksX6_parse_5 5 rfl rfl)
theorem dX6_parse_126 : decode cX6_parse 126 = .ok (.iconst 0, 1) := dk_3 (dk_at dksX6_parse_5 8 rfl rfl)
theorem dX6_parse_127 : decode cX6_parse 127 = .ok (.istore_n 2, 1) := dk_61 (dk_at dksX6_parse_5 9 rfl rfl)
theorem dX6_parse_128 : decode cX6_parse 128 = .ok (.iload_n 2, 1) := dk_28 (dk_at dksX6_parse_5 10 rfl rfl)
theorem dX6_parse_129 : decode cX6_parse 129 = .ok (.sipush 195, 3) := dk_17 0 195 (dk_at dksX6_parse_5 11 rfl rfl)
theorem dX6_parse_132 : decode cX6_parse 132 = .ok (.if_icmp .ge 21, 3) := dk_162 0 21 (dk_at dksX6_parse_5 14 rfl rfl)
theorem dX6_parse_135 : decode cX6_parse 135 = .ok (.aload_n 0, 1) := dk_42 (dk_at dksX6_parse_5 17 rfl rfl)
theorem dX6_parse_136 : decode cX6_parse 136 = .ok (.getfield 7, 3) := dk_180 0 7 (dk_at dksX6_parse_5 18 rfl rfl)
theorem dX6_parse_139 : decode cX6_parse 139 = .ok (.iload_n 2, 1) := dk_28 (dk_at dksX6_parse_5 21 rfl rfl)
theorem dX6_parse_140 : decode cX6_parse 140 = .ok (.aload_n 0, 1) := dk_42 (dk_at dksX6_parse_5 22 rfl rfl)
theorem dX6_parse_141 : decode cX6_parse 141 = .ok (.getfield 19, 3) := dk_180 0 19 (dk_at dksX6_parse_6 0 rfl rfl)
theorem dX6_parse_144 : decode cX6_parse 144 = .ok (.iload_n 2, 1) := dk_28 (dk_at dksX6_parse_6 3 rfl rfl)
theorem dX6_parse_145 : decode cX6_parse 145 = .ok (.iaload, 1) := dk_46 (dk_at dksX6_parse_6 4 rfl rfl)
theorem dX6_parse_146 : decode cX6_parse 146 = .ok (.iastore, 1) := dk_79 (dk_at dksX6_parse_6 5 rfl rfl)
theorem dX6_parse_147 : decode cX6_parse 147 = .ok (.iinc 2 1, 3) := dk_132 2 1 (dk_at dksX6_parse_6 6 rfl rfl)
theorem dX6_parse_150 : decode cX6_parse 150 = .ok (.goto (-22), 3) := dk_167 255 234 (dk_at dksX6_parse_6 9 rfl rfl)
theorem dX6_parse_153 : decode cX6_parse 153 = .ok (.aload_n 0, 1) := dk_42 (dk_at dksX6_parse_6 12 rfl rfl)
theorem dX6_parse_154 : decode cX6_parse 154 = .ok (.getfield 7, 3) := dk_180 0 7 (dk_at dksX6_parse_6 13 rfl rfl)
theorem dX6_parse_157 : decode cX6_parse 157 = .ok (.iconst 0, 1) := dk_3 (dk_at dksX6_parse_6 16 rfl rfl)
theorem dX6_parse_158 : decode cX6_parse 158 = .ok (.iaload, 1) := dk_46 (dk_at dksX6_parse_6 17 rfl rfl)
theorem dX6_parse_159 : decode cX6_parse 159 = .ok (.aload_n 0, 1) := dk_42 (dk_at dksX6_parse_6 18 rfl rfl)
theorem dX6_parse_160 : decode cX6_parse 160 = .ok (.getfield 7, 3) := dk_180 0 7 (dk_at dksX6_parse_6 19 rfl rfl)
theorem dX6_parse_163 : decode cX6_parse 163 = .ok (.iconst 1, 1) := dk_4 (dk_at dksX6_parse_6 22 rfl rfl)
theorem dX6_parse_164 : decode cX6_parse 164 = .ok (.iaload, 1) := dk_46 (dk_at dksX6_parse_6 23 rfl rfl)
theorem dX6_parse_165 : decode cX6_parse 165 = .ok (.iadd, 1) := dk_96 (dk_at dksX6_parse_7 0 rfl rfl)
theorem dX6_parse_166 : decode cX6_parse 166 = .ok (.ireturn, 1) := dk_172 (dk_at dksX6_parse_7 1 rfl rfl)
abbrev cX6_keeps : ByteArray := prog_11_method_7_code
def yX6_keeps : MethodName := ⟨RX6, "keeps", "()V"⟩
def dkwX6_keeps_1 : List UInt8 := [167, 255, 234, 177]
abbrev dktX6_keeps_1 : List UInt8 := dkwX6_keeps_1 ++ []
def dkwX6_keeps_0 : List UInt8 := [3, 60, 27, 17, 0, 195, 162, 0, 21, 42, 180, 0, 16, 27, 42, 180, 0, 7, 27, 46, 79, 132, 1, 1]
abbrev dktX6_keeps_0 : List UInt8 := dkwX6_keeps_0 ++ dktX6_keeps_1
theorem dksX6_keeps_0 : cX6_keeps.data.toList.drop 0 = dktX6_keeps_0 := by decide +kernel
theorem dksX6_keeps_1 : cX6_keeps.data.toList.drop 24 = dktX6_keeps_1 := dk_seg dksX6_keeps_0 24 rfl rfl
theorem dX6_keeps_0 : decode cX6_keeps 0 = .ok (.iconst 0, 1) := dk_3 (dk_at dksX6_keeps_0 0 rfl rfl)
theorem dX6_keeps_1 : decode cX6_keeps 1 = .ok (.istore_n 1, 1) := dk_60 (dk_at dksX6_keeps_0 1 rfl rfl)
theorem dX6_keeps_2 : decode cX6_keeps 2 = .ok (.iload_n 1, 1) := dk_27 (dk_at dksX6_keeps_0 2 rfl rfl)
theorem dX6_keeps_3 : decode cX6_keeps 3 = .ok (.sipush 195, 3) := dk_17 0 195 (dk_at dksX6_keeps_0 3 rfl rfl)
theorem dX6_keeps_6 : decode cX6_keeps 6 = .ok (.if_icmp .ge 21, 3) := dk_162 0 21 (dk_at dksX6_keeps_0 6 rfl rfl)
theorem dX6_keeps_9 : decode cX6_keeps 9 = .ok (.aload_n 0, 1) := dk_42 (dk_at dksX6_keeps_0 9 rfl rfl)
theorem dX6_keeps_10 : decode cX6_keeps 10 = .ok (.getfield 16, 3) := dk_180 0 16 (dk_at dksX6_keeps_0 10 rfl rfl)
theorem dX6_keeps_13 : decode cX6_keeps 13 = .ok (.iload_n 1, 1) := dk_27 (dk_at dksX6_keeps_0 13 rfl rfl)
theorem dX6_keeps_14 : decode cX6_keeps 14 = .ok (.aload_n 0, 1) := dk_42 (dk_at dksX6_keeps_0 14 rfl rfl)
theorem dX6_keeps_15 : decode cX6_keeps 15 = .ok (.getfield 7, 3) := dk_180 0 7 (dk_at dksX6_keeps_0 15 rfl rfl)
theorem dX6_keeps_18 : decode cX6_keeps 18 = .ok (.iload_n 1, 1) := dk_27 (dk_at dksX6_keeps_0 18 rfl rfl)
theorem dX6_keeps_19 : decode cX6_keeps 19 = .ok (.iaload, 1) := dk_46 (dk_at dksX6_keeps_0 19 rfl rfl)
theorem dX6_keeps_20 : decode cX6_keeps 20 = .ok (.iastore, 1) := dk_79 (dk_at dksX6_keeps_0 20 rfl rfl)
theorem dX6_keeps_21 : decode cX6_keeps 21 = .ok (.iinc 1 1, 3) := dk_132 1 1 (dk_at dksX6_keeps_0 21 rfl rfl)
theorem dX6_keeps_24 : decode cX6_keeps 24 = .ok (.goto (-22), 3) := dk_167 255 234 (dk_at dksX6_keeps_1 0 rfl rfl)
theorem dX6_keeps_27 : decode cX6_keeps 27 = .ok (.return_, 1) := dk_177 (dk_at dksX6_keeps_1 3 rfl rfl)
abbrev cX6_takesItem : ByteArray := prog_11_method_22_code
def yX6_takesItem : MethodName := ⟨RX6, "takesItem", "()Z"⟩
def dkwX6_takesItem_6 : List UInt8 := [96, 181, 0, 75, 42, 27, 27, 5, 96, 16, 12, 182, 0, 86, 172, 3, 172]
abbrev dktX6_takesItem_6 : List UInt8 := dkwX6_takesItem_6 ++ []
def dkwX6_takesItem_5 : List UInt8 := [180, 0, 75, 46, 16, 48, 100, 79, 42, 180, 0, 7, 4, 92, 46, 4, 96, 79, 42, 89, 180, 0, 75, 4]
abbrev dktX6_takesItem_5 : List UInt8 := dkwX6_takesItem_5 ++ dktX6_takesItem_6
def dkwX6_takesItem_4 : List UInt8 := [184, 0, 89, 60, 42, 180, 0, 7, 27, 3, 79, 42, 180, 0, 7, 27, 4, 96, 42, 180, 0, 22, 42]
abbrev dktX6_takesItem_4 : List UInt8 := dkwX6_takesItem_4 ++ dktX6_takesItem_5
def dkwX6_takesItem_3 : List UInt8 := [182, 0, 78, 153, 0, 82, 42, 180, 0, 7, 4, 46, 16, 7, 162, 0, 71, 42, 180, 0, 7, 4, 46]
abbrev dktX6_takesItem_3 : List UInt8 := dkwX6_takesItem_3 ++ dktX6_takesItem_4
def dkwX6_takesItem_2 : List UInt8 := [180, 0, 7, 3, 92, 46, 4, 96, 79, 42, 27, 27, 4, 96, 8, 182, 0, 86, 172, 42, 16, 48, 16, 51]
abbrev dktX6_takesItem_2 : List UInt8 := dkwX6_takesItem_2 ++ dktX6_takesItem_3
def dkwX6_takesItem_1 : List UInt8 := [180, 0, 75, 4, 96, 181, 0, 75, 42, 180, 0, 7, 3, 46, 184, 0, 58, 60, 42, 27, 182, 0, 82, 42]
abbrev dktX6_takesItem_1 : List UInt8 := dkwX6_takesItem_1 ++ dktX6_takesItem_2
def dkwX6_takesItem_0 : List UInt8 := [42, 16, 42, 16, 42, 182, 0, 78, 153, 0, 59, 42, 180, 0, 7, 3, 46, 16, 10, 162, 0, 48, 42, 89]
abbrev dktX6_takesItem_0 : List UInt8 := dkwX6_takesItem_0 ++ dktX6_takesItem_1
theorem dksX6_takesItem_0 : cX6_takesItem.data.toList.drop 0 = dktX6_takesItem_0 := by decide +kernel
theorem dksX6_takesItem_1 : cX6_takesItem.data.toList.drop 24 = dktX6_takesItem_1 := dk_seg dksX6_takesItem_0 24 rfl rfl
theorem dksX6_takesItem_2 : cX6_takesItem.data.toList.drop 48 = dktX6_takesItem_2 := dk_seg dksX6_takesItem_1 24 rfl rfl
theorem dksX6_takesItem_3 : cX6_takesItem.data.toList.drop 72 = dktX6_takesItem_3 := dk_seg dksX6_takesItem_2 24 rfl rfl
theorem dksX6_takesItem_4 : cX6_takesItem.data.toList.drop 95 = dktX6_takesItem_4 := dk_seg dksX6_takesItem_3 23 rfl rfl
theorem dksX6_takesItem_5 : cX6_takesItem.data.toList.drop 118 = dktX6_takesItem_5 := dk_seg dksX6_takesItem_4 23 rfl rfl
theorem dksX6_takesItem_6 : cX6_takesItem.data.toList.drop 142 = dktX6_takesItem_6 := dk_seg dksX6_takesItem_5 24 rfl rfl
theorem dX6_takesItem_0 : decode cX6_takesItem 0 = .ok (.aload_n 0, 1) := dk_42 (dk_at dksX6_takesItem_0 0 rfl rfl)
theorem dX6_takesItem_1 : decode cX6_takesItem 1 = .ok (.bipush 42, 2) := dk_16 42 (dk_at dksX6_takesItem_0 1 rfl rfl)
theorem dX6_takesItem_3 : decode cX6_takesItem 3 = .ok (.bipush 42, 2) := dk_16 42 (dk_at dksX6_takesItem_0 3 rfl rfl)
theorem dX6_takesItem_5 : decode cX6_takesItem 5 = .ok (.invokevirtual 78, 3) := dk_182 0 78 (dk_at dksX6_takesItem_0 5 rfl rfl)
theorem dX6_takesItem_8 : decode cX6_takesItem 8 = .ok (.ifCond .eq 59, 3) := dk_153 0 59 (dk_at dksX6_takesItem_0 8 rfl rfl)
theorem dX6_takesItem_11 : decode cX6_takesItem 11 = .ok (.aload_n 0, 1) := dk_42 (dk_at dksX6_takesItem_0 11 rfl rfl)
theorem dX6_takesItem_12 : decode cX6_takesItem 12 = .ok (.getfield 7, 3) := dk_180 0 7 (dk_at dksX6_takesItem_0 12 rfl rfl)
theorem dX6_takesItem_15 : decode cX6_takesItem 15 = .ok (.iconst 0, 1) := dk_3 (dk_at dksX6_takesItem_0 15 rfl rfl)
theorem dX6_takesItem_16 : decode cX6_takesItem 16 = .ok (.iaload, 1) := dk_46 (dk_at dksX6_takesItem_0 16 rfl rfl)
theorem dX6_takesItem_17 : decode cX6_takesItem 17 = .ok (.bipush 10, 2) := dk_16 10 (dk_at dksX6_takesItem_0 17 rfl rfl)
theorem dX6_takesItem_19 : decode cX6_takesItem 19 = .ok (.if_icmp .ge 48, 3) := dk_162 0 48 (dk_at dksX6_takesItem_0 19 rfl rfl)
theorem dX6_takesItem_22 : decode cX6_takesItem 22 = .ok (.aload_n 0, 1) := dk_42 (dk_at dksX6_takesItem_0 22 rfl rfl)
theorem dX6_takesItem_23 : decode cX6_takesItem 23 = .ok (.dup, 1) := dk_89 (dk_at dksX6_takesItem_0 23 rfl rfl)
theorem dX6_takesItem_24 : decode cX6_takesItem 24 = .ok (.getfield 75, 3) := dk_180 0 75 (dk_at dksX6_takesItem_1 0 rfl rfl)
theorem dX6_takesItem_27 : decode cX6_takesItem 27 = .ok (.iconst 1, 1) := dk_4 (dk_at dksX6_takesItem_1 3 rfl rfl)
theorem dX6_takesItem_28 : decode cX6_takesItem 28 = .ok (.iadd, 1) := dk_96 (dk_at dksX6_takesItem_1 4 rfl rfl)
theorem dX6_takesItem_29 : decode cX6_takesItem 29 = .ok (.putfield 75, 3) := dk_181 0 75 (dk_at dksX6_takesItem_1 5 rfl rfl)
theorem dX6_takesItem_32 : decode cX6_takesItem 32 = .ok (.aload_n 0, 1) := dk_42 (dk_at dksX6_takesItem_1 8 rfl rfl)
theorem dX6_takesItem_33 : decode cX6_takesItem 33 = .ok (.getfield 7, 3) := dk_180 0 7 (dk_at dksX6_takesItem_1 9 rfl rfl)
theorem dX6_takesItem_36 : decode cX6_takesItem 36 = .ok (.iconst 0, 1) := dk_3 (dk_at dksX6_takesItem_1 12 rfl rfl)
theorem dX6_takesItem_37 : decode cX6_takesItem 37 = .ok (.iaload, 1) := dk_46 (dk_at dksX6_takesItem_1 13 rfl rfl)
theorem dX6_takesItem_38 : decode cX6_takesItem 38 = .ok (.invokestatic 58, 3) := dk_184 0 58 (dk_at dksX6_takesItem_1 14 rfl rfl)
theorem dX6_takesItem_41 : decode cX6_takesItem 41 = .ok (.istore_n 1, 1) := dk_60 (dk_at dksX6_takesItem_1 17 rfl rfl)
theorem dX6_takesItem_42 : decode cX6_takesItem 42 = .ok (.aload_n 0, 1) := dk_42 (dk_at dksX6_takesItem_1 18 rfl rfl)
theorem dX6_takesItem_43 : decode cX6_takesItem 43 = .ok (.iload_n 1, 1) := dk_27 (dk_at dksX6_takesItem_1 19 rfl rfl)
theorem dX6_takesItem_44 : decode cX6_takesItem 44 = .ok (.invokevirtual 82, 3) := dk_182 0 82 (dk_at dksX6_takesItem_1 20 rfl rfl)
theorem dX6_takesItem_47 : decode cX6_takesItem 47 = .ok (.aload_n 0, 1) := dk_42 (dk_at dksX6_takesItem_1 23 rfl rfl)
theorem dX6_takesItem_48 : decode cX6_takesItem 48 = .ok (.getfield 7, 3) := dk_180 0 7 (dk_at dksX6_takesItem_2 0 rfl rfl)
theorem dX6_takesItem_51 : decode cX6_takesItem 51 = .ok (.iconst 0, 1) := dk_3 (dk_at dksX6_takesItem_2 3 rfl rfl)
theorem dX6_takesItem_52 : decode cX6_takesItem 52 = .ok (.dup2, 1) := dk_92 (dk_at dksX6_takesItem_2 4 rfl rfl)
theorem dX6_takesItem_53 : decode cX6_takesItem 53 = .ok (.iaload, 1) := dk_46 (dk_at dksX6_takesItem_2 5 rfl rfl)
theorem dX6_takesItem_54 : decode cX6_takesItem 54 = .ok (.iconst 1, 1) := dk_4 (dk_at dksX6_takesItem_2 6 rfl rfl)
theorem dX6_takesItem_55 : decode cX6_takesItem 55 = .ok (.iadd, 1) := dk_96 (dk_at dksX6_takesItem_2 7 rfl rfl)
theorem dX6_takesItem_56 : decode cX6_takesItem 56 = .ok (.iastore, 1) := dk_79 (dk_at dksX6_takesItem_2 8 rfl rfl)
theorem dX6_takesItem_57 : decode cX6_takesItem 57 = .ok (.aload_n 0, 1) := dk_42 (dk_at dksX6_takesItem_2 9 rfl rfl)
theorem dX6_takesItem_58 : decode cX6_takesItem 58 = .ok (.iload_n 1, 1) := dk_27 (dk_at dksX6_takesItem_2 10 rfl rfl)
theorem dX6_takesItem_59 : decode cX6_takesItem 59 = .ok (.iload_n 1, 1) := dk_27 (dk_at dksX6_takesItem_2 11 rfl rfl)
theorem dX6_takesItem_60 : decode cX6_takesItem 60 = .ok (.iconst 1, 1) := dk_4 (dk_at dksX6_takesItem_2 12 rfl rfl)
theorem dX6_takesItem_61 : decode cX6_takesItem 61 = .ok (.iadd, 1) := dk_96 (dk_at dksX6_takesItem_2 13 rfl rfl)
theorem dX6_takesItem_62 : decode cX6_takesItem 62 = .ok (.iconst 5, 1) := dk_8 (dk_at dksX6_takesItem_2 14 rfl rfl)
theorem dX6_takesItem_63 : decode cX6_takesItem 63 = .ok (.invokevirtual 86, 3) := dk_182 0 86 (dk_at dksX6_takesItem_2 15 rfl rfl)
theorem dX6_takesItem_66 : decode cX6_takesItem 66 = .ok (.ireturn, 1) := dk_172 (dk_at dksX6_takesItem_2 18 rfl rfl)
theorem dX6_takesItem_67 : decode cX6_takesItem 67 = .ok (.aload_n 0, 1) := dk_42 (dk_at dksX6_takesItem_2 19 rfl rfl)
theorem dX6_takesItem_68 : decode cX6_takesItem 68 = .ok (.bipush 48, 2) := dk_16 48 (dk_at dksX6_takesItem_2 20 rfl rfl)
theorem dX6_takesItem_70 : decode cX6_takesItem 70 = .ok (.bipush 51, 2) := dk_16 51 (dk_at dksX6_takesItem_2 22 rfl rfl)
theorem dX6_takesItem_72 : decode cX6_takesItem 72 = .ok (.invokevirtual 78, 3) := dk_182 0 78 (dk_at dksX6_takesItem_3 0 rfl rfl)
theorem dX6_takesItem_75 : decode cX6_takesItem 75 = .ok (.ifCond .eq 82, 3) := dk_153 0 82 (dk_at dksX6_takesItem_3 3 rfl rfl)
theorem dX6_takesItem_78 : decode cX6_takesItem 78 = .ok (.aload_n 0, 1) := dk_42 (dk_at dksX6_takesItem_3 6 rfl rfl)
theorem dX6_takesItem_79 : decode cX6_takesItem 79 = .ok (.getfield 7, 3) := dk_180 0 7 (dk_at dksX6_takesItem_3 7 rfl rfl)
theorem dX6_takesItem_82 : decode cX6_takesItem 82 = .ok (.iconst 1, 1) := dk_4 (dk_at dksX6_takesItem_3 10 rfl rfl)
theorem dX6_takesItem_83 : decode cX6_takesItem 83 = .ok (.iaload, 1) := dk_46 (dk_at dksX6_takesItem_3 11 rfl rfl)
theorem dX6_takesItem_84 : decode cX6_takesItem 84 = .ok (.bipush 7, 2) := dk_16 7 (dk_at dksX6_takesItem_3 12 rfl rfl)
theorem dX6_takesItem_86 : decode cX6_takesItem 86 = .ok (.if_icmp .ge 71, 3) := dk_162 0 71 (dk_at dksX6_takesItem_3 14 rfl rfl)
theorem dX6_takesItem_89 : decode cX6_takesItem 89 = .ok (.aload_n 0, 1) := dk_42 (dk_at dksX6_takesItem_3 17 rfl rfl)
theorem dX6_takesItem_90 : decode cX6_takesItem 90 = .ok (.getfield 7, 3) := dk_180 0 7 (dk_at dksX6_takesItem_3 18 rfl rfl)
theorem dX6_takesItem_93 : decode cX6_takesItem 93 = .ok (.iconst 1, 1) := dk_4 (dk_at dksX6_takesItem_3 21 rfl rfl)
theorem dX6_takesItem_94 : decode cX6_takesItem 94 = .ok (.iaload, 1) := dk_46 (dk_at dksX6_takesItem_3 22 rfl rfl)
theorem dX6_takesItem_95 : decode cX6_takesItem 95 = .ok (.invokestatic 89, 3) := dk_184 0 89 (dk_at dksX6_takesItem_4 0 rfl rfl)
theorem dX6_takesItem_98 : decode cX6_takesItem 98 = .ok (.istore_n 1, 1) := dk_60 (dk_at dksX6_takesItem_4 3 rfl rfl)
theorem dX6_takesItem_99 : decode cX6_takesItem 99 = .ok (.aload_n 0, 1) := dk_42 (dk_at dksX6_takesItem_4 4 rfl rfl)
theorem dX6_takesItem_100 : decode cX6_takesItem 100 = .ok (.getfield 7, 3) := dk_180 0 7 (dk_at dksX6_takesItem_4 5 rfl rfl)
theorem dX6_takesItem_103 : decode cX6_takesItem 103 = .ok (.iload_n 1, 1) := dk_27 (dk_at dksX6_takesItem_4 8 rfl rfl)
theorem dX6_takesItem_104 : decode cX6_takesItem 104 = .ok (.iconst 0, 1) := dk_3 (dk_at dksX6_takesItem_4 9 rfl rfl)
theorem dX6_takesItem_105 : decode cX6_takesItem 105 = .ok (.iastore, 1) := dk_79 (dk_at dksX6_takesItem_4 10 rfl rfl)
theorem dX6_takesItem_106 : decode cX6_takesItem 106 = .ok (.aload_n 0, 1) := dk_42 (dk_at dksX6_takesItem_4 11 rfl rfl)
theorem dX6_takesItem_107 : decode cX6_takesItem 107 = .ok (.getfield 7, 3) := dk_180 0 7 (dk_at dksX6_takesItem_4 12 rfl rfl)
theorem dX6_takesItem_110 : decode cX6_takesItem 110 = .ok (.iload_n 1, 1) := dk_27 (dk_at dksX6_takesItem_4 15 rfl rfl)
theorem dX6_takesItem_111 : decode cX6_takesItem 111 = .ok (.iconst 1, 1) := dk_4 (dk_at dksX6_takesItem_4 16 rfl rfl)
theorem dX6_takesItem_112 : decode cX6_takesItem 112 = .ok (.iadd, 1) := dk_96 (dk_at dksX6_takesItem_4 17 rfl rfl)
theorem dX6_takesItem_113 : decode cX6_takesItem 113 = .ok (.aload_n 0, 1) := dk_42 (dk_at dksX6_takesItem_4 18 rfl rfl)
theorem dX6_takesItem_114 : decode cX6_takesItem 114 = .ok (.getfield 22, 3) := dk_180 0 22 (dk_at dksX6_takesItem_4 19 rfl rfl)
theorem dX6_takesItem_117 : decode cX6_takesItem 117 = .ok (.aload_n 0, 1) := dk_42 (dk_at dksX6_takesItem_4 22 rfl rfl)
theorem dX6_takesItem_118 : decode cX6_takesItem 118 = .ok (.getfield 75, 3) := dk_180 0 75 (dk_at dksX6_takesItem_5 0 rfl rfl)
theorem dX6_takesItem_121 : decode cX6_takesItem 121 = .ok (.iaload, 1) := dk_46 (dk_at dksX6_takesItem_5 3 rfl rfl)
theorem dX6_takesItem_122 : decode cX6_takesItem 122 = .ok (.bipush 48, 2) := dk_16 48 (dk_at dksX6_takesItem_5 4 rfl rfl)
theorem dX6_takesItem_124 : decode cX6_takesItem 124 = .ok (.isub, 1) := dk_100 (dk_at dksX6_takesItem_5 6 rfl rfl)
theorem dX6_takesItem_125 : decode cX6_takesItem 125 = .ok (.iastore, 1) := dk_79 (dk_at dksX6_takesItem_5 7 rfl rfl)
theorem dX6_takesItem_126 : decode cX6_takesItem 126 = .ok (.aload_n 0, 1) := dk_42 (dk_at dksX6_takesItem_5 8 rfl rfl)
theorem dX6_takesItem_127 : decode cX6_takesItem 127 = .ok (.getfield 7, 3) := dk_180 0 7 (dk_at dksX6_takesItem_5 9 rfl rfl)
theorem dX6_takesItem_130 : decode cX6_takesItem 130 = .ok (.iconst 1, 1) := dk_4 (dk_at dksX6_takesItem_5 12 rfl rfl)
theorem dX6_takesItem_131 : decode cX6_takesItem 131 = .ok (.dup2, 1) := dk_92 (dk_at dksX6_takesItem_5 13 rfl rfl)
theorem dX6_takesItem_132 : decode cX6_takesItem 132 = .ok (.iaload, 1) := dk_46 (dk_at dksX6_takesItem_5 14 rfl rfl)
theorem dX6_takesItem_133 : decode cX6_takesItem 133 = .ok (.iconst 1, 1) := dk_4 (dk_at dksX6_takesItem_5 15 rfl rfl)
theorem dX6_takesItem_134 : decode cX6_takesItem 134 = .ok (.iadd, 1) := dk_96 (dk_at dksX6_takesItem_5 16 rfl rfl)
theorem dX6_takesItem_135 : decode cX6_takesItem 135 = .ok (.iastore, 1) := dk_79 (dk_at dksX6_takesItem_5 17 rfl rfl)
theorem dX6_takesItem_136 : decode cX6_takesItem 136 = .ok (.aload_n 0, 1) := dk_42 (dk_at dksX6_takesItem_5 18 rfl rfl)
theorem dX6_takesItem_137 : decode cX6_takesItem 137 = .ok (.dup, 1) := dk_89 (dk_at dksX6_takesItem_5 19 rfl rfl)
theorem dX6_takesItem_138 : decode cX6_takesItem 138 = .ok (.getfield 75, 3) := dk_180 0 75 (dk_at dksX6_takesItem_5 20 rfl rfl)
theorem dX6_takesItem_141 : decode cX6_takesItem 141 = .ok (.iconst 1, 1) := dk_4 (dk_at dksX6_takesItem_5 23 rfl rfl)
theorem dX6_takesItem_142 : decode cX6_takesItem 142 = .ok (.iadd, 1) := dk_96 (dk_at dksX6_takesItem_6 0 rfl rfl)
theorem dX6_takesItem_143 : decode cX6_takesItem 143 = .ok (.putfield 75, 3) := dk_181 0 75 (dk_at dksX6_takesItem_6 1 rfl rfl)
theorem dX6_takesItem_146 : decode cX6_takesItem 146 = .ok (.aload_n 0, 1) := dk_42 (dk_at dksX6_takesItem_6 4 rfl rfl)
theorem dX6_takesItem_147 : decode cX6_takesItem 147 = .ok (.iload_n 1, 1) := dk_27 (dk_at dksX6_takesItem_6 5 rfl rfl)
theorem dX6_takesItem_148 : decode cX6_takesItem 148 = .ok (.iload_n 1, 1) := dk_27 (dk_at dksX6_takesItem_6 6 rfl rfl)
theorem dX6_takesItem_149 : decode cX6_takesItem 149 = .ok (.iconst 2, 1) := dk_5 (dk_at dksX6_takesItem_6 7 rfl rfl)
theorem dX6_takesItem_150 : decode cX6_takesItem 150 = .ok (.iadd, 1) := dk_96 (dk_at dksX6_takesItem_6 8 rfl rfl)
theorem dX6_takesItem_151 : decode cX6_takesItem 151 = .ok (.bipush 12, 2) := dk_16 12 (dk_at dksX6_takesItem_6 9 rfl rfl)
theorem dX6_takesItem_153 : decode cX6_takesItem 153 = .ok (.invokevirtual 86, 3) := dk_182 0 86 (dk_at dksX6_takesItem_6 11 rfl rfl)
theorem dX6_takesItem_156 : decode cX6_takesItem 156 = .ok (.ireturn, 1) := dk_172 (dk_at dksX6_takesItem_6 14 rfl rfl)
theorem dX6_takesItem_157 : decode cX6_takesItem 157 = .ok (.iconst 0, 1) := dk_3 (dk_at dksX6_takesItem_6 15 rfl rfl)
theorem dX6_takesItem_158 : decode cX6_takesItem 158 = .ok (.ireturn, 1) := dk_172 (dk_at dksX6_takesItem_6 16 rfl rfl)
abbrev cX6_isAt : ByteArray := prog_11_method_20_code
def yX6_isAt : MethodName := ⟨RX6, "isAt", "(II)Z"⟩
def dkwX6_isAt_1 : List UInt8 := [184, 0, 54, 153, 0, 7, 4, 167, 0, 4, 3, 172]
abbrev dktX6_isAt_1 : List UInt8 := dkwX6_isAt_1 ++ []
def dkwX6_isAt_0 : List UInt8 := [42, 180, 0, 75, 42, 180, 0, 72, 162, 0, 24, 42, 180, 0, 22, 42, 180, 0, 75, 46, 27, 28]
abbrev dktX6_isAt_0 : List UInt8 := dkwX6_isAt_0 ++ dktX6_isAt_1
theorem dksX6_isAt_0 : cX6_isAt.data.toList.drop 0 = dktX6_isAt_0 := by decide +kernel
theorem dksX6_isAt_1 : cX6_isAt.data.toList.drop 22 = dktX6_isAt_1 := dk_seg dksX6_isAt_0 22 rfl rfl
theorem dX6_isAt_0 : decode cX6_isAt 0 = .ok (.aload_n 0, 1) := dk_42 (dk_at dksX6_isAt_0 0 rfl rfl)
theorem dX6_isAt_1 : decode cX6_isAt 1 = .ok (.getfield 75, 3) := dk_180 0 75 (dk_at dksX6_isAt_0 1 rfl rfl)
theorem dX6_isAt_4 : decode cX6_isAt 4 = .ok (.aload_n 0, 1) := dk_42 (dk_at dksX6_isAt_0 4 rfl rfl)
theorem dX6_isAt_5 : decode cX6_isAt 5 = .ok (.getfield 72, 3) := dk_180 0 72 (dk_at dksX6_isAt_0 5 rfl rfl)
theorem dX6_isAt_8 : decode cX6_isAt 8 = .ok (.if_icmp .ge 24, 3) := dk_162 0 24 (dk_at dksX6_isAt_0 8 rfl rfl)
theorem dX6_isAt_11 : decode cX6_isAt 11 = .ok (.aload_n 0, 1) := dk_42 (dk_at dksX6_isAt_0 11 rfl rfl)
theorem dX6_isAt_12 : decode cX6_isAt 12 = .ok (.getfield 22, 3) := dk_180 0 22 (dk_at dksX6_isAt_0 12 rfl rfl)
theorem dX6_isAt_15 : decode cX6_isAt 15 = .ok (.aload_n 0, 1) := dk_42 (dk_at dksX6_isAt_0 15 rfl rfl)
theorem dX6_isAt_16 : decode cX6_isAt 16 = .ok (.getfield 75, 3) := dk_180 0 75 (dk_at dksX6_isAt_0 16 rfl rfl)
theorem dX6_isAt_19 : decode cX6_isAt 19 = .ok (.iaload, 1) := dk_46 (dk_at dksX6_isAt_0 19 rfl rfl)
theorem dX6_isAt_20 : decode cX6_isAt 20 = .ok (.iload_n 1, 1) := dk_27 (dk_at dksX6_isAt_0 20 rfl rfl)
theorem dX6_isAt_21 : decode cX6_isAt 21 = .ok (.iload_n 2, 1) := dk_28 (dk_at dksX6_isAt_0 21 rfl rfl)
theorem dX6_isAt_22 : decode cX6_isAt 22 = .ok (.invokestatic 54, 3) := dk_184 0 54 (dk_at dksX6_isAt_1 0 rfl rfl)
theorem dX6_isAt_25 : decode cX6_isAt 25 = .ok (.ifCond .eq 7, 3) := dk_153 0 7 (dk_at dksX6_isAt_1 3 rfl rfl)
theorem dX6_isAt_28 : decode cX6_isAt 28 = .ok (.iconst 1, 1) := dk_4 (dk_at dksX6_isAt_1 6 rfl rfl)
theorem dX6_isAt_29 : decode cX6_isAt 29 = .ok (.goto 4, 3) := dk_167 0 4 (dk_at dksX6_isAt_1 7 rfl rfl)
theorem dX6_isAt_32 : decode cX6_isAt 32 = .ok (.iconst 0, 1) := dk_3 (dk_at dksX6_isAt_1 10 rfl rfl)
theorem dX6_isAt_33 : decode cX6_isAt 33 = .ok (.ireturn, 1) := dk_172 (dk_at dksX6_isAt_1 11 rfl rfl)
abbrev cX6_stampAt : ByteArray := prog_11_method_11_code
def yX6_stampAt : MethodName := ⟨RX6, "stampAt", "(I)I"⟩
def dkwX6_stampAt_0 : List UInt8 := [16, 7, 16, 9, 26, 104, 96, 172]
abbrev dktX6_stampAt_0 : List UInt8 := dkwX6_stampAt_0 ++ []
theorem dksX6_stampAt_0 : cX6_stampAt.data.toList.drop 0 = dktX6_stampAt_0 := by decide +kernel
theorem dX6_stampAt_0 : decode cX6_stampAt 0 = .ok (.bipush 7, 2) := dk_16 7 (dk_at dksX6_stampAt_0 0 rfl rfl)
theorem dX6_stampAt_2 : decode cX6_stampAt 2 = .ok (.bipush 9, 2) := dk_16 9 (dk_at dksX6_stampAt_0 2 rfl rfl)
theorem dX6_stampAt_4 : decode cX6_stampAt 4 = .ok (.iload_n 0, 1) := dk_26 (dk_at dksX6_stampAt_0 4 rfl rfl)
theorem dX6_stampAt_5 : decode cX6_stampAt 5 = .ok (.imul, 1) := dk_104 (dk_at dksX6_stampAt_0 5 rfl rfl)
theorem dX6_stampAt_6 : decode cX6_stampAt 6 = .ok (.iadd, 1) := dk_96 (dk_at dksX6_stampAt_0 6 rfl rfl)
theorem dX6_stampAt_7 : decode cX6_stampAt 7 = .ok (.ireturn, 1) := dk_172 (dk_at dksX6_stampAt_0 7 rfl rfl)
abbrev cX6_clears : ByteArray := prog_11_method_23_code
def yX6_clears : MethodName := ⟨RX6, "clears", "(I)V"⟩
def dkwX6_clears_1 : List UInt8 := [180, 0, 7, 27, 16, 6, 96, 2, 79, 177]
abbrev dktX6_clears_1 : List UInt8 := dkwX6_clears_1 ++ []
def dkwX6_clears_0 : List UInt8 := [3, 61, 28, 16, 9, 162, 0, 18, 42, 180, 0, 7, 27, 28, 96, 3, 79, 132, 2, 1, 167, 255, 238, 42]
abbrev dktX6_clears_0 : List UInt8 := dkwX6_clears_0 ++ dktX6_clears_1
theorem dksX6_clears_0 : cX6_clears.data.toList.drop 0 = dktX6_clears_0 := by decide +kernel
theorem dksX6_clears_1 : cX6_clears.data.toList.drop 24 = dktX6_clears_1 := dk_seg dksX6_clears_0 24 rfl rfl
theorem dX6_clears_0 : decode cX6_clears 0 = .ok (.iconst 0, 1) := dk_3 (dk_at dksX6_clears_0 0 rfl rfl)
theorem dX6_clears_1 : decode cX6_clears 1 = .ok (.istore_n 2, 1) := dk_61 (dk_at dksX6_clears_0 1 rfl rfl)
theorem dX6_clears_2 : decode cX6_clears 2 = .ok (.iload_n 2, 1) := dk_28 (dk_at dksX6_clears_0 2 rfl rfl)
theorem dX6_clears_3 : decode cX6_clears 3 = .ok (.bipush 9, 2) := dk_16 9 (dk_at dksX6_clears_0 3 rfl rfl)
theorem dX6_clears_5 : decode cX6_clears 5 = .ok (.if_icmp .ge 18, 3) := dk_162 0 18 (dk_at dksX6_clears_0 5 rfl rfl)
theorem dX6_clears_8 : decode cX6_clears 8 = .ok (.aload_n 0, 1) := dk_42 (dk_at dksX6_clears_0 8 rfl rfl)
theorem dX6_clears_9 : decode cX6_clears 9 = .ok (.getfield 7, 3) := dk_180 0 7 (dk_at dksX6_clears_0 9 rfl rfl)
theorem dX6_clears_12 : decode cX6_clears 12 = .ok (.iload_n 1, 1) := dk_27 (dk_at dksX6_clears_0 12 rfl rfl)
theorem dX6_clears_13 : decode cX6_clears 13 = .ok (.iload_n 2, 1) := dk_28 (dk_at dksX6_clears_0 13 rfl rfl)
theorem dX6_clears_14 : decode cX6_clears 14 = .ok (.iadd, 1) := dk_96 (dk_at dksX6_clears_0 14 rfl rfl)
theorem dX6_clears_15 : decode cX6_clears 15 = .ok (.iconst 0, 1) := dk_3 (dk_at dksX6_clears_0 15 rfl rfl)
theorem dX6_clears_16 : decode cX6_clears 16 = .ok (.iastore, 1) := dk_79 (dk_at dksX6_clears_0 16 rfl rfl)
theorem dX6_clears_17 : decode cX6_clears 17 = .ok (.iinc 2 1, 3) := dk_132 2 1 (dk_at dksX6_clears_0 17 rfl rfl)
theorem dX6_clears_20 : decode cX6_clears 20 = .ok (.goto (-18), 3) := dk_167 255 238 (dk_at dksX6_clears_0 20 rfl rfl)
theorem dX6_clears_23 : decode cX6_clears 23 = .ok (.aload_n 0, 1) := dk_42 (dk_at dksX6_clears_0 23 rfl rfl)
theorem dX6_clears_24 : decode cX6_clears 24 = .ok (.getfield 7, 3) := dk_180 0 7 (dk_at dksX6_clears_1 0 rfl rfl)
theorem dX6_clears_27 : decode cX6_clears 27 = .ok (.iload_n 1, 1) := dk_27 (dk_at dksX6_clears_1 3 rfl rfl)
theorem dX6_clears_28 : decode cX6_clears 28 = .ok (.bipush 6, 2) := dk_16 6 (dk_at dksX6_clears_1 4 rfl rfl)
theorem dX6_clears_30 : decode cX6_clears 30 = .ok (.iadd, 1) := dk_96 (dk_at dksX6_clears_1 6 rfl rfl)
theorem dX6_clears_31 : decode cX6_clears 31 = .ok (.iconst (-1), 1) := dk_2 (dk_at dksX6_clears_1 7 rfl rfl)
theorem dX6_clears_32 : decode cX6_clears 32 = .ok (.iastore, 1) := dk_79 (dk_at dksX6_clears_1 8 rfl rfl)
theorem dX6_clears_33 : decode cX6_clears 33 = .ok (.return_, 1) := dk_177 (dk_at dksX6_clears_1 9 rfl rfl)
abbrev cX6_takesLetters : ByteArray := prog_11_method_21_code
def yX6_takesLetters : MethodName := ⟨RX6, "takesLetters", "(III)Z"⟩
def dkwX6_takesLetters_4 : List UInt8 := [54, 4, 42, 89, 180, 0, 75, 21, 4, 153, 0, 7, 4, 167, 0, 4, 3, 96, 181, 0, 75, 21, 4, 172]
abbrev dktX6_takesLetters_4 : List UInt8 := dkwX6_takesLetters_4 ++ []
def dkwX6_takesLetters_3 : List UInt8 := [180, 0, 7, 27, 46, 158, 0, 18, 42, 16, 59, 16, 59, 182, 0, 78, 153, 0, 7, 4, 167, 0, 4, 3]
abbrev dktX6_takesLetters_3 : List UInt8 := dkwX6_takesLetters_3 ++ dktX6_takesLetters_4
def dkwX6_takesLetters_2 : List UInt8 := [42, 180, 0, 7, 27, 92, 46, 4, 96, 79, 42, 89, 180, 0, 75, 4, 96, 181, 0, 75, 167, 255, 190, 42]
abbrev dktX6_takesLetters_2 : List UInt8 := dkwX6_takesLetters_2 ++ dktX6_takesLetters_3
def dkwX6_takesLetters_1 : List UInt8 := [180, 0, 7, 28, 42, 180, 0, 7, 27, 46, 96, 42, 180, 0, 22, 42, 180, 0, 75, 46, 16, 97, 100, 79]
abbrev dktX6_takesLetters_1 : List UInt8 := dkwX6_takesLetters_1 ++ dktX6_takesLetters_2
def dkwX6_takesLetters_0 : List UInt8 := [42, 16, 97, 16, 122, 182, 0, 78, 153, 0, 61, 42, 180, 0, 7, 27, 46, 29, 162, 0, 51, 42]
abbrev dktX6_takesLetters_0 : List UInt8 := dkwX6_takesLetters_0 ++ dktX6_takesLetters_1
theorem dksX6_takesLetters_0 : cX6_takesLetters.data.toList.drop 0 = dktX6_takesLetters_0 := by decide +kernel
theorem dksX6_takesLetters_1 : cX6_takesLetters.data.toList.drop 22 = dktX6_takesLetters_1 := dk_seg dksX6_takesLetters_0 22 rfl rfl
theorem dksX6_takesLetters_2 : cX6_takesLetters.data.toList.drop 46 = dktX6_takesLetters_2 := dk_seg dksX6_takesLetters_1 24 rfl rfl
theorem dksX6_takesLetters_3 : cX6_takesLetters.data.toList.drop 70 = dktX6_takesLetters_3 := dk_seg dksX6_takesLetters_2 24 rfl rfl
theorem dksX6_takesLetters_4 : cX6_takesLetters.data.toList.drop 94 = dktX6_takesLetters_4 := dk_seg dksX6_takesLetters_3 24 rfl rfl
theorem dX6_takesLetters_0 : decode cX6_takesLetters 0 = .ok (.aload_n 0, 1) := dk_42 (dk_at dksX6_takesLetters_0 0 rfl rfl)
theorem dX6_takesLetters_1 : decode cX6_takesLetters 1 = .ok (.bipush 97, 2) := dk_16 97 (dk_at dksX6_takesLetters_0 1 rfl rfl)
theorem dX6_takesLetters_3 : decode cX6_takesLetters 3 = .ok (.bipush 122, 2) := dk_16 122 (dk_at dksX6_takesLetters_0 3 rfl rfl)
theorem dX6_takesLetters_5 : decode cX6_takesLetters 5 = .ok (.invokevirtual 78, 3) := dk_182 0 78 (dk_at dksX6_takesLetters_0 5 rfl rfl)
theorem dX6_takesLetters_8 : decode cX6_takesLetters 8 = .ok (.ifCond .eq 61, 3) := dk_153 0 61 (dk_at dksX6_takesLetters_0 8 rfl rfl)
theorem dX6_takesLetters_11 : decode cX6_takesLetters 11 = .ok (.aload_n 0, 1) := dk_42 (dk_at dksX6_takesLetters_0 11 rfl rfl)
theorem dX6_takesLetters_12 : decode cX6_takesLetters 12 = .ok (.getfield 7, 3) := dk_180 0 7 (dk_at dksX6_takesLetters_0 12 rfl rfl)
theorem dX6_takesLetters_15 : decode cX6_takesLetters 15 = .ok (.iload_n 1, 1) := dk_27 (dk_at dksX6_takesLetters_0 15 rfl rfl)
theorem dX6_takesLetters_16 : decode cX6_takesLetters 16 = .ok (.iaload, 1) := dk_46 (dk_at dksX6_takesLetters_0 16 rfl rfl)
theorem dX6_takesLetters_17 : decode cX6_takesLetters 17 = .ok (.iload_n 3, 1) := dk_29 (dk_at dksX6_takesLetters_0 17 rfl rfl)
theorem dX6_takesLetters_18 : decode cX6_takesLetters 18 = .ok (.if_icmp .ge 51, 3) := dk_162 0 51 (dk_at dksX6_takesLetters_0 18 rfl rfl)
theorem dX6_takesLetters_21 : decode cX6_takesLetters 21 = .ok (.aload_n 0, 1) := dk_42 (dk_at dksX6_takesLetters_0 21 rfl rfl)
theorem dX6_takesLetters_22 : decode cX6_takesLetters 22 = .ok (.getfield 7, 3) := dk_180 0 7 (dk_at dksX6_takesLetters_1 0 rfl rfl)
theorem dX6_takesLetters_25 : decode cX6_takesLetters 25 = .ok (.iload_n 2, 1) := dk_28 (dk_at dksX6_takesLetters_1 3 rfl rfl)
theorem dX6_takesLetters_26 : decode cX6_takesLetters 26 = .ok (.aload_n 0, 1) := dk_42 (dk_at dksX6_takesLetters_1 4 rfl rfl)
theorem dX6_takesLetters_27 : decode cX6_takesLetters 27 = .ok (.getfield 7, 3) := dk_180 0 7 (dk_at dksX6_takesLetters_1 5 rfl rfl)
theorem dX6_takesLetters_30 : decode cX6_takesLetters 30 = .ok (.iload_n 1, 1) := dk_27 (dk_at dksX6_takesLetters_1 8 rfl rfl)
theorem dX6_takesLetters_31 : decode cX6_takesLetters 31 = .ok (.iaload, 1) := dk_46 (dk_at dksX6_takesLetters_1 9 rfl rfl)
theorem dX6_takesLetters_32 : decode cX6_takesLetters 32 = .ok (.iadd, 1) := dk_96 (dk_at dksX6_takesLetters_1 10 rfl rfl)
theorem dX6_takesLetters_33 : decode cX6_takesLetters 33 = .ok (.aload_n 0, 1) := dk_42 (dk_at dksX6_takesLetters_1 11 rfl rfl)
theorem dX6_takesLetters_34 : decode cX6_takesLetters 34 = .ok (.getfield 22, 3) := dk_180 0 22 (dk_at dksX6_takesLetters_1 12 rfl rfl)
theorem dX6_takesLetters_37 : decode cX6_takesLetters 37 = .ok (.aload_n 0, 1) := dk_42 (dk_at dksX6_takesLetters_1 15 rfl rfl)
theorem dX6_takesLetters_38 : decode cX6_takesLetters 38 = .ok (.getfield 75, 3) := dk_180 0 75 (dk_at dksX6_takesLetters_1 16 rfl rfl)
theorem dX6_takesLetters_41 : decode cX6_takesLetters 41 = .ok (.iaload, 1) := dk_46 (dk_at dksX6_takesLetters_1 19 rfl rfl)
theorem dX6_takesLetters_42 : decode cX6_takesLetters 42 = .ok (.bipush 97, 2) := dk_16 97 (dk_at dksX6_takesLetters_1 20 rfl rfl)
theorem dX6_takesLetters_44 : decode cX6_takesLetters 44 = .ok (.isub, 1) := dk_100 (dk_at dksX6_takesLetters_1 22 rfl rfl)
theorem dX6_takesLetters_45 : decode cX6_takesLetters 45 = .ok (.iastore, 1) := dk_79 (dk_at dksX6_takesLetters_1 23 rfl rfl)
theorem dX6_takesLetters_46 : decode cX6_takesLetters 46 = .ok (.aload_n 0, 1) := dk_42 (dk_at dksX6_takesLetters_2 0 rfl rfl)
theorem dX6_takesLetters_47 : decode cX6_takesLetters 47 = .ok (.getfield 7, 3) := dk_180 0 7 (dk_at dksX6_takesLetters_2 1 rfl rfl)
theorem dX6_takesLetters_50 : decode cX6_takesLetters 50 = .ok (.iload_n 1, 1) := dk_27 (dk_at dksX6_takesLetters_2 4 rfl rfl)
theorem dX6_takesLetters_51 : decode cX6_takesLetters 51 = .ok (.dup2, 1) := dk_92 (dk_at dksX6_takesLetters_2 5 rfl rfl)
theorem dX6_takesLetters_52 : decode cX6_takesLetters 52 = .ok (.iaload, 1) := dk_46 (dk_at dksX6_takesLetters_2 6 rfl rfl)
theorem dX6_takesLetters_53 : decode cX6_takesLetters 53 = .ok (.iconst 1, 1) := dk_4 (dk_at dksX6_takesLetters_2 7 rfl rfl)
theorem dX6_takesLetters_54 : decode cX6_takesLetters 54 = .ok (.iadd, 1) := dk_96 (dk_at dksX6_takesLetters_2 8 rfl rfl)
theorem dX6_takesLetters_55 : decode cX6_takesLetters 55 = .ok (.iastore, 1) := dk_79 (dk_at dksX6_takesLetters_2 9 rfl rfl)
theorem dX6_takesLetters_56 : decode cX6_takesLetters 56 = .ok (.aload_n 0, 1) := dk_42 (dk_at dksX6_takesLetters_2 10 rfl rfl)
theorem dX6_takesLetters_57 : decode cX6_takesLetters 57 = .ok (.dup, 1) := dk_89 (dk_at dksX6_takesLetters_2 11 rfl rfl)
theorem dX6_takesLetters_58 : decode cX6_takesLetters 58 = .ok (.getfield 75, 3) := dk_180 0 75 (dk_at dksX6_takesLetters_2 12 rfl rfl)
theorem dX6_takesLetters_61 : decode cX6_takesLetters 61 = .ok (.iconst 1, 1) := dk_4 (dk_at dksX6_takesLetters_2 15 rfl rfl)
theorem dX6_takesLetters_62 : decode cX6_takesLetters 62 = .ok (.iadd, 1) := dk_96 (dk_at dksX6_takesLetters_2 16 rfl rfl)
theorem dX6_takesLetters_63 : decode cX6_takesLetters 63 = .ok (.putfield 75, 3) := dk_181 0 75 (dk_at dksX6_takesLetters_2 17 rfl rfl)
theorem dX6_takesLetters_66 : decode cX6_takesLetters 66 = .ok (.goto (-66), 3) := dk_167 255 190 (dk_at dksX6_takesLetters_2 20 rfl rfl)
theorem dX6_takesLetters_69 : decode cX6_takesLetters 69 = .ok (.aload_n 0, 1) := dk_42 (dk_at dksX6_takesLetters_2 23 rfl rfl)
theorem dX6_takesLetters_70 : decode cX6_takesLetters 70 = .ok (.getfield 7, 3) := dk_180 0 7 (dk_at dksX6_takesLetters_3 0 rfl rfl)
theorem dX6_takesLetters_73 : decode cX6_takesLetters 73 = .ok (.iload_n 1, 1) := dk_27 (dk_at dksX6_takesLetters_3 3 rfl rfl)
theorem dX6_takesLetters_74 : decode cX6_takesLetters 74 = .ok (.iaload, 1) := dk_46 (dk_at dksX6_takesLetters_3 4 rfl rfl)
theorem dX6_takesLetters_75 : decode cX6_takesLetters 75 = .ok (.ifCond .le 18, 3) := dk_158 0 18 (dk_at dksX6_takesLetters_3 5 rfl rfl)
theorem dX6_takesLetters_78 : decode cX6_takesLetters 78 = .ok (.aload_n 0, 1) := dk_42 (dk_at dksX6_takesLetters_3 8 rfl rfl)
theorem dX6_takesLetters_79 : decode cX6_takesLetters 79 = .ok (.bipush 59, 2) := dk_16 59 (dk_at dksX6_takesLetters_3 9 rfl rfl)
theorem dX6_takesLetters_81 : decode cX6_takesLetters 81 = .ok (.bipush 59, 2) := dk_16 59 (dk_at dksX6_takesLetters_3 11 rfl rfl)
theorem dX6_takesLetters_83 : decode cX6_takesLetters 83 = .ok (.invokevirtual 78, 3) := dk_182 0 78 (dk_at dksX6_takesLetters_3 13 rfl rfl)
theorem dX6_takesLetters_86 : decode cX6_takesLetters 86 = .ok (.ifCond .eq 7, 3) := dk_153 0 7 (dk_at dksX6_takesLetters_3 16 rfl rfl)
theorem dX6_takesLetters_89 : decode cX6_takesLetters 89 = .ok (.iconst 1, 1) := dk_4 (dk_at dksX6_takesLetters_3 19 rfl rfl)
theorem dX6_takesLetters_90 : decode cX6_takesLetters 90 = .ok (.goto 4, 3) := dk_167 0 4 (dk_at dksX6_takesLetters_3 20 rfl rfl)
theorem dX6_takesLetters_93 : decode cX6_takesLetters 93 = .ok (.iconst 0, 1) := dk_3 (dk_at dksX6_takesLetters_3 23 rfl rfl)
theorem dX6_takesLetters_94 : decode cX6_takesLetters 94 = .ok (.istore 4, 2) := dk_54 4 (dk_at dksX6_takesLetters_4 0 rfl rfl)
theorem dX6_takesLetters_96 : decode cX6_takesLetters 96 = .ok (.aload_n 0, 1) := dk_42 (dk_at dksX6_takesLetters_4 2 rfl rfl)
theorem dX6_takesLetters_97 : decode cX6_takesLetters 97 = .ok (.dup, 1) := dk_89 (dk_at dksX6_takesLetters_4 3 rfl rfl)
theorem dX6_takesLetters_98 : decode cX6_takesLetters 98 = .ok (.getfield 75, 3) := dk_180 0 75 (dk_at dksX6_takesLetters_4 4 rfl rfl)
theorem dX6_takesLetters_101 : decode cX6_takesLetters 101 = .ok (.iload 4, 2) := dk_21 4 (dk_at dksX6_takesLetters_4 7 rfl rfl)
theorem dX6_takesLetters_103 : decode cX6_takesLetters 103 = .ok (.ifCond .eq 7, 3) := dk_153 0 7 (dk_at dksX6_takesLetters_4 9 rfl rfl)
theorem dX6_takesLetters_106 : decode cX6_takesLetters 106 = .ok (.iconst 1, 1) := dk_4 (dk_at dksX6_takesLetters_4 12 rfl rfl)
theorem dX6_takesLetters_107 : decode cX6_takesLetters 107 = .ok (.goto 4, 3) := dk_167 0 4 (dk_at dksX6_takesLetters_4 13 rfl rfl)
theorem dX6_takesLetters_110 : decode cX6_takesLetters 110 = .ok (.iconst 0, 1) := dk_3 (dk_at dksX6_takesLetters_4 16 rfl rfl)
theorem dX6_takesLetters_111 : decode cX6_takesLetters 111 = .ok (.iadd, 1) := dk_96 (dk_at dksX6_takesLetters_4 17 rfl rfl)
theorem dX6_takesLetters_112 : decode cX6_takesLetters 112 = .ok (.putfield 75, 3) := dk_181 0 75 (dk_at dksX6_takesLetters_4 18 rfl rfl)
theorem dX6_takesLetters_115 : decode cX6_takesLetters 115 = .ok (.iload 4, 2) := dk_21 4 (dk_at dksX6_takesLetters_4 21 rfl rfl)
theorem dX6_takesLetters_117 : decode cX6_takesLetters 117 = .ok (.ireturn, 1) := dk_172 (dk_at dksX6_takesLetters_4 23 rfl rfl)
abbrev cX6_wordAt : ByteArray := prog_11_method_12_code
def yX6_wordAt : MethodName := ⟨RX6, "wordAt", "(I)I"⟩
def dkwX6_wordAt_0 : List UInt8 := [16, 97, 16, 14, 26, 104, 96, 172]
abbrev dktX6_wordAt_0 : List UInt8 := dkwX6_wordAt_0 ++ []
theorem dksX6_wordAt_0 : cX6_wordAt.data.toList.drop 0 = dktX6_wordAt_0 := by decide +kernel
theorem dX6_wordAt_0 : decode cX6_wordAt 0 = .ok (.bipush 97, 2) := dk_16 97 (dk_at dksX6_wordAt_0 0 rfl rfl)
theorem dX6_wordAt_2 : decode cX6_wordAt 2 = .ok (.bipush 14, 2) := dk_16 14 (dk_at dksX6_wordAt_0 2 rfl rfl)
theorem dX6_wordAt_4 : decode cX6_wordAt 4 = .ok (.iload_n 0, 1) := dk_26 (dk_at dksX6_wordAt_0 4 rfl rfl)
theorem dX6_wordAt_5 : decode cX6_wordAt 5 = .ok (.imul, 1) := dk_104 (dk_at dksX6_wordAt_0 5 rfl rfl)
theorem dX6_wordAt_6 : decode cX6_wordAt 6 = .ok (.iadd, 1) := dk_96 (dk_at dksX6_wordAt_0 6 rfl rfl)
theorem dX6_wordAt_7 : decode cX6_wordAt 7 = .ok (.ireturn, 1) := dk_172 (dk_at dksX6_wordAt_0 7 rfl rfl)
abbrev cX6_takesBack : ByteArray := prog_11_method_8_code
def yX6_takesBack : MethodName := ⟨RX6, "takesBack", "()V"⟩
def dkwX6_takesBack_1 : List UInt8 := [167, 255, 234, 177]
abbrev dktX6_takesBack_1 : List UInt8 := dkwX6_takesBack_1 ++ []
def dkwX6_takesBack_0 : List UInt8 := [3, 60, 27, 17, 0, 195, 162, 0, 21, 42, 180, 0, 7, 27, 42, 180, 0, 16, 27, 46, 79, 132, 1, 1]
abbrev dktX6_takesBack_0 : List UInt8 := dkwX6_takesBack_0 ++ dktX6_takesBack_1
theorem dksX6_takesBack_0 : cX6_takesBack.data.toList.drop 0 = dktX6_takesBack_0 := by decide +kernel
theorem dksX6_takesBack_1 : cX6_takesBack.data.toList.drop 24 = dktX6_takesBack_1 := dk_seg dksX6_takesBack_0 24 rfl rfl
theorem dX6_takesBack_0 : decode cX6_takesBack 0 = .ok (.iconst 0, 1) := dk_3 (dk_at dksX6_takesBack_0 0 rfl rfl)
theorem dX6_takesBack_1 : decode cX6_takesBack 1 = .ok (.istore_n 1, 1) := dk_60 (dk_at dksX6_takesBack_0 1 rfl rfl)
theorem dX6_takesBack_2 : decode cX6_takesBack 2 = .ok (.iload_n 1, 1) := dk_27 (dk_at dksX6_takesBack_0 2 rfl rfl)
theorem dX6_takesBack_3 : decode cX6_takesBack 3 = .ok (.sipush 195, 3) := dk_17 0 195 (dk_at dksX6_takesBack_0 3 rfl rfl)
theorem dX6_takesBack_6 : decode cX6_takesBack 6 = .ok (.if_icmp .ge 21, 3) := dk_162 0 21 (dk_at dksX6_takesBack_0 6 rfl rfl)
theorem dX6_takesBack_9 : decode cX6_takesBack 9 = .ok (.aload_n 0, 1) := dk_42 (dk_at dksX6_takesBack_0 9 rfl rfl)
theorem dX6_takesBack_10 : decode cX6_takesBack 10 = .ok (.getfield 7, 3) := dk_180 0 7 (dk_at dksX6_takesBack_0 10 rfl rfl)
theorem dX6_takesBack_13 : decode cX6_takesBack 13 = .ok (.iload_n 1, 1) := dk_27 (dk_at dksX6_takesBack_0 13 rfl rfl)
theorem dX6_takesBack_14 : decode cX6_takesBack 14 = .ok (.aload_n 0, 1) := dk_42 (dk_at dksX6_takesBack_0 14 rfl rfl)
theorem dX6_takesBack_15 : decode cX6_takesBack 15 = .ok (.getfield 16, 3) := dk_180 0 16 (dk_at dksX6_takesBack_0 15 rfl rfl)
theorem dX6_takesBack_18 : decode cX6_takesBack 18 = .ok (.iload_n 1, 1) := dk_27 (dk_at dksX6_takesBack_0 18 rfl rfl)
theorem dX6_takesBack_19 : decode cX6_takesBack 19 = .ok (.iaload, 1) := dk_46 (dk_at dksX6_takesBack_0 19 rfl rfl)
theorem dX6_takesBack_20 : decode cX6_takesBack 20 = .ok (.iastore, 1) := dk_79 (dk_at dksX6_takesBack_0 20 rfl rfl)
theorem dX6_takesBack_21 : decode cX6_takesBack 21 = .ok (.iinc 1 1, 3) := dk_132 1 1 (dk_at dksX6_takesBack_0 21 rfl rfl)
theorem dX6_takesBack_24 : decode cX6_takesBack 24 = .ok (.goto (-22), 3) := dk_167 255 234 (dk_at dksX6_takesBack_1 0 rfl rfl)
theorem dX6_takesBack_27 : decode cX6_takesBack 27 = .ok (.return_, 1) := dk_177 (dk_at dksX6_takesBack_1 3 rfl rfl)
abbrev cX6_saves : ByteArray := prog_11_method_5_code
def yX6_saves : MethodName := ⟨RX6, "saves", "()V"⟩
def dkwX6_saves_4 : List UInt8 := [181, 0, 47, 177]
abbrev dktX6_saves_4 : List UInt8 := dkwX6_saves_4 ++ []
def dkwX6_saves_3 : List UInt8 := [27, 96, 42, 180, 0, 7, 27, 46, 79, 132, 1, 1, 167, 255, 225, 42, 89, 180, 0, 47, 4, 96]
abbrev dktX6_saves_3 : List UInt8 := dkwX6_saves_3 ++ dktX6_saves_4
def dkwX6_saves_2 : List UInt8 := [181, 0, 47, 3, 60, 27, 17, 0, 195, 162, 0, 30, 42, 180, 0, 13, 17, 0, 195, 42, 180, 0, 47, 104]
abbrev dktX6_saves_2 : List UInt8 := dkwX6_saves_2 ++ dktX6_saves_3
def dkwX6_saves_1 : List UInt8 := [180, 0, 13, 27, 17, 0, 195, 96, 46, 79, 132, 1, 1, 167, 255, 230, 42, 89, 180, 0, 47, 4, 100]
abbrev dktX6_saves_1 : List UInt8 := dkwX6_saves_1 ++ dktX6_saves_2
def dkwX6_saves_0 : List UInt8 := [42, 180, 0, 47, 7, 160, 0, 44, 3, 60, 27, 17, 2, 73, 162, 0, 25, 42, 180, 0, 13, 27, 42]
abbrev dktX6_saves_0 : List UInt8 := dkwX6_saves_0 ++ dktX6_saves_1
theorem dksX6_saves_0 : cX6_saves.data.toList.drop 0 = dktX6_saves_0 := by decide +kernel
theorem dksX6_saves_1 : cX6_saves.data.toList.drop 23 = dktX6_saves_1 := dk_seg dksX6_saves_0 23 rfl rfl
theorem dksX6_saves_2 : cX6_saves.data.toList.drop 46 = dktX6_saves_2 := dk_seg dksX6_saves_1 23 rfl rfl
theorem dksX6_saves_3 : cX6_saves.data.toList.drop 70 = dktX6_saves_3 := dk_seg dksX6_saves_2 24 rfl rfl
theorem dksX6_saves_4 : cX6_saves.data.toList.drop 92 = dktX6_saves_4 := dk_seg dksX6_saves_3 22 rfl rfl
theorem dX6_saves_0 : decode cX6_saves 0 = .ok (.aload_n 0, 1) := dk_42 (dk_at dksX6_saves_0 0 rfl rfl)
theorem dX6_saves_1 : decode cX6_saves 1 = .ok (.getfield 47, 3) := dk_180 0 47 (dk_at dksX6_saves_0 1 rfl rfl)
theorem dX6_saves_4 : decode cX6_saves 4 = .ok (.iconst 4, 1) := dk_7 (dk_at dksX6_saves_0 4 rfl rfl)
theorem dX6_saves_5 : decode cX6_saves 5 = .ok (.if_icmp .ne 44, 3) := dk_160 0 44 (dk_at dksX6_saves_0 5 rfl rfl)
theorem dX6_saves_8 : decode cX6_saves 8 = .ok (.iconst 0, 1) := dk_3 (dk_at dksX6_saves_0 8 rfl rfl)
theorem dX6_saves_9 : decode cX6_saves 9 = .ok (.istore_n 1, 1) := dk_60 (dk_at dksX6_saves_0 9 rfl rfl)
theorem dX6_saves_10 : decode cX6_saves 10 = .ok (.iload_n 1, 1) := dk_27 (dk_at dksX6_saves_0 10 rfl rfl)
theorem dX6_saves_11 : decode cX6_saves 11 = .ok (.sipush 585, 3) := dk_17 2 73 (dk_at dksX6_saves_0 11 rfl rfl)
theorem dX6_saves_14 : decode cX6_saves 14 = .ok (.if_icmp .ge 25, 3) := dk_162 0 25 (dk_at dksX6_saves_0 14 rfl rfl)
theorem dX6_saves_17 : decode cX6_saves 17 = .ok (.aload_n 0, 1) := dk_42 (dk_at dksX6_saves_0 17 rfl rfl)
theorem dX6_saves_18 : decode cX6_saves 18 = .ok (.getfield 13, 3) := dk_180 0 13 (dk_at dksX6_saves_0 18 rfl rfl)
theorem dX6_saves_21 : decode cX6_saves 21 = .ok (.iload_n 1, 1) := dk_27 (dk_at dksX6_saves_0 21 rfl rfl)
theorem dX6_saves_22 : decode cX6_saves 22 = .ok (.aload_n 0, 1) := dk_42 (dk_at dksX6_saves_0 22 rfl rfl)
theorem dX6_saves_23 : decode cX6_saves 23 = .ok (.getfield 13, 3) := dk_180 0 13 (dk_at dksX6_saves_1 0 rfl rfl)
theorem dX6_saves_26 : decode cX6_saves 26 = .ok (.iload_n 1, 1) := dk_27 (dk_at dksX6_saves_1 3 rfl rfl)
theorem dX6_saves_27 : decode cX6_saves 27 = .ok (.sipush 195, 3) := dk_17 0 195 (dk_at dksX6_saves_1 4 rfl rfl)
theorem dX6_saves_30 : decode cX6_saves 30 = .ok (.iadd, 1) := dk_96 (dk_at dksX6_saves_1 7 rfl rfl)
theorem dX6_saves_31 : decode cX6_saves 31 = .ok (.iaload, 1) := dk_46 (dk_at dksX6_saves_1 8 rfl rfl)
theorem dX6_saves_32 : decode cX6_saves 32 = .ok (.iastore, 1) := dk_79 (dk_at dksX6_saves_1 9 rfl rfl)
theorem dX6_saves_33 : decode cX6_saves 33 = .ok (.iinc 1 1, 3) := dk_132 1 1 (dk_at dksX6_saves_1 10 rfl rfl)
theorem dX6_saves_36 : decode cX6_saves 36 = .ok (.goto (-26), 3) := dk_167 255 230 (dk_at dksX6_saves_1 13 rfl rfl)
theorem dX6_saves_39 : decode cX6_saves 39 = .ok (.aload_n 0, 1) := dk_42 (dk_at dksX6_saves_1 16 rfl rfl)
theorem dX6_saves_40 : decode cX6_saves 40 = .ok (.dup, 1) := dk_89 (dk_at dksX6_saves_1 17 rfl rfl)
theorem dX6_saves_41 : decode cX6_saves 41 = .ok (.getfield 47, 3) := dk_180 0 47 (dk_at dksX6_saves_1 18 rfl rfl)
theorem dX6_saves_44 : decode cX6_saves 44 = .ok (.iconst 1, 1) := dk_4 (dk_at dksX6_saves_1 21 rfl rfl)
theorem dX6_saves_45 : decode cX6_saves 45 = .ok (.isub, 1) := dk_100 (dk_at dksX6_saves_1 22 rfl rfl)
theorem dX6_saves_46 : decode cX6_saves 46 = .ok (.putfield 47, 3) := dk_181 0 47 (dk_at dksX6_saves_2 0 rfl rfl)
theorem dX6_saves_49 : decode cX6_saves 49 = .ok (.iconst 0, 1) := dk_3 (dk_at dksX6_saves_2 3 rfl rfl)
theorem dX6_saves_50 : decode cX6_saves 50 = .ok (.istore_n 1, 1) := dk_60 (dk_at dksX6_saves_2 4 rfl rfl)
theorem dX6_saves_51 : decode cX6_saves 51 = .ok (.iload_n 1, 1) := dk_27 (dk_at dksX6_saves_2 5 rfl rfl)
theorem dX6_saves_52 : decode cX6_saves 52 = .ok (.sipush 195, 3) := dk_17 0 195 (dk_at dksX6_saves_2 6 rfl rfl)
theorem dX6_saves_55 : decode cX6_saves 55 = .ok (.if_icmp .ge 30, 3) := dk_162 0 30 (dk_at dksX6_saves_2 9 rfl rfl)
theorem dX6_saves_58 : decode cX6_saves 58 = .ok (.aload_n 0, 1) := dk_42 (dk_at dksX6_saves_2 12 rfl rfl)
theorem dX6_saves_59 : decode cX6_saves 59 = .ok (.getfield 13, 3) := dk_180 0 13 (dk_at dksX6_saves_2 13 rfl rfl)
theorem dX6_saves_62 : decode cX6_saves 62 = .ok (.sipush 195, 3) := dk_17 0 195 (dk_at dksX6_saves_2 16 rfl rfl)
theorem dX6_saves_65 : decode cX6_saves 65 = .ok (.aload_n 0, 1) := dk_42 (dk_at dksX6_saves_2 19 rfl rfl)
theorem dX6_saves_66 : decode cX6_saves 66 = .ok (.getfield 47, 3) := dk_180 0 47 (dk_at dksX6_saves_2 20 rfl rfl)
theorem dX6_saves_69 : decode cX6_saves 69 = .ok (.imul, 1) := dk_104 (dk_at dksX6_saves_2 23 rfl rfl)
theorem dX6_saves_70 : decode cX6_saves 70 = .ok (.iload_n 1, 1) := dk_27 (dk_at dksX6_saves_3 0 rfl rfl)
theorem dX6_saves_71 : decode cX6_saves 71 = .ok (.iadd, 1) := dk_96 (dk_at dksX6_saves_3 1 rfl rfl)
theorem dX6_saves_72 : decode cX6_saves 72 = .ok (.aload_n 0, 1) := dk_42 (dk_at dksX6_saves_3 2 rfl rfl)
theorem dX6_saves_73 : decode cX6_saves 73 = .ok (.getfield 7, 3) := dk_180 0 7 (dk_at dksX6_saves_3 3 rfl rfl)
theorem dX6_saves_76 : decode cX6_saves 76 = .ok (.iload_n 1, 1) := dk_27 (dk_at dksX6_saves_3 6 rfl rfl)
theorem dX6_saves_77 : decode cX6_saves 77 = .ok (.iaload, 1) := dk_46 (dk_at dksX6_saves_3 7 rfl rfl)
theorem dX6_saves_78 : decode cX6_saves 78 = .ok (.iastore, 1) := dk_79 (dk_at dksX6_saves_3 8 rfl rfl)
theorem dX6_saves_79 : decode cX6_saves 79 = .ok (.iinc 1 1, 3) := dk_132 1 1 (dk_at dksX6_saves_3 9 rfl rfl)
theorem dX6_saves_82 : decode cX6_saves 82 = .ok (.goto (-31), 3) := dk_167 255 225 (dk_at dksX6_saves_3 12 rfl rfl)
theorem dX6_saves_85 : decode cX6_saves 85 = .ok (.aload_n 0, 1) := dk_42 (dk_at dksX6_saves_3 15 rfl rfl)
theorem dX6_saves_86 : decode cX6_saves 86 = .ok (.dup, 1) := dk_89 (dk_at dksX6_saves_3 16 rfl rfl)
theorem dX6_saves_87 : decode cX6_saves 87 = .ok (.getfield 47, 3) := dk_180 0 47 (dk_at dksX6_saves_3 17 rfl rfl)
theorem dX6_saves_90 : decode cX6_saves 90 = .ok (.iconst 1, 1) := dk_4 (dk_at dksX6_saves_3 20 rfl rfl)
theorem dX6_saves_91 : decode cX6_saves 91 = .ok (.iadd, 1) := dk_96 (dk_at dksX6_saves_3 21 rfl rfl)
theorem dX6_saves_92 : decode cX6_saves 92 = .ok (.putfield 47, 3) := dk_181 0 47 (dk_at dksX6_saves_4 0 rfl rfl)
theorem dX6_saves_95 : decode cX6_saves 95 = .ok (.return_, 1) := dk_177 (dk_at dksX6_saves_4 3 rfl rfl)
abbrev cX6_cut : ByteArray := prog_11_method_27_code
def yX6_cut : MethodName := ⟨RX6, "cut", "(III)I"⟩
def dkwX6_cut_2 : List UInt8 := [153, 0, 5, 3, 172, 42, 182, 0, 102, 42, 27, 28, 29, 182, 0, 111, 172]
abbrev dktX6_cut_2 : List UInt8 := dkwX6_cut_2 ++ []
def dkwX6_cut_1 : List UInt8 := [167, 0, 19, 42, 180, 0, 7, 3, 46, 16, 10, 160, 0, 7, 6, 167, 0, 4, 3, 182, 0, 50]
abbrev dktX6_cut_1 : List UInt8 := dkwX6_cut_1 ++ dktX6_cut_2
def dkwX6_cut_0 : List UInt8 := [42, 42, 27, 182, 0, 105, 154, 0, 7, 4, 167, 0, 33, 42, 27, 28, 29, 182, 0, 108, 154, 0, 7, 5]
abbrev dktX6_cut_0 : List UInt8 := dkwX6_cut_0 ++ dktX6_cut_1
theorem dksX6_cut_0 : cX6_cut.data.toList.drop 0 = dktX6_cut_0 := by decide +kernel
theorem dksX6_cut_1 : cX6_cut.data.toList.drop 24 = dktX6_cut_1 := dk_seg dksX6_cut_0 24 rfl rfl
theorem dksX6_cut_2 : cX6_cut.data.toList.drop 46 = dktX6_cut_2 := dk_seg dksX6_cut_1 22 rfl rfl
theorem dX6_cut_0 : decode cX6_cut 0 = .ok (.aload_n 0, 1) := dk_42 (dk_at dksX6_cut_0 0 rfl rfl)
theorem dX6_cut_1 : decode cX6_cut 1 = .ok (.aload_n 0, 1) := dk_42 (dk_at dksX6_cut_0 1 rfl rfl)
theorem dX6_cut_2 : decode cX6_cut 2 = .ok (.iload_n 1, 1) := dk_27 (dk_at dksX6_cut_0 2 rfl rfl)
theorem dX6_cut_3 : decode cX6_cut 3 = .ok (.invokevirtual 105, 3) := dk_182 0 105 (dk_at dksX6_cut_0 3 rfl rfl)
theorem dX6_cut_6 : decode cX6_cut 6 = .ok (.ifCond .ne 7, 3) := dk_154 0 7 (dk_at dksX6_cut_0 6 rfl rfl)
theorem dX6_cut_9 : decode cX6_cut 9 = .ok (.iconst 1, 1) := dk_4 (dk_at dksX6_cut_0 9 rfl rfl)
theorem dX6_cut_10 : decode cX6_cut 10 = .ok (.goto 33, 3) := dk_167 0 33 (dk_at dksX6_cut_0 10 rfl rfl)
theorem dX6_cut_13 : decode cX6_cut 13 = .ok (.aload_n 0, 1) := dk_42 (dk_at dksX6_cut_0 13 rfl rfl)
theorem dX6_cut_14 : decode cX6_cut 14 = .ok (.iload_n 1, 1) := dk_27 (dk_at dksX6_cut_0 14 rfl rfl)
theorem dX6_cut_15 : decode cX6_cut 15 = .ok (.iload_n 2, 1) := dk_28 (dk_at dksX6_cut_0 15 rfl rfl)
theorem dX6_cut_16 : decode cX6_cut 16 = .ok (.iload_n 3, 1) := dk_29 (dk_at dksX6_cut_0 16 rfl rfl)
theorem dX6_cut_17 : decode cX6_cut 17 = .ok (.invokevirtual 108, 3) := dk_182 0 108 (dk_at dksX6_cut_0 17 rfl rfl)
theorem dX6_cut_20 : decode cX6_cut 20 = .ok (.ifCond .ne 7, 3) := dk_154 0 7 (dk_at dksX6_cut_0 20 rfl rfl)
theorem dX6_cut_23 : decode cX6_cut 23 = .ok (.iconst 2, 1) := dk_5 (dk_at dksX6_cut_0 23 rfl rfl)
theorem dX6_cut_24 : decode cX6_cut 24 = .ok (.goto 19, 3) := dk_167 0 19 (dk_at dksX6_cut_1 0 rfl rfl)
theorem dX6_cut_27 : decode cX6_cut 27 = .ok (.aload_n 0, 1) := dk_42 (dk_at dksX6_cut_1 3 rfl rfl)
theorem dX6_cut_28 : decode cX6_cut 28 = .ok (.getfield 7, 3) := dk_180 0 7 (dk_at dksX6_cut_1 4 rfl rfl)
theorem dX6_cut_31 : decode cX6_cut 31 = .ok (.iconst 0, 1) := dk_3 (dk_at dksX6_cut_1 7 rfl rfl)
theorem dX6_cut_32 : decode cX6_cut 32 = .ok (.iaload, 1) := dk_46 (dk_at dksX6_cut_1 8 rfl rfl)
theorem dX6_cut_33 : decode cX6_cut 33 = .ok (.bipush 10, 2) := dk_16 10 (dk_at dksX6_cut_1 9 rfl rfl)
theorem dX6_cut_35 : decode cX6_cut 35 = .ok (.if_icmp .ne 7, 3) := dk_160 0 7 (dk_at dksX6_cut_1 11 rfl rfl)
theorem dX6_cut_38 : decode cX6_cut 38 = .ok (.iconst 3, 1) := dk_6 (dk_at dksX6_cut_1 14 rfl rfl)
theorem dX6_cut_39 : decode cX6_cut 39 = .ok (.goto 4, 3) := dk_167 0 4 (dk_at dksX6_cut_1 15 rfl rfl)
theorem dX6_cut_42 : decode cX6_cut 42 = .ok (.iconst 0, 1) := dk_3 (dk_at dksX6_cut_1 18 rfl rfl)
theorem dX6_cut_43 : decode cX6_cut 43 = .ok (.invokevirtual 50, 3) := dk_182 0 50 (dk_at dksX6_cut_1 19 rfl rfl)
theorem dX6_cut_46 : decode cX6_cut 46 = .ok (.ifCond .eq 5, 3) := dk_153 0 5 (dk_at dksX6_cut_2 0 rfl rfl)
theorem dX6_cut_49 : decode cX6_cut 49 = .ok (.iconst 0, 1) := dk_3 (dk_at dksX6_cut_2 3 rfl rfl)
theorem dX6_cut_50 : decode cX6_cut 50 = .ok (.ireturn, 1) := dk_172 (dk_at dksX6_cut_2 4 rfl rfl)
theorem dX6_cut_51 : decode cX6_cut 51 = .ok (.aload_n 0, 1) := dk_42 (dk_at dksX6_cut_2 5 rfl rfl)
theorem dX6_cut_52 : decode cX6_cut 52 = .ok (.invokevirtual 102, 3) := dk_182 0 102 (dk_at dksX6_cut_2 6 rfl rfl)
theorem dX6_cut_55 : decode cX6_cut 55 = .ok (.aload_n 0, 1) := dk_42 (dk_at dksX6_cut_2 9 rfl rfl)
theorem dX6_cut_56 : decode cX6_cut 56 = .ok (.iload_n 1, 1) := dk_27 (dk_at dksX6_cut_2 10 rfl rfl)
theorem dX6_cut_57 : decode cX6_cut 57 = .ok (.iload_n 2, 1) := dk_28 (dk_at dksX6_cut_2 11 rfl rfl)
theorem dX6_cut_58 : decode cX6_cut 58 = .ok (.iload_n 3, 1) := dk_29 (dk_at dksX6_cut_2 12 rfl rfl)
theorem dX6_cut_59 : decode cX6_cut 59 = .ok (.invokevirtual 111, 3) := dk_182 0 111 (dk_at dksX6_cut_2 13 rfl rfl)
theorem dX6_cut_62 : decode cX6_cut 62 = .ok (.ireturn, 1) := dk_172 (dk_at dksX6_cut_2 16 rfl rfl)
abbrev cX6_isWord : ByteArray := prog_11_method_10_code
def yX6_isWord : MethodName := ⟨RX6, "isWord", "(I)Z"⟩
def dkwX6_isWord_0 : List UInt8 := [27, 3, 42, 180, 0, 7, 4, 46, 4, 100, 184, 0, 54, 172]
abbrev dktX6_isWord_0 : List UInt8 := dkwX6_isWord_0 ++ []
theorem dksX6_isWord_0 : cX6_isWord.data.toList.drop 0 = dktX6_isWord_0 := by decide +kernel
theorem dX6_isWord_0 : decode cX6_isWord 0 = .ok (.iload_n 1, 1) := dk_27 (dk_at dksX6_isWord_0 0 rfl rfl)
theorem dX6_isWord_1 : decode cX6_isWord 1 = .ok (.iconst 0, 1) := dk_3 (dk_at dksX6_isWord_0 1 rfl rfl)
theorem dX6_isWord_2 : decode cX6_isWord 2 = .ok (.aload_n 0, 1) := dk_42 (dk_at dksX6_isWord_0 2 rfl rfl)
theorem dX6_isWord_3 : decode cX6_isWord 3 = .ok (.getfield 7, 3) := dk_180 0 7 (dk_at dksX6_isWord_0 3 rfl rfl)
theorem dX6_isWord_6 : decode cX6_isWord 6 = .ok (.iconst 1, 1) := dk_4 (dk_at dksX6_isWord_0 6 rfl rfl)
theorem dX6_isWord_7 : decode cX6_isWord 7 = .ok (.iaload, 1) := dk_46 (dk_at dksX6_isWord_0 7 rfl rfl)
theorem dX6_isWord_8 : decode cX6_isWord 8 = .ok (.iconst 1, 1) := dk_4 (dk_at dksX6_isWord_0 8 rfl rfl)
theorem dX6_isWord_9 : decode cX6_isWord 9 = .ok (.isub, 1) := dk_100 (dk_at dksX6_isWord_0 9 rfl rfl)
theorem dX6_isWord_10 : decode cX6_isWord 10 = .ok (.invokestatic 54, 3) := dk_184 0 54 (dk_at dksX6_isWord_0 10 rfl rfl)
theorem dX6_isWord_13 : decode cX6_isWord 13 = .ok (.ireturn, 1) := dk_172 (dk_at dksX6_isWord_0 13 rfl rfl)
abbrev cX6_isPart : ByteArray := prog_11_method_26_code
def yX6_isPart : MethodName := ⟨RX6, "isPart", "(III)Z"⟩
def dkwX6_isPart_1 : List UInt8 := [4, 8, 184, 0, 54, 153, 0, 15, 29, 21, 4, 28, 100, 163, 0, 7, 4, 167, 0, 4, 3, 172]
abbrev dktX6_isPart_1 : List UInt8 := dkwX6_isPart_1 ++ []
def dkwX6_isPart_0 : List UInt8 := [42, 180, 0, 7, 27, 184, 0, 89, 46, 54, 4, 28, 3, 21, 4, 4, 100, 184, 0, 54, 153, 0, 24, 29]
abbrev dktX6_isPart_0 : List UInt8 := dkwX6_isPart_0 ++ dktX6_isPart_1
theorem dksX6_isPart_0 : cX6_isPart.data.toList.drop 0 = dktX6_isPart_0 := by decide +kernel
theorem dksX6_isPart_1 : cX6_isPart.data.toList.drop 24 = dktX6_isPart_1 := dk_seg dksX6_isPart_0 24 rfl rfl
theorem dX6_isPart_0 : decode cX6_isPart 0 = .ok (.aload_n 0, 1) := dk_42 (dk_at dksX6_isPart_0 0 rfl rfl)
theorem dX6_isPart_1 : decode cX6_isPart 1 = .ok (.getfield 7, 3) := dk_180 0 7 (dk_at dksX6_isPart_0 1 rfl rfl)
theorem dX6_isPart_4 : decode cX6_isPart 4 = .ok (.iload_n 1, 1) := dk_27 (dk_at dksX6_isPart_0 4 rfl rfl)
theorem dX6_isPart_5 : decode cX6_isPart 5 = .ok (.invokestatic 89, 3) := dk_184 0 89 (dk_at dksX6_isPart_0 5 rfl rfl)
theorem dX6_isPart_8 : decode cX6_isPart 8 = .ok (.iaload, 1) := dk_46 (dk_at dksX6_isPart_0 8 rfl rfl)
theorem dX6_isPart_9 : decode cX6_isPart 9 = .ok (.istore 4, 2) := dk_54 4 (dk_at dksX6_isPart_0 9 rfl rfl)
theorem dX6_isPart_11 : decode cX6_isPart 11 = .ok (.iload_n 2, 1) := dk_28 (dk_at dksX6_isPart_0 11 rfl rfl)
theorem dX6_isPart_12 : decode cX6_isPart 12 = .ok (.iconst 0, 1) := dk_3 (dk_at dksX6_isPart_0 12 rfl rfl)
theorem dX6_isPart_13 : decode cX6_isPart 13 = .ok (.iload 4, 2) := dk_21 4 (dk_at dksX6_isPart_0 13 rfl rfl)
theorem dX6_isPart_15 : decode cX6_isPart 15 = .ok (.iconst 1, 1) := dk_4 (dk_at dksX6_isPart_0 15 rfl rfl)
theorem dX6_isPart_16 : decode cX6_isPart 16 = .ok (.isub, 1) := dk_100 (dk_at dksX6_isPart_0 16 rfl rfl)
theorem dX6_isPart_17 : decode cX6_isPart 17 = .ok (.invokestatic 54, 3) := dk_184 0 54 (dk_at dksX6_isPart_0 17 rfl rfl)
theorem dX6_isPart_20 : decode cX6_isPart 20 = .ok (.ifCond .eq 24, 3) := dk_153 0 24 (dk_at dksX6_isPart_0 20 rfl rfl)
theorem dX6_isPart_23 : decode cX6_isPart 23 = .ok (.iload_n 3, 1) := dk_29 (dk_at dksX6_isPart_0 23 rfl rfl)
theorem dX6_isPart_24 : decode cX6_isPart 24 = .ok (.iconst 1, 1) := dk_4 (dk_at dksX6_isPart_1 0 rfl rfl)
theorem dX6_isPart_25 : decode cX6_isPart 25 = .ok (.iconst 5, 1) := dk_8 (dk_at dksX6_isPart_1 1 rfl rfl)
theorem dX6_isPart_26 : decode cX6_isPart 26 = .ok (.invokestatic 54, 3) := dk_184 0 54 (dk_at dksX6_isPart_1 2 rfl rfl)
theorem dX6_isPart_29 : decode cX6_isPart 29 = .ok (.ifCond .eq 15, 3) := dk_153 0 15 (dk_at dksX6_isPart_1 5 rfl rfl)
theorem dX6_isPart_32 : decode cX6_isPart 32 = .ok (.iload_n 3, 1) := dk_29 (dk_at dksX6_isPart_1 8 rfl rfl)
theorem dX6_isPart_33 : decode cX6_isPart 33 = .ok (.iload 4, 2) := dk_21 4 (dk_at dksX6_isPart_1 9 rfl rfl)
theorem dX6_isPart_35 : decode cX6_isPart 35 = .ok (.iload_n 2, 1) := dk_28 (dk_at dksX6_isPart_1 11 rfl rfl)
theorem dX6_isPart_36 : decode cX6_isPart 36 = .ok (.isub, 1) := dk_100 (dk_at dksX6_isPart_1 12 rfl rfl)
theorem dX6_isPart_37 : decode cX6_isPart 37 = .ok (.if_icmp .gt 7, 3) := dk_163 0 7 (dk_at dksX6_isPart_1 13 rfl rfl)
theorem dX6_isPart_40 : decode cX6_isPart 40 = .ok (.iconst 1, 1) := dk_4 (dk_at dksX6_isPart_1 16 rfl rfl)
theorem dX6_isPart_41 : decode cX6_isPart 41 = .ok (.goto 4, 3) := dk_167 0 4 (dk_at dksX6_isPart_1 17 rfl rfl)
theorem dX6_isPart_44 : decode cX6_isPart 44 = .ok (.iconst 0, 1) := dk_3 (dk_at dksX6_isPart_1 20 rfl rfl)
theorem dX6_isPart_45 : decode cX6_isPart 45 = .ok (.ireturn, 1) := dk_172 (dk_at dksX6_isPart_1 21 rfl rfl)
abbrev cX6_comes : ByteArray := prog_11_method_25_code
def yX6_comes : MethodName := ⟨RX6, "comes", "(III)I"⟩
def dkwX6_comes_3 : List UInt8 := [180, 0, 7, 3, 92, 46, 4, 96, 79, 42, 180, 0, 7, 3, 46, 4, 100, 172]
abbrev dktX6_comes_3 : List UInt8 := dkwX6_comes_3 ++ []
def dkwX6_comes_2 : List UInt8 := [180, 0, 7, 27, 184, 0, 89, 5, 96, 28, 96, 21, 5, 96, 46, 79, 132, 5, 1, 167, 255, 219, 42]
abbrev dktX6_comes_2 : List UInt8 := dkwX6_comes_2 ++ dktX6_comes_3
def dkwX6_comes_1 : List UInt8 := [79, 3, 54, 5, 21, 5, 29, 162, 0, 37, 42, 180, 0, 7, 21, 4, 4, 96, 21, 5, 96, 42]
abbrev dktX6_comes_1 : List UInt8 := dkwX6_comes_1 ++ dktX6_comes_2
def dkwX6_comes_0 : List UInt8 := [42, 180, 0, 7, 3, 46, 184, 0, 58, 54, 4, 42, 21, 4, 182, 0, 82, 42, 180, 0, 7, 21, 4, 29]
abbrev dktX6_comes_0 : List UInt8 := dkwX6_comes_0 ++ dktX6_comes_1
theorem dksX6_comes_0 : cX6_comes.data.toList.drop 0 = dktX6_comes_0 := by decide +kernel
theorem dksX6_comes_1 : cX6_comes.data.toList.drop 24 = dktX6_comes_1 := dk_seg dksX6_comes_0 24 rfl rfl
theorem dksX6_comes_2 : cX6_comes.data.toList.drop 46 = dktX6_comes_2 := dk_seg dksX6_comes_1 22 rfl rfl
theorem dksX6_comes_3 : cX6_comes.data.toList.drop 69 = dktX6_comes_3 := dk_seg dksX6_comes_2 23 rfl rfl
theorem dX6_comes_0 : decode cX6_comes 0 = .ok (.aload_n 0, 1) := dk_42 (dk_at dksX6_comes_0 0 rfl rfl)
theorem dX6_comes_1 : decode cX6_comes 1 = .ok (.getfield 7, 3) := dk_180 0 7 (dk_at dksX6_comes_0 1 rfl rfl)
theorem dX6_comes_4 : decode cX6_comes 4 = .ok (.iconst 0, 1) := dk_3 (dk_at dksX6_comes_0 4 rfl rfl)
theorem dX6_comes_5 : decode cX6_comes 5 = .ok (.iaload, 1) := dk_46 (dk_at dksX6_comes_0 5 rfl rfl)
theorem dX6_comes_6 : decode cX6_comes 6 = .ok (.invokestatic 58, 3) := dk_184 0 58 (dk_at dksX6_comes_0 6 rfl rfl)
theorem dX6_comes_9 : decode cX6_comes 9 = .ok (.istore 4, 2) := dk_54 4 (dk_at dksX6_comes_0 9 rfl rfl)
theorem dX6_comes_11 : decode cX6_comes 11 = .ok (.aload_n 0, 1) := dk_42 (dk_at dksX6_comes_0 11 rfl rfl)
theorem dX6_comes_12 : decode cX6_comes 12 = .ok (.iload 4, 2) := dk_21 4 (dk_at dksX6_comes_0 12 rfl rfl)
theorem dX6_comes_14 : decode cX6_comes 14 = .ok (.invokevirtual 82, 3) := dk_182 0 82 (dk_at dksX6_comes_0 14 rfl rfl)
theorem dX6_comes_17 : decode cX6_comes 17 = .ok (.aload_n 0, 1) := dk_42 (dk_at dksX6_comes_0 17 rfl rfl)
theorem dX6_comes_18 : decode cX6_comes 18 = .ok (.getfield 7, 3) := dk_180 0 7 (dk_at dksX6_comes_0 18 rfl rfl)
theorem dX6_comes_21 : decode cX6_comes 21 = .ok (.iload 4, 2) := dk_21 4 (dk_at dksX6_comes_0 21 rfl rfl)
theorem dX6_comes_23 : decode cX6_comes 23 = .ok (.iload_n 3, 1) := dk_29 (dk_at dksX6_comes_0 23 rfl rfl)
theorem dX6_comes_24 : decode cX6_comes 24 = .ok (.iastore, 1) := dk_79 (dk_at dksX6_comes_1 0 rfl rfl)
theorem dX6_comes_25 : decode cX6_comes 25 = .ok (.iconst 0, 1) := dk_3 (dk_at dksX6_comes_1 1 rfl rfl)
theorem dX6_comes_26 : decode cX6_comes 26 = .ok (.istore 5, 2) := dk_54 5 (dk_at dksX6_comes_1 2 rfl rfl)
theorem dX6_comes_28 : decode cX6_comes 28 = .ok (.iload 5, 2) := dk_21 5 (dk_at dksX6_comes_1 4 rfl rfl)
theorem dX6_comes_30 : decode cX6_comes 30 = .ok (.iload_n 3, 1) := dk_29 (dk_at dksX6_comes_1 6 rfl rfl)
theorem dX6_comes_31 : decode cX6_comes 31 = .ok (.if_icmp .ge 37, 3) := dk_162 0 37 (dk_at dksX6_comes_1 7 rfl rfl)
theorem dX6_comes_34 : decode cX6_comes 34 = .ok (.aload_n 0, 1) := dk_42 (dk_at dksX6_comes_1 10 rfl rfl)
theorem dX6_comes_35 : decode cX6_comes 35 = .ok (.getfield 7, 3) := dk_180 0 7 (dk_at dksX6_comes_1 11 rfl rfl)
theorem dX6_comes_38 : decode cX6_comes 38 = .ok (.iload 4, 2) := dk_21 4 (dk_at dksX6_comes_1 14 rfl rfl)
theorem dX6_comes_40 : decode cX6_comes 40 = .ok (.iconst 1, 1) := dk_4 (dk_at dksX6_comes_1 16 rfl rfl)
theorem dX6_comes_41 : decode cX6_comes 41 = .ok (.iadd, 1) := dk_96 (dk_at dksX6_comes_1 17 rfl rfl)
theorem dX6_comes_42 : decode cX6_comes 42 = .ok (.iload 5, 2) := dk_21 5 (dk_at dksX6_comes_1 18 rfl rfl)
theorem dX6_comes_44 : decode cX6_comes 44 = .ok (.iadd, 1) := dk_96 (dk_at dksX6_comes_1 20 rfl rfl)
theorem dX6_comes_45 : decode cX6_comes 45 = .ok (.aload_n 0, 1) := dk_42 (dk_at dksX6_comes_1 21 rfl rfl)
theorem dX6_comes_46 : decode cX6_comes 46 = .ok (.getfield 7, 3) := dk_180 0 7 (dk_at dksX6_comes_2 0 rfl rfl)
theorem dX6_comes_49 : decode cX6_comes 49 = .ok (.iload_n 1, 1) := dk_27 (dk_at dksX6_comes_2 3 rfl rfl)
theorem dX6_comes_50 : decode cX6_comes 50 = .ok (.invokestatic 89, 3) := dk_184 0 89 (dk_at dksX6_comes_2 4 rfl rfl)
theorem dX6_comes_53 : decode cX6_comes 53 = .ok (.iconst 2, 1) := dk_5 (dk_at dksX6_comes_2 7 rfl rfl)
theorem dX6_comes_54 : decode cX6_comes 54 = .ok (.iadd, 1) := dk_96 (dk_at dksX6_comes_2 8 rfl rfl)
theorem dX6_comes_55 : decode cX6_comes 55 = .ok (.iload_n 2, 1) := dk_28 (dk_at dksX6_comes_2 9 rfl rfl)
theorem dX6_comes_56 : decode cX6_comes 56 = .ok (.iadd, 1) := dk_96 (dk_at dksX6_comes_2 10 rfl rfl)
theorem dX6_comes_57 : decode cX6_comes 57 = .ok (.iload 5, 2) := dk_21 5 (dk_at dksX6_comes_2 11 rfl rfl)
theorem dX6_comes_59 : decode cX6_comes 59 = .ok (.iadd, 1) := dk_96 (dk_at dksX6_comes_2 13 rfl rfl)
theorem dX6_comes_60 : decode cX6_comes 60 = .ok (.iaload, 1) := dk_46 (dk_at dksX6_comes_2 14 rfl rfl)
theorem dX6_comes_61 : decode cX6_comes 61 = .ok (.iastore, 1) := dk_79 (dk_at dksX6_comes_2 15 rfl rfl)
theorem dX6_comes_62 : decode cX6_comes 62 = .ok (.iinc 5 1, 3) := dk_132 5 1 (dk_at dksX6_comes_2 16 rfl rfl)
theorem dX6_comes_65 : decode cX6_comes 65 = .ok (.goto (-37), 3) := dk_167 255 219 (dk_at dksX6_comes_2 19 rfl rfl)
theorem dX6_comes_68 : decode cX6_comes 68 = .ok (.aload_n 0, 1) := dk_42 (dk_at dksX6_comes_2 22 rfl rfl)
theorem dX6_comes_69 : decode cX6_comes 69 = .ok (.getfield 7, 3) := dk_180 0 7 (dk_at dksX6_comes_3 0 rfl rfl)
theorem dX6_comes_72 : decode cX6_comes 72 = .ok (.iconst 0, 1) := dk_3 (dk_at dksX6_comes_3 3 rfl rfl)
theorem dX6_comes_73 : decode cX6_comes 73 = .ok (.dup2, 1) := dk_92 (dk_at dksX6_comes_3 4 rfl rfl)
theorem dX6_comes_74 : decode cX6_comes 74 = .ok (.iaload, 1) := dk_46 (dk_at dksX6_comes_3 5 rfl rfl)
theorem dX6_comes_75 : decode cX6_comes 75 = .ok (.iconst 1, 1) := dk_4 (dk_at dksX6_comes_3 6 rfl rfl)
theorem dX6_comes_76 : decode cX6_comes 76 = .ok (.iadd, 1) := dk_96 (dk_at dksX6_comes_3 7 rfl rfl)
theorem dX6_comes_77 : decode cX6_comes 77 = .ok (.iastore, 1) := dk_79 (dk_at dksX6_comes_3 8 rfl rfl)
theorem dX6_comes_78 : decode cX6_comes 78 = .ok (.aload_n 0, 1) := dk_42 (dk_at dksX6_comes_3 9 rfl rfl)
theorem dX6_comes_79 : decode cX6_comes 79 = .ok (.getfield 7, 3) := dk_180 0 7 (dk_at dksX6_comes_3 10 rfl rfl)
theorem dX6_comes_82 : decode cX6_comes 82 = .ok (.iconst 0, 1) := dk_3 (dk_at dksX6_comes_3 13 rfl rfl)
theorem dX6_comes_83 : decode cX6_comes 83 = .ok (.iaload, 1) := dk_46 (dk_at dksX6_comes_3 14 rfl rfl)
theorem dX6_comes_84 : decode cX6_comes 84 = .ok (.iconst 1, 1) := dk_4 (dk_at dksX6_comes_3 15 rfl rfl)
theorem dX6_comes_85 : decode cX6_comes 85 = .ok (.isub, 1) := dk_100 (dk_at dksX6_comes_3 16 rfl rfl)
theorem dX6_comes_86 : decode cX6_comes 86 = .ok (.ireturn, 1) := dk_172 (dk_at dksX6_comes_3 17 rfl rfl)
abbrev cX6_remove : ByteArray := prog_11_method_28_code
def yX6_remove : MethodName := ⟨RX6, "remove", "(I)I"⟩
def dkwX6_remove_3 : List UInt8 := [132, 2, 1, 167, 255, 225, 42, 180, 0, 7, 3, 46, 172]
abbrev dktX6_remove_3 : List UInt8 := dkwX6_remove_3 ++ []
def dkwX6_remove_2 : List UInt8 := [46, 184, 0, 58, 162, 0, 24, 42, 180, 0, 7, 28, 42, 180, 0, 7, 28, 16, 9, 96, 46, 79]
abbrev dktX6_remove_2 : List UInt8 := dkwX6_remove_2 ++ dktX6_remove_3
def dkwX6_remove_1 : List UInt8 := [182, 0, 102, 42, 180, 0, 7, 3, 92, 46, 4, 100, 79, 27, 184, 0, 58, 61, 28, 42, 180, 0, 7, 3]
abbrev dktX6_remove_1 : List UInt8 := dkwX6_remove_1 ++ dktX6_remove_2
def dkwX6_remove_0 : List UInt8 := [42, 42, 27, 182, 0, 115, 153, 0, 7, 3, 167, 0, 4, 4, 182, 0, 50, 153, 0, 5, 3, 172, 42]
abbrev dktX6_remove_0 : List UInt8 := dkwX6_remove_0 ++ dktX6_remove_1
theorem dksX6_remove_0 : cX6_remove.data.toList.drop 0 = dktX6_remove_0 := by decide +kernel
theorem dksX6_remove_1 : cX6_remove.data.toList.drop 23 = dktX6_remove_1 := dk_seg dksX6_remove_0 23 rfl rfl
theorem dksX6_remove_2 : cX6_remove.data.toList.drop 47 = dktX6_remove_2 := dk_seg dksX6_remove_1 24 rfl rfl
theorem dksX6_remove_3 : cX6_remove.data.toList.drop 69 = dktX6_remove_3 := dk_seg dksX6_remove_2 22 rfl rfl
theorem dX6_remove_0 : decode cX6_remove 0 = .ok (.aload_n 0, 1) := dk_42 (dk_at dksX6_remove_0 0 rfl rfl)
theorem dX6_remove_1 : decode cX6_remove 1 = .ok (.aload_n 0, 1) := dk_42 (dk_at dksX6_remove_0 1 rfl rfl)
theorem dX6_remove_2 : decode cX6_remove 2 = .ok (.iload_n 1, 1) := dk_27 (dk_at dksX6_remove_0 2 rfl rfl)
theorem dX6_remove_3 : decode cX6_remove 3 = .ok (.invokevirtual 115, 3) := dk_182 0 115 (dk_at dksX6_remove_0 3 rfl rfl)
theorem dX6_remove_6 : decode cX6_remove 6 = .ok (.ifCond .eq 7, 3) := dk_153 0 7 (dk_at dksX6_remove_0 6 rfl rfl)
theorem dX6_remove_9 : decode cX6_remove 9 = .ok (.iconst 0, 1) := dk_3 (dk_at dksX6_remove_0 9 rfl rfl)
theorem dX6_remove_10 : decode cX6_remove 10 = .ok (.goto 4, 3) := dk_167 0 4 (dk_at dksX6_remove_0 10 rfl rfl)
theorem dX6_remove_13 : decode cX6_remove 13 = .ok (.iconst 1, 1) := dk_4 (dk_at dksX6_remove_0 13 rfl rfl)
theorem dX6_remove_14 : decode cX6_remove 14 = .ok (.invokevirtual 50, 3) := dk_182 0 50 (dk_at dksX6_remove_0 14 rfl rfl)
theorem dX6_remove_17 : decode cX6_remove 17 = .ok (.ifCond .eq 5, 3) := dk_153 0 5 (dk_at dksX6_remove_0 17 rfl rfl)
theorem dX6_remove_20 : decode cX6_remove 20 = .ok (.iconst 0, 1) := dk_3 (dk_at dksX6_remove_0 20 rfl rfl)
theorem dX6_remove_21 : decode cX6_remove 21 = .ok (.ireturn, 1) := dk_172 (dk_at dksX6_remove_0 21 rfl rfl)
theorem dX6_remove_22 : decode cX6_remove 22 = .ok (.aload_n 0, 1) := dk_42 (dk_at dksX6_remove_0 22 rfl rfl)
theorem dX6_remove_23 : decode cX6_remove 23 = .ok (.invokevirtual 102, 3) := dk_182 0 102 (dk_at dksX6_remove_1 0 rfl rfl)
theorem dX6_remove_26 : decode cX6_remove 26 = .ok (.aload_n 0, 1) := dk_42 (dk_at dksX6_remove_1 3 rfl rfl)
theorem dX6_remove_27 : decode cX6_remove 27 = .ok (.getfield 7, 3) := dk_180 0 7 (dk_at dksX6_remove_1 4 rfl rfl)
theorem dX6_remove_30 : decode cX6_remove 30 = .ok (.iconst 0, 1) := dk_3 (dk_at dksX6_remove_1 7 rfl rfl)
theorem dX6_remove_31 : decode cX6_remove 31 = .ok (.dup2, 1) := dk_92 (dk_at dksX6_remove_1 8 rfl rfl)
theorem dX6_remove_32 : decode cX6_remove 32 = .ok (.iaload, 1) := dk_46 (dk_at dksX6_remove_1 9 rfl rfl)
theorem dX6_remove_33 : decode cX6_remove 33 = .ok (.iconst 1, 1) := dk_4 (dk_at dksX6_remove_1 10 rfl rfl)
theorem dX6_remove_34 : decode cX6_remove 34 = .ok (.isub, 1) := dk_100 (dk_at dksX6_remove_1 11 rfl rfl)
theorem dX6_remove_35 : decode cX6_remove 35 = .ok (.iastore, 1) := dk_79 (dk_at dksX6_remove_1 12 rfl rfl)
theorem dX6_remove_36 : decode cX6_remove 36 = .ok (.iload_n 1, 1) := dk_27 (dk_at dksX6_remove_1 13 rfl rfl)
theorem dX6_remove_37 : decode cX6_remove 37 = .ok (.invokestatic 58, 3) := dk_184 0 58 (dk_at dksX6_remove_1 14 rfl rfl)
theorem dX6_remove_40 : decode cX6_remove 40 = .ok (.istore_n 2, 1) := dk_61 (dk_at dksX6_remove_1 17 rfl rfl)
theorem dX6_remove_41 : decode cX6_remove 41 = .ok (.iload_n 2, 1) := dk_28 (dk_at dksX6_remove_1 18 rfl rfl)
theorem dX6_remove_42 : decode cX6_remove 42 = .ok (.aload_n 0, 1) := dk_42 (dk_at dksX6_remove_1 19 rfl rfl)
theorem dX6_remove_43 : decode cX6_remove 43 = .ok (.getfield 7, 3) := dk_180 0 7 (dk_at dksX6_remove_1 20 rfl rfl)
theorem dX6_remove_46 : decode cX6_remove 46 = .ok (.iconst 0, 1) := dk_3 (dk_at dksX6_remove_1 23 rfl rfl)
theorem dX6_remove_47 : decode cX6_remove 47 = .ok (.iaload, 1) := dk_46 (dk_at dksX6_remove_2 0 rfl rfl)
theorem dX6_remove_48 : decode cX6_remove 48 = .ok (.invokestatic 58, 3) := dk_184 0 58 (dk_at dksX6_remove_2 1 rfl rfl)
theorem dX6_remove_51 : decode cX6_remove 51 = .ok (.if_icmp .ge 24, 3) := dk_162 0 24 (dk_at dksX6_remove_2 4 rfl rfl)
theorem dX6_remove_54 : decode cX6_remove 54 = .ok (.aload_n 0, 1) := dk_42 (dk_at dksX6_remove_2 7 rfl rfl)
theorem dX6_remove_55 : decode cX6_remove 55 = .ok (.getfield 7, 3) := dk_180 0 7 (dk_at dksX6_remove_2 8 rfl rfl)
theorem dX6_remove_58 : decode cX6_remove 58 = .ok (.iload_n 2, 1) := dk_28 (dk_at dksX6_remove_2 11 rfl rfl)
theorem dX6_remove_59 : decode cX6_remove 59 = .ok (.aload_n 0, 1) := dk_42 (dk_at dksX6_remove_2 12 rfl rfl)
theorem dX6_remove_60 : decode cX6_remove 60 = .ok (.getfield 7, 3) := dk_180 0 7 (dk_at dksX6_remove_2 13 rfl rfl)
theorem dX6_remove_63 : decode cX6_remove 63 = .ok (.iload_n 2, 1) := dk_28 (dk_at dksX6_remove_2 16 rfl rfl)
theorem dX6_remove_64 : decode cX6_remove 64 = .ok (.bipush 9, 2) := dk_16 9 (dk_at dksX6_remove_2 17 rfl rfl)
theorem dX6_remove_66 : decode cX6_remove 66 = .ok (.iadd, 1) := dk_96 (dk_at dksX6_remove_2 19 rfl rfl)
theorem dX6_remove_67 : decode cX6_remove 67 = .ok (.iaload, 1) := dk_46 (dk_at dksX6_remove_2 20 rfl rfl)
theorem dX6_remove_68 : decode cX6_remove 68 = .ok (.iastore, 1) := dk_79 (dk_at dksX6_remove_2 21 rfl rfl)
theorem dX6_remove_69 : decode cX6_remove 69 = .ok (.iinc 2 1, 3) := dk_132 2 1 (dk_at dksX6_remove_3 0 rfl rfl)
theorem dX6_remove_72 : decode cX6_remove 72 = .ok (.goto (-31), 3) := dk_167 255 225 (dk_at dksX6_remove_3 3 rfl rfl)
theorem dX6_remove_75 : decode cX6_remove 75 = .ok (.aload_n 0, 1) := dk_42 (dk_at dksX6_remove_3 6 rfl rfl)
theorem dX6_remove_76 : decode cX6_remove 76 = .ok (.getfield 7, 3) := dk_180 0 7 (dk_at dksX6_remove_3 7 rfl rfl)
theorem dX6_remove_79 : decode cX6_remove 79 = .ok (.iconst 0, 1) := dk_3 (dk_at dksX6_remove_3 10 rfl rfl)
theorem dX6_remove_80 : decode cX6_remove 80 = .ok (.iaload, 1) := dk_46 (dk_at dksX6_remove_3 11 rfl rfl)
theorem dX6_remove_81 : decode cX6_remove 81 = .ok (.ireturn, 1) := dk_172 (dk_at dksX6_remove_3 12 rfl rfl)
abbrev cX6_isStamp : ByteArray := prog_11_method_9_code
def yX6_isStamp : MethodName := ⟨RX6, "isStamp", "(I)Z"⟩
def dkwX6_isStamp_0 : List UInt8 := [27, 3, 42, 180, 0, 7, 3, 46, 4, 100, 184, 0, 54, 172]
abbrev dktX6_isStamp_0 : List UInt8 := dkwX6_isStamp_0 ++ []
theorem dksX6_isStamp_0 : cX6_isStamp.data.toList.drop 0 = dktX6_isStamp_0 := by decide +kernel
theorem dX6_isStamp_0 : decode cX6_isStamp 0 = .ok (.iload_n 1, 1) := dk_27 (dk_at dksX6_isStamp_0 0 rfl rfl)
theorem dX6_isStamp_1 : decode cX6_isStamp 1 = .ok (.iconst 0, 1) := dk_3 (dk_at dksX6_isStamp_0 1 rfl rfl)
theorem dX6_isStamp_2 : decode cX6_isStamp 2 = .ok (.aload_n 0, 1) := dk_42 (dk_at dksX6_isStamp_0 2 rfl rfl)
theorem dX6_isStamp_3 : decode cX6_isStamp 3 = .ok (.getfield 7, 3) := dk_180 0 7 (dk_at dksX6_isStamp_0 3 rfl rfl)
theorem dX6_isStamp_6 : decode cX6_isStamp 6 = .ok (.iconst 0, 1) := dk_3 (dk_at dksX6_isStamp_0 6 rfl rfl)
theorem dX6_isStamp_7 : decode cX6_isStamp 7 = .ok (.iaload, 1) := dk_46 (dk_at dksX6_isStamp_0 7 rfl rfl)
theorem dX6_isStamp_8 : decode cX6_isStamp 8 = .ok (.iconst 1, 1) := dk_4 (dk_at dksX6_isStamp_0 8 rfl rfl)
theorem dX6_isStamp_9 : decode cX6_isStamp 9 = .ok (.isub, 1) := dk_100 (dk_at dksX6_isStamp_0 9 rfl rfl)
theorem dX6_isStamp_10 : decode cX6_isStamp 10 = .ok (.invokestatic 54, 3) := dk_184 0 54 (dk_at dksX6_isStamp_0 10 rfl rfl)
theorem dX6_isStamp_13 : decode cX6_isStamp 13 = .ok (.ireturn, 1) := dk_172 (dk_at dksX6_isStamp_0 13 rfl rfl)
abbrev cX6_drop : ByteArray := prog_11_method_29_code
def yX6_drop : MethodName := ⟨RX6, "drop", "(I)I"⟩
def dkwX6_drop_3 : List UInt8 := [132, 2, 1, 167, 255, 225, 42, 180, 0, 7, 4, 46, 172]
abbrev dktX6_drop_3 : List UInt8 := dkwX6_drop_3 ++ []
def dkwX6_drop_2 : List UInt8 := [46, 184, 0, 89, 162, 0, 24, 42, 180, 0, 7, 28, 42, 180, 0, 7, 28, 16, 14, 96, 46, 79]
abbrev dktX6_drop_2 : List UInt8 := dkwX6_drop_2 ++ dktX6_drop_3
def dkwX6_drop_1 : List UInt8 := [182, 0, 102, 42, 180, 0, 7, 4, 92, 46, 4, 100, 79, 27, 184, 0, 89, 61, 28, 42, 180, 0, 7, 4]
abbrev dktX6_drop_1 : List UInt8 := dkwX6_drop_1 ++ dktX6_drop_2
def dkwX6_drop_0 : List UInt8 := [42, 42, 27, 182, 0, 105, 153, 0, 7, 3, 167, 0, 4, 4, 182, 0, 50, 153, 0, 5, 3, 172, 42]
abbrev dktX6_drop_0 : List UInt8 := dkwX6_drop_0 ++ dktX6_drop_1
theorem dksX6_drop_0 : cX6_drop.data.toList.drop 0 = dktX6_drop_0 := by decide +kernel
theorem dksX6_drop_1 : cX6_drop.data.toList.drop 23 = dktX6_drop_1 := dk_seg dksX6_drop_0 23 rfl rfl
theorem dksX6_drop_2 : cX6_drop.data.toList.drop 47 = dktX6_drop_2 := dk_seg dksX6_drop_1 24 rfl rfl
theorem dksX6_drop_3 : cX6_drop.data.toList.drop 69 = dktX6_drop_3 := dk_seg dksX6_drop_2 22 rfl rfl
theorem dX6_drop_0 : decode cX6_drop 0 = .ok (.aload_n 0, 1) := dk_42 (dk_at dksX6_drop_0 0 rfl rfl)
theorem dX6_drop_1 : decode cX6_drop 1 = .ok (.aload_n 0, 1) := dk_42 (dk_at dksX6_drop_0 1 rfl rfl)
theorem dX6_drop_2 : decode cX6_drop 2 = .ok (.iload_n 1, 1) := dk_27 (dk_at dksX6_drop_0 2 rfl rfl)
theorem dX6_drop_3 : decode cX6_drop 3 = .ok (.invokevirtual 105, 3) := dk_182 0 105 (dk_at dksX6_drop_0 3 rfl rfl)
theorem dX6_drop_6 : decode cX6_drop 6 = .ok (.ifCond .eq 7, 3) := dk_153 0 7 (dk_at dksX6_drop_0 6 rfl rfl)
theorem dX6_drop_9 : decode cX6_drop 9 = .ok (.iconst 0, 1) := dk_3 (dk_at dksX6_drop_0 9 rfl rfl)
theorem dX6_drop_10 : decode cX6_drop 10 = .ok (.goto 4, 3) := dk_167 0 4 (dk_at dksX6_drop_0 10 rfl rfl)
theorem dX6_drop_13 : decode cX6_drop 13 = .ok (.iconst 1, 1) := dk_4 (dk_at dksX6_drop_0 13 rfl rfl)
theorem dX6_drop_14 : decode cX6_drop 14 = .ok (.invokevirtual 50, 3) := dk_182 0 50 (dk_at dksX6_drop_0 14 rfl rfl)
theorem dX6_drop_17 : decode cX6_drop 17 = .ok (.ifCond .eq 5, 3) := dk_153 0 5 (dk_at dksX6_drop_0 17 rfl rfl)
theorem dX6_drop_20 : decode cX6_drop 20 = .ok (.iconst 0, 1) := dk_3 (dk_at dksX6_drop_0 20 rfl rfl)
theorem dX6_drop_21 : decode cX6_drop 21 = .ok (.ireturn, 1) := dk_172 (dk_at dksX6_drop_0 21 rfl rfl)
theorem dX6_drop_22 : decode cX6_drop 22 = .ok (.aload_n 0, 1) := dk_42 (dk_at dksX6_drop_0 22 rfl rfl)
theorem dX6_drop_23 : decode cX6_drop 23 = .ok (.invokevirtual 102, 3) := dk_182 0 102 (dk_at dksX6_drop_1 0 rfl rfl)
theorem dX6_drop_26 : decode cX6_drop 26 = .ok (.aload_n 0, 1) := dk_42 (dk_at dksX6_drop_1 3 rfl rfl)
theorem dX6_drop_27 : decode cX6_drop 27 = .ok (.getfield 7, 3) := dk_180 0 7 (dk_at dksX6_drop_1 4 rfl rfl)
theorem dX6_drop_30 : decode cX6_drop 30 = .ok (.iconst 1, 1) := dk_4 (dk_at dksX6_drop_1 7 rfl rfl)
theorem dX6_drop_31 : decode cX6_drop 31 = .ok (.dup2, 1) := dk_92 (dk_at dksX6_drop_1 8 rfl rfl)
theorem dX6_drop_32 : decode cX6_drop 32 = .ok (.iaload, 1) := dk_46 (dk_at dksX6_drop_1 9 rfl rfl)
theorem dX6_drop_33 : decode cX6_drop 33 = .ok (.iconst 1, 1) := dk_4 (dk_at dksX6_drop_1 10 rfl rfl)
theorem dX6_drop_34 : decode cX6_drop 34 = .ok (.isub, 1) := dk_100 (dk_at dksX6_drop_1 11 rfl rfl)
theorem dX6_drop_35 : decode cX6_drop 35 = .ok (.iastore, 1) := dk_79 (dk_at dksX6_drop_1 12 rfl rfl)
theorem dX6_drop_36 : decode cX6_drop 36 = .ok (.iload_n 1, 1) := dk_27 (dk_at dksX6_drop_1 13 rfl rfl)
theorem dX6_drop_37 : decode cX6_drop 37 = .ok (.invokestatic 89, 3) := dk_184 0 89 (dk_at dksX6_drop_1 14 rfl rfl)
theorem dX6_drop_40 : decode cX6_drop 40 = .ok (.istore_n 2, 1) := dk_61 (dk_at dksX6_drop_1 17 rfl rfl)
theorem dX6_drop_41 : decode cX6_drop 41 = .ok (.iload_n 2, 1) := dk_28 (dk_at dksX6_drop_1 18 rfl rfl)
theorem dX6_drop_42 : decode cX6_drop 42 = .ok (.aload_n 0, 1) := dk_42 (dk_at dksX6_drop_1 19 rfl rfl)
theorem dX6_drop_43 : decode cX6_drop 43 = .ok (.getfield 7, 3) := dk_180 0 7 (dk_at dksX6_drop_1 20 rfl rfl)
theorem dX6_drop_46 : decode cX6_drop 46 = .ok (.iconst 1, 1) := dk_4 (dk_at dksX6_drop_1 23 rfl rfl)
theorem dX6_drop_47 : decode cX6_drop 47 = .ok (.iaload, 1) := dk_46 (dk_at dksX6_drop_2 0 rfl rfl)
theorem dX6_drop_48 : decode cX6_drop 48 = .ok (.invokestatic 89, 3) := dk_184 0 89 (dk_at dksX6_drop_2 1 rfl rfl)
theorem dX6_drop_51 : decode cX6_drop 51 = .ok (.if_icmp .ge 24, 3) := dk_162 0 24 (dk_at dksX6_drop_2 4 rfl rfl)
theorem dX6_drop_54 : decode cX6_drop 54 = .ok (.aload_n 0, 1) := dk_42 (dk_at dksX6_drop_2 7 rfl rfl)
theorem dX6_drop_55 : decode cX6_drop 55 = .ok (.getfield 7, 3) := dk_180 0 7 (dk_at dksX6_drop_2 8 rfl rfl)
theorem dX6_drop_58 : decode cX6_drop 58 = .ok (.iload_n 2, 1) := dk_28 (dk_at dksX6_drop_2 11 rfl rfl)
theorem dX6_drop_59 : decode cX6_drop 59 = .ok (.aload_n 0, 1) := dk_42 (dk_at dksX6_drop_2 12 rfl rfl)
theorem dX6_drop_60 : decode cX6_drop 60 = .ok (.getfield 7, 3) := dk_180 0 7 (dk_at dksX6_drop_2 13 rfl rfl)
theorem dX6_drop_63 : decode cX6_drop 63 = .ok (.iload_n 2, 1) := dk_28 (dk_at dksX6_drop_2 16 rfl rfl)
theorem dX6_drop_64 : decode cX6_drop 64 = .ok (.bipush 14, 2) := dk_16 14 (dk_at dksX6_drop_2 17 rfl rfl)
theorem dX6_drop_66 : decode cX6_drop 66 = .ok (.iadd, 1) := dk_96 (dk_at dksX6_drop_2 19 rfl rfl)
theorem dX6_drop_67 : decode cX6_drop 67 = .ok (.iaload, 1) := dk_46 (dk_at dksX6_drop_2 20 rfl rfl)
theorem dX6_drop_68 : decode cX6_drop 68 = .ok (.iastore, 1) := dk_79 (dk_at dksX6_drop_2 21 rfl rfl)
theorem dX6_drop_69 : decode cX6_drop 69 = .ok (.iinc 2 1, 3) := dk_132 2 1 (dk_at dksX6_drop_3 0 rfl rfl)
theorem dX6_drop_72 : decode cX6_drop 72 = .ok (.goto (-31), 3) := dk_167 255 225 (dk_at dksX6_drop_3 3 rfl rfl)
theorem dX6_drop_75 : decode cX6_drop 75 = .ok (.aload_n 0, 1) := dk_42 (dk_at dksX6_drop_3 6 rfl rfl)
theorem dX6_drop_76 : decode cX6_drop 76 = .ok (.getfield 7, 3) := dk_180 0 7 (dk_at dksX6_drop_3 7 rfl rfl)
theorem dX6_drop_79 : decode cX6_drop 79 = .ok (.iconst 1, 1) := dk_4 (dk_at dksX6_drop_3 10 rfl rfl)
theorem dX6_drop_80 : decode cX6_drop 80 = .ok (.iaload, 1) := dk_46 (dk_at dksX6_drop_3 11 rfl rfl)
theorem dX6_drop_81 : decode cX6_drop 81 = .ok (.ireturn, 1) := dk_172 (dk_at dksX6_drop_3 12 rfl rfl)
abbrev cX6_setColor : ByteArray := prog_11_method_30_code
def yX6_setColor : MethodName := ⟨RX6, "setColor", "(II)I"⟩
def dkwX6_setColor_2 : List UInt8 := [4, 96, 46, 62, 42, 180, 0, 7, 27, 184, 0, 89, 4, 96, 28, 79, 29, 172]
abbrev dktX6_setColor_2 : List UInt8 := dkwX6_setColor_2 ++ []
def dkwX6_setColor_1 : List UInt8 := [167, 0, 4, 5, 182, 0, 50, 153, 0, 5, 3, 172, 42, 182, 0, 102, 42, 180, 0, 7, 27, 184, 0, 89]
abbrev dktX6_setColor_1 : List UInt8 := dkwX6_setColor_1 ++ dktX6_setColor_2
def dkwX6_setColor_0 : List UInt8 := [42, 42, 27, 182, 0, 105, 154, 0, 7, 4, 167, 0, 17, 28, 3, 6, 184, 0, 54, 153, 0, 7, 3]
abbrev dktX6_setColor_0 : List UInt8 := dkwX6_setColor_0 ++ dktX6_setColor_1
theorem dksX6_setColor_0 : cX6_setColor.data.toList.drop 0 = dktX6_setColor_0 := by decide +kernel
theorem dksX6_setColor_1 : cX6_setColor.data.toList.drop 23 = dktX6_setColor_1 := dk_seg dksX6_setColor_0 23 rfl rfl
theorem dksX6_setColor_2 : cX6_setColor.data.toList.drop 47 = dktX6_setColor_2 := dk_seg dksX6_setColor_1 24 rfl rfl
theorem dX6_setColor_0 : decode cX6_setColor 0 = .ok (.aload_n 0, 1) := dk_42 (dk_at dksX6_setColor_0 0 rfl rfl)
theorem dX6_setColor_1 : decode cX6_setColor 1 = .ok (.aload_n 0, 1) := dk_42 (dk_at dksX6_setColor_0 1 rfl rfl)
theorem dX6_setColor_2 : decode cX6_setColor 2 = .ok (.iload_n 1, 1) := dk_27 (dk_at dksX6_setColor_0 2 rfl rfl)
theorem dX6_setColor_3 : decode cX6_setColor 3 = .ok (.invokevirtual 105, 3) := dk_182 0 105 (dk_at dksX6_setColor_0 3 rfl rfl)
theorem dX6_setColor_6 : decode cX6_setColor 6 = .ok (.ifCond .ne 7, 3) := dk_154 0 7 (dk_at dksX6_setColor_0 6 rfl rfl)
theorem dX6_setColor_9 : decode cX6_setColor 9 = .ok (.iconst 1, 1) := dk_4 (dk_at dksX6_setColor_0 9 rfl rfl)
theorem dX6_setColor_10 : decode cX6_setColor 10 = .ok (.goto 17, 3) := dk_167 0 17 (dk_at dksX6_setColor_0 10 rfl rfl)
theorem dX6_setColor_13 : decode cX6_setColor 13 = .ok (.iload_n 2, 1) := dk_28 (dk_at dksX6_setColor_0 13 rfl rfl)
theorem dX6_setColor_14 : decode cX6_setColor 14 = .ok (.iconst 0, 1) := dk_3 (dk_at dksX6_setColor_0 14 rfl rfl)
theorem dX6_setColor_15 : decode cX6_setColor 15 = .ok (.iconst 3, 1) := dk_6 (dk_at dksX6_setColor_0 15 rfl rfl)
theorem dX6_setColor_16 : decode cX6_setColor 16 = .ok (.invokestatic 54, 3) := dk_184 0 54 (dk_at dksX6_setColor_0 16 rfl rfl)
theorem dX6_setColor_19 : decode cX6_setColor 19 = .ok (.ifCond .eq 7, 3) := dk_153 0 7 (dk_at dksX6_setColor_0 19 rfl rfl)
theorem dX6_setColor_22 : decode cX6_setColor 22 = .ok (.iconst 0, 1) := dk_3 (dk_at dksX6_setColor_0 22 rfl rfl)
theorem dX6_setColor_23 : decode cX6_setColor 23 = .ok (.goto 4, 3) := dk_167 0 4 (dk_at dksX6_setColor_1 0 rfl rfl)
theorem dX6_setColor_26 : decode cX6_setColor 26 = .ok (.iconst 2, 1) := dk_5 (dk_at dksX6_setColor_1 3 rfl rfl)
theorem dX6_setColor_27 : decode cX6_setColor 27 = .ok (.invokevirtual 50, 3) := dk_182 0 50 (dk_at dksX6_setColor_1 4 rfl rfl)
theorem dX6_setColor_30 : decode cX6_setColor 30 = .ok (.ifCond .eq 5, 3) := dk_153 0 5 (dk_at dksX6_setColor_1 7 rfl rfl)
theorem dX6_setColor_33 : decode cX6_setColor 33 = .ok (.iconst 0, 1) := dk_3 (dk_at dksX6_setColor_1 10 rfl rfl)
theorem dX6_setColor_34 : decode cX6_setColor 34 = .ok (.ireturn, 1) := dk_172 (dk_at dksX6_setColor_1 11 rfl rfl)
theorem dX6_setColor_35 : decode cX6_setColor 35 = .ok (.aload_n 0, 1) := dk_42 (dk_at dksX6_setColor_1 12 rfl rfl)
theorem dX6_setColor_36 : decode cX6_setColor 36 = .ok (.invokevirtual 102, 3) := dk_182 0 102 (dk_at dksX6_setColor_1 13 rfl rfl)
theorem dX6_setColor_39 : decode cX6_setColor 39 = .ok (.aload_n 0, 1) := dk_42 (dk_at dksX6_setColor_1 16 rfl rfl)
theorem dX6_setColor_40 : decode cX6_setColor 40 = .ok (.getfield 7, 3) := dk_180 0 7 (dk_at dksX6_setColor_1 17 rfl rfl)
theorem dX6_setColor_43 : decode cX6_setColor 43 = .ok (.iload_n 1, 1) := dk_27 (dk_at dksX6_setColor_1 20 rfl rfl)
theorem dX6_setColor_44 : decode cX6_setColor 44 = .ok (.invokestatic 89, 3) := dk_184 0 89 (dk_at dksX6_setColor_1 21 rfl rfl)
theorem dX6_setColor_47 : decode cX6_setColor 47 = .ok (.iconst 1, 1) := dk_4 (dk_at dksX6_setColor_2 0 rfl rfl)
theorem dX6_setColor_48 : decode cX6_setColor 48 = .ok (.iadd, 1) := dk_96 (dk_at dksX6_setColor_2 1 rfl rfl)
theorem dX6_setColor_49 : decode cX6_setColor 49 = .ok (.iaload, 1) := dk_46 (dk_at dksX6_setColor_2 2 rfl rfl)
theorem dX6_setColor_50 : decode cX6_setColor 50 = .ok (.istore_n 3, 1) := dk_62 (dk_at dksX6_setColor_2 3 rfl rfl)
theorem dX6_setColor_51 : decode cX6_setColor 51 = .ok (.aload_n 0, 1) := dk_42 (dk_at dksX6_setColor_2 4 rfl rfl)
theorem dX6_setColor_52 : decode cX6_setColor 52 = .ok (.getfield 7, 3) := dk_180 0 7 (dk_at dksX6_setColor_2 5 rfl rfl)
theorem dX6_setColor_55 : decode cX6_setColor 55 = .ok (.iload_n 1, 1) := dk_27 (dk_at dksX6_setColor_2 8 rfl rfl)
theorem dX6_setColor_56 : decode cX6_setColor 56 = .ok (.invokestatic 89, 3) := dk_184 0 89 (dk_at dksX6_setColor_2 9 rfl rfl)
theorem dX6_setColor_59 : decode cX6_setColor 59 = .ok (.iconst 1, 1) := dk_4 (dk_at dksX6_setColor_2 12 rfl rfl)
theorem dX6_setColor_60 : decode cX6_setColor 60 = .ok (.iadd, 1) := dk_96 (dk_at dksX6_setColor_2 13 rfl rfl)
theorem dX6_setColor_61 : decode cX6_setColor 61 = .ok (.iload_n 2, 1) := dk_28 (dk_at dksX6_setColor_2 14 rfl rfl)
theorem dX6_setColor_62 : decode cX6_setColor 62 = .ok (.iastore, 1) := dk_79 (dk_at dksX6_setColor_2 15 rfl rfl)
theorem dX6_setColor_63 : decode cX6_setColor 63 = .ok (.iload_n 3, 1) := dk_29 (dk_at dksX6_setColor_2 16 rfl rfl)
theorem dX6_setColor_64 : decode cX6_setColor 64 = .ok (.ireturn, 1) := dk_172 (dk_at dksX6_setColor_2 17 rfl rfl)
abbrev cX6_setLimits : ByteArray := prog_11_method_31_code
def yX6_setLimits : MethodName := ⟨RX6, "setLimits", "(II)I"⟩
def dkwX6_setLimits_2 : List UInt8 := [180, 0, 7, 5, 27, 79, 42, 180, 0, 7, 6, 28, 79, 29, 172]
abbrev dktX6_setLimits_2 : List UInt8 := dkwX6_setLimits_2 ++ []
def dkwX6_setLimits_1 : List UInt8 := [167, 0, 4, 4, 182, 0, 50, 153, 0, 5, 3, 172, 42, 182, 0, 102, 42, 180, 0, 7, 5, 46, 62, 42]
abbrev dktX6_setLimits_1 : List UInt8 := dkwX6_setLimits_1 ++ dktX6_setLimits_2
def dkwX6_setLimits_0 : List UInt8 := [42, 27, 4, 17, 0, 200, 184, 0, 54, 153, 0, 17, 28, 4, 16, 20, 184, 0, 54, 153, 0, 7, 3]
abbrev dktX6_setLimits_0 : List UInt8 := dkwX6_setLimits_0 ++ dktX6_setLimits_1
theorem dksX6_setLimits_0 : cX6_setLimits.data.toList.drop 0 = dktX6_setLimits_0 := by decide +kernel
theorem dksX6_setLimits_1 : cX6_setLimits.data.toList.drop 23 = dktX6_setLimits_1 := dk_seg dksX6_setLimits_0 23 rfl rfl
theorem dksX6_setLimits_2 : cX6_setLimits.data.toList.drop 47 = dktX6_setLimits_2 := dk_seg dksX6_setLimits_1 24 rfl rfl
theorem dX6_setLimits_0 : decode cX6_setLimits 0 = .ok (.aload_n 0, 1) := dk_42 (dk_at dksX6_setLimits_0 0 rfl rfl)
theorem dX6_setLimits_1 : decode cX6_setLimits 1 = .ok (.iload_n 1, 1) := dk_27 (dk_at dksX6_setLimits_0 1 rfl rfl)
theorem dX6_setLimits_2 : decode cX6_setLimits 2 = .ok (.iconst 1, 1) := dk_4 (dk_at dksX6_setLimits_0 2 rfl rfl)
theorem dX6_setLimits_3 : decode cX6_setLimits 3 = .ok (.sipush 200, 3) := dk_17 0 200 (dk_at dksX6_setLimits_0 3 rfl rfl)
theorem dX6_setLimits_6 : decode cX6_setLimits 6 = .ok (.invokestatic 54, 3) := dk_184 0 54 (dk_at dksX6_setLimits_0 6 rfl rfl)
theorem dX6_setLimits_9 : decode cX6_setLimits 9 = .ok (.ifCond .eq 17, 3) := dk_153 0 17 (dk_at dksX6_setLimits_0 9 rfl rfl)
theorem dX6_setLimits_12 : decode cX6_setLimits 12 = .ok (.iload_n 2, 1) := dk_28 (dk_at dksX6_setLimits_0 12 rfl rfl)
theorem dX6_setLimits_13 : decode cX6_setLimits 13 = .ok (.iconst 1, 1) := dk_4 (dk_at dksX6_setLimits_0 13 rfl rfl)
theorem dX6_setLimits_14 : decode cX6_setLimits 14 = .ok (.bipush 20, 2) := dk_16 20 (dk_at dksX6_setLimits_0 14 rfl rfl)
theorem dX6_setLimits_16 : decode cX6_setLimits 16 = .ok (.invokestatic 54, 3) := dk_184 0 54 (dk_at dksX6_setLimits_0 16 rfl rfl)
theorem dX6_setLimits_19 : decode cX6_setLimits 19 = .ok (.ifCond .eq 7, 3) := dk_153 0 7 (dk_at dksX6_setLimits_0 19 rfl rfl)
theorem dX6_setLimits_22 : decode cX6_setLimits 22 = .ok (.iconst 0, 1) := dk_3 (dk_at dksX6_setLimits_0 22 rfl rfl)
theorem dX6_setLimits_23 : decode cX6_setLimits 23 = .ok (.goto 4, 3) := dk_167 0 4 (dk_at dksX6_setLimits_1 0 rfl rfl)
theorem dX6_setLimits_26 : decode cX6_setLimits 26 = .ok (.iconst 1, 1) := dk_4 (dk_at dksX6_setLimits_1 3 rfl rfl)
theorem dX6_setLimits_27 : decode cX6_setLimits 27 = .ok (.invokevirtual 50, 3) := dk_182 0 50 (dk_at dksX6_setLimits_1 4 rfl rfl)
theorem dX6_setLimits_30 : decode cX6_setLimits 30 = .ok (.ifCond .eq 5, 3) := dk_153 0 5 (dk_at dksX6_setLimits_1 7 rfl rfl)
theorem dX6_setLimits_33 : decode cX6_setLimits 33 = .ok (.iconst 0, 1) := dk_3 (dk_at dksX6_setLimits_1 10 rfl rfl)
theorem dX6_setLimits_34 : decode cX6_setLimits 34 = .ok (.ireturn, 1) := dk_172 (dk_at dksX6_setLimits_1 11 rfl rfl)
theorem dX6_setLimits_35 : decode cX6_setLimits 35 = .ok (.aload_n 0, 1) := dk_42 (dk_at dksX6_setLimits_1 12 rfl rfl)
theorem dX6_setLimits_36 : decode cX6_setLimits 36 = .ok (.invokevirtual 102, 3) := dk_182 0 102 (dk_at dksX6_setLimits_1 13 rfl rfl)
theorem dX6_setLimits_39 : decode cX6_setLimits 39 = .ok (.aload_n 0, 1) := dk_42 (dk_at dksX6_setLimits_1 16 rfl rfl)
theorem dX6_setLimits_40 : decode cX6_setLimits 40 = .ok (.getfield 7, 3) := dk_180 0 7 (dk_at dksX6_setLimits_1 17 rfl rfl)
theorem dX6_setLimits_43 : decode cX6_setLimits 43 = .ok (.iconst 2, 1) := dk_5 (dk_at dksX6_setLimits_1 20 rfl rfl)
theorem dX6_setLimits_44 : decode cX6_setLimits 44 = .ok (.iaload, 1) := dk_46 (dk_at dksX6_setLimits_1 21 rfl rfl)
theorem dX6_setLimits_45 : decode cX6_setLimits 45 = .ok (.istore_n 3, 1) := dk_62 (dk_at dksX6_setLimits_1 22 rfl rfl)
theorem dX6_setLimits_46 : decode cX6_setLimits 46 = .ok (.aload_n 0, 1) := dk_42 (dk_at dksX6_setLimits_1 23 rfl rfl)
theorem dX6_setLimits_47 : decode cX6_setLimits 47 = .ok (.getfield 7, 3) := dk_180 0 7 (dk_at dksX6_setLimits_2 0 rfl rfl)
theorem dX6_setLimits_50 : decode cX6_setLimits 50 = .ok (.iconst 2, 1) := dk_5 (dk_at dksX6_setLimits_2 3 rfl rfl)
theorem dX6_setLimits_51 : decode cX6_setLimits 51 = .ok (.iload_n 1, 1) := dk_27 (dk_at dksX6_setLimits_2 4 rfl rfl)
theorem dX6_setLimits_52 : decode cX6_setLimits 52 = .ok (.iastore, 1) := dk_79 (dk_at dksX6_setLimits_2 5 rfl rfl)
theorem dX6_setLimits_53 : decode cX6_setLimits 53 = .ok (.aload_n 0, 1) := dk_42 (dk_at dksX6_setLimits_2 6 rfl rfl)
theorem dX6_setLimits_54 : decode cX6_setLimits 54 = .ok (.getfield 7, 3) := dk_180 0 7 (dk_at dksX6_setLimits_2 7 rfl rfl)
theorem dX6_setLimits_57 : decode cX6_setLimits 57 = .ok (.iconst 3, 1) := dk_6 (dk_at dksX6_setLimits_2 10 rfl rfl)
theorem dX6_setLimits_58 : decode cX6_setLimits 58 = .ok (.iload_n 2, 1) := dk_28 (dk_at dksX6_setLimits_2 11 rfl rfl)
theorem dX6_setLimits_59 : decode cX6_setLimits 59 = .ok (.iastore, 1) := dk_79 (dk_at dksX6_setLimits_2 12 rfl rfl)
theorem dX6_setLimits_60 : decode cX6_setLimits 60 = .ok (.iload_n 3, 1) := dk_29 (dk_at dksX6_setLimits_2 13 rfl rfl)
theorem dX6_setLimits_61 : decode cX6_setLimits 61 = .ok (.ireturn, 1) := dk_172 (dk_at dksX6_setLimits_2 14 rfl rfl)
abbrev cX6_clean : ByteArray := prog_11_method_32_code
def yX6_clean : MethodName := ⟨RX6, "clean", "(I)I"⟩
def dkwX6_clean_3 : List UInt8 := [2, 79, 42, 180, 0, 7, 28, 16, 7, 96, 3, 79, 29, 172]
abbrev dktX6_clean_3 : List UInt8 := dkwX6_clean_3 ++ []
def dkwX6_clean_2 : List UInt8 := [167, 0, 4, 4, 62, 42, 180, 0, 7, 16, 6, 92, 46, 29, 96, 79, 42, 180, 0, 7, 28, 16, 6, 96]
abbrev dktX6_clean_2 : List UInt8 := dkwX6_clean_2 ++ dktX6_clean_3
def dkwX6_clean_1 : List UInt8 := [182, 0, 102, 27, 184, 0, 58, 61, 42, 180, 0, 7, 28, 16, 6, 96, 46, 2, 160, 0, 7, 3]
abbrev dktX6_clean_1 : List UInt8 := dkwX6_clean_1 ++ dktX6_clean_2
def dkwX6_clean_0 : List UInt8 := [42, 42, 27, 182, 0, 115, 153, 0, 7, 3, 167, 0, 4, 4, 182, 0, 50, 153, 0, 5, 3, 172, 42]
abbrev dktX6_clean_0 : List UInt8 := dkwX6_clean_0 ++ dktX6_clean_1
theorem dksX6_clean_0 : cX6_clean.data.toList.drop 0 = dktX6_clean_0 := by decide +kernel
theorem dksX6_clean_1 : cX6_clean.data.toList.drop 23 = dktX6_clean_1 := dk_seg dksX6_clean_0 23 rfl rfl
theorem dksX6_clean_2 : cX6_clean.data.toList.drop 45 = dktX6_clean_2 := dk_seg dksX6_clean_1 22 rfl rfl
theorem dksX6_clean_3 : cX6_clean.data.toList.drop 69 = dktX6_clean_3 := dk_seg dksX6_clean_2 24 rfl rfl
theorem dX6_clean_0 : decode cX6_clean 0 = .ok (.aload_n 0, 1) := dk_42 (dk_at dksX6_clean_0 0 rfl rfl)
theorem dX6_clean_1 : decode cX6_clean 1 = .ok (.aload_n 0, 1) := dk_42 (dk_at dksX6_clean_0 1 rfl rfl)
theorem dX6_clean_2 : decode cX6_clean 2 = .ok (.iload_n 1, 1) := dk_27 (dk_at dksX6_clean_0 2 rfl rfl)
theorem dX6_clean_3 : decode cX6_clean 3 = .ok (.invokevirtual 115, 3) := dk_182 0 115 (dk_at dksX6_clean_0 3 rfl rfl)
theorem dX6_clean_6 : decode cX6_clean 6 = .ok (.ifCond .eq 7, 3) := dk_153 0 7 (dk_at dksX6_clean_0 6 rfl rfl)
theorem dX6_clean_9 : decode cX6_clean 9 = .ok (.iconst 0, 1) := dk_3 (dk_at dksX6_clean_0 9 rfl rfl)
theorem dX6_clean_10 : decode cX6_clean 10 = .ok (.goto 4, 3) := dk_167 0 4 (dk_at dksX6_clean_0 10 rfl rfl)
theorem dX6_clean_13 : decode cX6_clean 13 = .ok (.iconst 1, 1) := dk_4 (dk_at dksX6_clean_0 13 rfl rfl)
theorem dX6_clean_14 : decode cX6_clean 14 = .ok (.invokevirtual 50, 3) := dk_182 0 50 (dk_at dksX6_clean_0 14 rfl rfl)
theorem dX6_clean_17 : decode cX6_clean 17 = .ok (.ifCond .eq 5, 3) := dk_153 0 5 (dk_at dksX6_clean_0 17 rfl rfl)
theorem dX6_clean_20 : decode cX6_clean 20 = .ok (.iconst 0, 1) := dk_3 (dk_at dksX6_clean_0 20 rfl rfl)
theorem dX6_clean_21 : decode cX6_clean 21 = .ok (.ireturn, 1) := dk_172 (dk_at dksX6_clean_0 21 rfl rfl)
theorem dX6_clean_22 : decode cX6_clean 22 = .ok (.aload_n 0, 1) := dk_42 (dk_at dksX6_clean_0 22 rfl rfl)
theorem dX6_clean_23 : decode cX6_clean 23 = .ok (.invokevirtual 102, 3) := dk_182 0 102 (dk_at dksX6_clean_1 0 rfl rfl)
theorem dX6_clean_26 : decode cX6_clean 26 = .ok (.iload_n 1, 1) := dk_27 (dk_at dksX6_clean_1 3 rfl rfl)
theorem dX6_clean_27 : decode cX6_clean 27 = .ok (.invokestatic 58, 3) := dk_184 0 58 (dk_at dksX6_clean_1 4 rfl rfl)
theorem dX6_clean_30 : decode cX6_clean 30 = .ok (.istore_n 2, 1) := dk_61 (dk_at dksX6_clean_1 7 rfl rfl)
theorem dX6_clean_31 : decode cX6_clean 31 = .ok (.aload_n 0, 1) := dk_42 (dk_at dksX6_clean_1 8 rfl rfl)
theorem dX6_clean_32 : decode cX6_clean 32 = .ok (.getfield 7, 3) := dk_180 0 7 (dk_at dksX6_clean_1 9 rfl rfl)
theorem dX6_clean_35 : decode cX6_clean 35 = .ok (.iload_n 2, 1) := dk_28 (dk_at dksX6_clean_1 12 rfl rfl)
theorem dX6_clean_36 : decode cX6_clean 36 = .ok (.bipush 6, 2) := dk_16 6 (dk_at dksX6_clean_1 13 rfl rfl)
theorem dX6_clean_38 : decode cX6_clean 38 = .ok (.iadd, 1) := dk_96 (dk_at dksX6_clean_1 15 rfl rfl)
theorem dX6_clean_39 : decode cX6_clean 39 = .ok (.iaload, 1) := dk_46 (dk_at dksX6_clean_1 16 rfl rfl)
theorem dX6_clean_40 : decode cX6_clean 40 = .ok (.iconst (-1), 1) := dk_2 (dk_at dksX6_clean_1 17 rfl rfl)
theorem dX6_clean_41 : decode cX6_clean 41 = .ok (.if_icmp .ne 7, 3) := dk_160 0 7 (dk_at dksX6_clean_1 18 rfl rfl)
theorem dX6_clean_44 : decode cX6_clean 44 = .ok (.iconst 0, 1) := dk_3 (dk_at dksX6_clean_1 21 rfl rfl)
theorem dX6_clean_45 : decode cX6_clean 45 = .ok (.goto 4, 3) := dk_167 0 4 (dk_at dksX6_clean_2 0 rfl rfl)
theorem dX6_clean_48 : decode cX6_clean 48 = .ok (.iconst 1, 1) := dk_4 (dk_at dksX6_clean_2 3 rfl rfl)
theorem dX6_clean_49 : decode cX6_clean 49 = .ok (.istore_n 3, 1) := dk_62 (dk_at dksX6_clean_2 4 rfl rfl)
theorem dX6_clean_50 : decode cX6_clean 50 = .ok (.aload_n 0, 1) := dk_42 (dk_at dksX6_clean_2 5 rfl rfl)
theorem dX6_clean_51 : decode cX6_clean 51 = .ok (.getfield 7, 3) := dk_180 0 7 (dk_at dksX6_clean_2 6 rfl rfl)
theorem dX6_clean_54 : decode cX6_clean 54 = .ok (.bipush 6, 2) := dk_16 6 (dk_at dksX6_clean_2 9 rfl rfl)
theorem dX6_clean_56 : decode cX6_clean 56 = .ok (.dup2, 1) := dk_92 (dk_at dksX6_clean_2 11 rfl rfl)
theorem dX6_clean_57 : decode cX6_clean 57 = .ok (.iaload, 1) := dk_46 (dk_at dksX6_clean_2 12 rfl rfl)
theorem dX6_clean_58 : decode cX6_clean 58 = .ok (.iload_n 3, 1) := dk_29 (dk_at dksX6_clean_2 13 rfl rfl)
theorem dX6_clean_59 : decode cX6_clean 59 = .ok (.iadd, 1) := dk_96 (dk_at dksX6_clean_2 14 rfl rfl)
theorem dX6_clean_60 : decode cX6_clean 60 = .ok (.iastore, 1) := dk_79 (dk_at dksX6_clean_2 15 rfl rfl)
theorem dX6_clean_61 : decode cX6_clean 61 = .ok (.aload_n 0, 1) := dk_42 (dk_at dksX6_clean_2 16 rfl rfl)
theorem dX6_clean_62 : decode cX6_clean 62 = .ok (.getfield 7, 3) := dk_180 0 7 (dk_at dksX6_clean_2 17 rfl rfl)
theorem dX6_clean_65 : decode cX6_clean 65 = .ok (.iload_n 2, 1) := dk_28 (dk_at dksX6_clean_2 20 rfl rfl)
theorem dX6_clean_66 : decode cX6_clean 66 = .ok (.bipush 6, 2) := dk_16 6 (dk_at dksX6_clean_2 21 rfl rfl)
theorem dX6_clean_68 : decode cX6_clean 68 = .ok (.iadd, 1) := dk_96 (dk_at dksX6_clean_2 23 rfl rfl)
theorem dX6_clean_69 : decode cX6_clean 69 = .ok (.iconst (-1), 1) := dk_2 (dk_at dksX6_clean_3 0 rfl rfl)
theorem dX6_clean_70 : decode cX6_clean 70 = .ok (.iastore, 1) := dk_79 (dk_at dksX6_clean_3 1 rfl rfl)
theorem dX6_clean_71 : decode cX6_clean 71 = .ok (.aload_n 0, 1) := dk_42 (dk_at dksX6_clean_3 2 rfl rfl)
theorem dX6_clean_72 : decode cX6_clean 72 = .ok (.getfield 7, 3) := dk_180 0 7 (dk_at dksX6_clean_3 3 rfl rfl)
theorem dX6_clean_75 : decode cX6_clean 75 = .ok (.iload_n 2, 1) := dk_28 (dk_at dksX6_clean_3 6 rfl rfl)
theorem dX6_clean_76 : decode cX6_clean 76 = .ok (.bipush 7, 2) := dk_16 7 (dk_at dksX6_clean_3 7 rfl rfl)
theorem dX6_clean_78 : decode cX6_clean 78 = .ok (.iadd, 1) := dk_96 (dk_at dksX6_clean_3 9 rfl rfl)
theorem dX6_clean_79 : decode cX6_clean 79 = .ok (.iconst 0, 1) := dk_3 (dk_at dksX6_clean_3 10 rfl rfl)
theorem dX6_clean_80 : decode cX6_clean 80 = .ok (.iastore, 1) := dk_79 (dk_at dksX6_clean_3 11 rfl rfl)
theorem dX6_clean_81 : decode cX6_clean 81 = .ok (.iload_n 3, 1) := dk_29 (dk_at dksX6_clean_3 12 rfl rfl)
theorem dX6_clean_82 : decode cX6_clean 82 = .ok (.ireturn, 1) := dk_172 (dk_at dksX6_clean_3 13 rfl rfl)
abbrev cX6_value : ByteArray := prog_11_method_42_code
def yX6_value : MethodName := ⟨RX6, "value", "(I)I"⟩
def dkwX6_value_1 : List UInt8 := [167, 0, 8, 42, 27, 182, 0, 148, 172]
abbrev dktX6_value_1 : List UInt8 := dkwX6_value_1 ++ []
def dkwX6_value_0 : List UInt8 := [42, 27, 3, 16, 8, 184, 0, 54, 153, 0, 7, 3, 167, 0, 4, 4, 182, 0, 50, 153, 0, 7, 3]
abbrev dktX6_value_0 : List UInt8 := dkwX6_value_0 ++ dktX6_value_1
theorem dksX6_value_0 : cX6_value.data.toList.drop 0 = dktX6_value_0 := by decide +kernel
theorem dksX6_value_1 : cX6_value.data.toList.drop 23 = dktX6_value_1 := dk_seg dksX6_value_0 23 rfl rfl
theorem dX6_value_0 : decode cX6_value 0 = .ok (.aload_n 0, 1) := dk_42 (dk_at dksX6_value_0 0 rfl rfl)
theorem dX6_value_1 : decode cX6_value 1 = .ok (.iload_n 1, 1) := dk_27 (dk_at dksX6_value_0 1 rfl rfl)
theorem dX6_value_2 : decode cX6_value 2 = .ok (.iconst 0, 1) := dk_3 (dk_at dksX6_value_0 2 rfl rfl)
theorem dX6_value_3 : decode cX6_value 3 = .ok (.bipush 8, 2) := dk_16 8 (dk_at dksX6_value_0 3 rfl rfl)
theorem dX6_value_5 : decode cX6_value 5 = .ok (.invokestatic 54, 3) := dk_184 0 54 (dk_at dksX6_value_0 5 rfl rfl)
theorem dX6_value_8 : decode cX6_value 8 = .ok (.ifCond .eq 7, 3) := dk_153 0 7 (dk_at dksX6_value_0 8 rfl rfl)
theorem dX6_value_11 : decode cX6_value 11 = .ok (.iconst 0, 1) := dk_3 (dk_at dksX6_value_0 11 rfl rfl)
theorem dX6_value_12 : decode cX6_value 12 = .ok (.goto 4, 3) := dk_167 0 4 (dk_at dksX6_value_0 12 rfl rfl)
theorem dX6_value_15 : decode cX6_value 15 = .ok (.iconst 1, 1) := dk_4 (dk_at dksX6_value_0 15 rfl rfl)
theorem dX6_value_16 : decode cX6_value 16 = .ok (.invokevirtual 50, 3) := dk_182 0 50 (dk_at dksX6_value_0 16 rfl rfl)
theorem dX6_value_19 : decode cX6_value 19 = .ok (.ifCond .eq 7, 3) := dk_153 0 7 (dk_at dksX6_value_0 19 rfl rfl)
theorem dX6_value_22 : decode cX6_value 22 = .ok (.iconst 0, 1) := dk_3 (dk_at dksX6_value_0 22 rfl rfl)
theorem dX6_value_23 : decode cX6_value 23 = .ok (.goto 8, 3) := dk_167 0 8 (dk_at dksX6_value_1 0 rfl rfl)
theorem dX6_value_26 : decode cX6_value 26 = .ok (.aload_n 0, 1) := dk_42 (dk_at dksX6_value_1 3 rfl rfl)
theorem dX6_value_27 : decode cX6_value 27 = .ok (.iload_n 1, 1) := dk_27 (dk_at dksX6_value_1 4 rfl rfl)
theorem dX6_value_28 : decode cX6_value 28 = .ok (.invokevirtual 148, 3) := dk_182 0 148 (dk_at dksX6_value_1 5 rfl rfl)
theorem dX6_value_31 : decode cX6_value 31 = .ok (.ireturn, 1) := dk_172 (dk_at dksX6_value_1 8 rfl rfl)
abbrev cX6_tellValue : ByteArray := prog_11_method_41_code
def yX6_tellValue : MethodName := ⟨RX6, "tellValue", "(I)I"⟩
def dkwX6_tellValue_1 : List UInt8 := [182, 0, 142, 167, 0, 7, 42, 182, 0, 145, 172]
abbrev dktX6_tellValue_1 : List UInt8 := dkwX6_tellValue_1 ++ []
def dkwX6_tellValue_0 : List UInt8 := [27, 16, 7, 162, 0, 12, 42, 180, 0, 7, 27, 46, 167, 0, 20, 27, 16, 7, 160, 0, 10, 42]
abbrev dktX6_tellValue_0 : List UInt8 := dkwX6_tellValue_0 ++ dktX6_tellValue_1
theorem dksX6_tellValue_0 : cX6_tellValue.data.toList.drop 0 = dktX6_tellValue_0 := by decide +kernel
theorem dksX6_tellValue_1 : cX6_tellValue.data.toList.drop 22 = dktX6_tellValue_1 := dk_seg dksX6_tellValue_0 22 rfl rfl
theorem dX6_tellValue_0 : decode cX6_tellValue 0 = .ok (.iload_n 1, 1) := dk_27 (dk_at dksX6_tellValue_0 0 rfl rfl)
theorem dX6_tellValue_1 : decode cX6_tellValue 1 = .ok (.bipush 7, 2) := dk_16 7 (dk_at dksX6_tellValue_0 1 rfl rfl)
theorem dX6_tellValue_3 : decode cX6_tellValue 3 = .ok (.if_icmp .ge 12, 3) := dk_162 0 12 (dk_at dksX6_tellValue_0 3 rfl rfl)
theorem dX6_tellValue_6 : decode cX6_tellValue 6 = .ok (.aload_n 0, 1) := dk_42 (dk_at dksX6_tellValue_0 6 rfl rfl)
theorem dX6_tellValue_7 : decode cX6_tellValue 7 = .ok (.getfield 7, 3) := dk_180 0 7 (dk_at dksX6_tellValue_0 7 rfl rfl)
theorem dX6_tellValue_10 : decode cX6_tellValue 10 = .ok (.iload_n 1, 1) := dk_27 (dk_at dksX6_tellValue_0 10 rfl rfl)
theorem dX6_tellValue_11 : decode cX6_tellValue 11 = .ok (.iaload, 1) := dk_46 (dk_at dksX6_tellValue_0 11 rfl rfl)
theorem dX6_tellValue_12 : decode cX6_tellValue 12 = .ok (.goto 20, 3) := dk_167 0 20 (dk_at dksX6_tellValue_0 12 rfl rfl)
theorem dX6_tellValue_15 : decode cX6_tellValue 15 = .ok (.iload_n 1, 1) := dk_27 (dk_at dksX6_tellValue_0 15 rfl rfl)
theorem dX6_tellValue_16 : decode cX6_tellValue 16 = .ok (.bipush 7, 2) := dk_16 7 (dk_at dksX6_tellValue_0 16 rfl rfl)
theorem dX6_tellValue_18 : decode cX6_tellValue 18 = .ok (.if_icmp .ne 10, 3) := dk_160 0 10 (dk_at dksX6_tellValue_0 18 rfl rfl)
theorem dX6_tellValue_21 : decode cX6_tellValue 21 = .ok (.aload_n 0, 1) := dk_42 (dk_at dksX6_tellValue_0 21 rfl rfl)
theorem dX6_tellValue_22 : decode cX6_tellValue 22 = .ok (.invokevirtual 142, 3) := dk_182 0 142 (dk_at dksX6_tellValue_1 0 rfl rfl)
theorem dX6_tellValue_25 : decode cX6_tellValue 25 = .ok (.goto 7, 3) := dk_167 0 7 (dk_at dksX6_tellValue_1 3 rfl rfl)
theorem dX6_tellValue_28 : decode cX6_tellValue 28 = .ok (.aload_n 0, 1) := dk_42 (dk_at dksX6_tellValue_1 6 rfl rfl)
theorem dX6_tellValue_29 : decode cX6_tellValue 29 = .ok (.invokevirtual 145, 3) := dk_182 0 145 (dk_at dksX6_tellValue_1 7 rfl rfl)
theorem dX6_tellValue_32 : decode cX6_tellValue 32 = .ok (.ireturn, 1) := dk_172 (dk_at dksX6_tellValue_1 10 rfl rfl)
abbrev cX6_wornOut : ByteArray := prog_11_method_39_code
def yX6_wornOut : MethodName := ⟨RX6, "wornOut", "()I"⟩
def dkwX6_wornOut_1 : List UInt8 := [167, 0, 4, 3, 96, 60, 132, 2, 1, 167, 255, 227, 27, 172]
abbrev dktX6_wornOut_1 : List UInt8 := dkwX6_wornOut_1 ++ []
def dkwX6_wornOut_0 : List UInt8 := [3, 60, 3, 61, 28, 42, 180, 0, 7, 3, 46, 162, 0, 25, 27, 42, 28, 182, 0, 118, 153, 0, 7, 4]
abbrev dktX6_wornOut_0 : List UInt8 := dkwX6_wornOut_0 ++ dktX6_wornOut_1
theorem dksX6_wornOut_0 : cX6_wornOut.data.toList.drop 0 = dktX6_wornOut_0 := by decide +kernel
theorem dksX6_wornOut_1 : cX6_wornOut.data.toList.drop 24 = dktX6_wornOut_1 := dk_seg dksX6_wornOut_0 24 rfl rfl
theorem dX6_wornOut_0 : decode cX6_wornOut 0 = .ok (.iconst 0, 1) := dk_3 (dk_at dksX6_wornOut_0 0 rfl rfl)
theorem dX6_wornOut_1 : decode cX6_wornOut 1 = .ok (.istore_n 1, 1) := dk_60 (dk_at dksX6_wornOut_0 1 rfl rfl)
theorem dX6_wornOut_2 : decode cX6_wornOut 2 = .ok (.iconst 0, 1) := dk_3 (dk_at dksX6_wornOut_0 2 rfl rfl)
theorem dX6_wornOut_3 : decode cX6_wornOut 3 = .ok (.istore_n 2, 1) := dk_61 (dk_at dksX6_wornOut_0 3 rfl rfl)
theorem dX6_wornOut_4 : decode cX6_wornOut 4 = .ok (.iload_n 2, 1) := dk_28 (dk_at dksX6_wornOut_0 4 rfl rfl)
theorem dX6_wornOut_5 : decode cX6_wornOut 5 = .ok (.aload_n 0, 1) := dk_42 (dk_at dksX6_wornOut_0 5 rfl rfl)
theorem dX6_wornOut_6 : decode cX6_wornOut 6 = .ok (.getfield 7, 3) := dk_180 0 7 (dk_at dksX6_wornOut_0 6 rfl rfl)
theorem dX6_wornOut_9 : decode cX6_wornOut 9 = .ok (.iconst 0, 1) := dk_3 (dk_at dksX6_wornOut_0 9 rfl rfl)
theorem dX6_wornOut_10 : decode cX6_wornOut 10 = .ok (.iaload, 1) := dk_46 (dk_at dksX6_wornOut_0 10 rfl rfl)
theorem dX6_wornOut_11 : decode cX6_wornOut 11 = .ok (.if_icmp .ge 25, 3) := dk_162 0 25 (dk_at dksX6_wornOut_0 11 rfl rfl)
theorem dX6_wornOut_14 : decode cX6_wornOut 14 = .ok (.iload_n 1, 1) := dk_27 (dk_at dksX6_wornOut_0 14 rfl rfl)
theorem dX6_wornOut_15 : decode cX6_wornOut 15 = .ok (.aload_n 0, 1) := dk_42 (dk_at dksX6_wornOut_0 15 rfl rfl)
theorem dX6_wornOut_16 : decode cX6_wornOut 16 = .ok (.iload_n 2, 1) := dk_28 (dk_at dksX6_wornOut_0 16 rfl rfl)
theorem dX6_wornOut_17 : decode cX6_wornOut 17 = .ok (.invokevirtual 118, 3) := dk_182 0 118 (dk_at dksX6_wornOut_0 17 rfl rfl)
theorem dX6_wornOut_20 : decode cX6_wornOut 20 = .ok (.ifCond .eq 7, 3) := dk_153 0 7 (dk_at dksX6_wornOut_0 20 rfl rfl)
theorem dX6_wornOut_23 : decode cX6_wornOut 23 = .ok (.iconst 1, 1) := dk_4 (dk_at dksX6_wornOut_0 23 rfl rfl)
theorem dX6_wornOut_24 : decode cX6_wornOut 24 = .ok (.goto 4, 3) := dk_167 0 4 (dk_at dksX6_wornOut_1 0 rfl rfl)
theorem dX6_wornOut_27 : decode cX6_wornOut 27 = .ok (.iconst 0, 1) := dk_3 (dk_at dksX6_wornOut_1 3 rfl rfl)
theorem dX6_wornOut_28 : decode cX6_wornOut 28 = .ok (.iadd, 1) := dk_96 (dk_at dksX6_wornOut_1 4 rfl rfl)
theorem dX6_wornOut_29 : decode cX6_wornOut 29 = .ok (.istore_n 1, 1) := dk_60 (dk_at dksX6_wornOut_1 5 rfl rfl)
theorem dX6_wornOut_30 : decode cX6_wornOut 30 = .ok (.iinc 2 1, 3) := dk_132 2 1 (dk_at dksX6_wornOut_1 6 rfl rfl)
theorem dX6_wornOut_33 : decode cX6_wornOut 33 = .ok (.goto (-29), 3) := dk_167 255 227 (dk_at dksX6_wornOut_1 9 rfl rfl)
theorem dX6_wornOut_36 : decode cX6_wornOut 36 = .ok (.iload_n 1, 1) := dk_27 (dk_at dksX6_wornOut_1 12 rfl rfl)
theorem dX6_wornOut_37 : decode cX6_wornOut 37 = .ok (.ireturn, 1) := dk_172 (dk_at dksX6_wornOut_1 13 rfl rfl)
abbrev cX6_isWorn : ByteArray := prog_11_method_13_code
def yX6_isWorn : MethodName := ⟨RX6, "isWorn", "(I)Z"⟩
def dkwX6_isWorn_1 : List UInt8 := [167, 0, 4, 3, 172]
abbrev dktX6_isWorn_1 : List UInt8 := dkwX6_isWorn_1 ++ []
def dkwX6_isWorn_0 : List UInt8 := [42, 180, 0, 7, 27, 184, 0, 58, 16, 8, 96, 46, 42, 180, 0, 7, 5, 46, 161, 0, 7, 4]
abbrev dktX6_isWorn_0 : List UInt8 := dkwX6_isWorn_0 ++ dktX6_isWorn_1
theorem dksX6_isWorn_0 : cX6_isWorn.data.toList.drop 0 = dktX6_isWorn_0 := by decide +kernel
theorem dksX6_isWorn_1 : cX6_isWorn.data.toList.drop 22 = dktX6_isWorn_1 := dk_seg dksX6_isWorn_0 22 rfl rfl
theorem dX6_isWorn_0 : decode cX6_isWorn 0 = .ok (.aload_n 0, 1) := dk_42 (dk_at dksX6_isWorn_0 0 rfl rfl)
theorem dX6_isWorn_1 : decode cX6_isWorn 1 = .ok (.getfield 7, 3) := dk_180 0 7 (dk_at dksX6_isWorn_0 1 rfl rfl)
theorem dX6_isWorn_4 : decode cX6_isWorn 4 = .ok (.iload_n 1, 1) := dk_27 (dk_at dksX6_isWorn_0 4 rfl rfl)
theorem dX6_isWorn_5 : decode cX6_isWorn 5 = .ok (.invokestatic 58, 3) := dk_184 0 58 (dk_at dksX6_isWorn_0 5 rfl rfl)
theorem dX6_isWorn_8 : decode cX6_isWorn 8 = .ok (.bipush 8, 2) := dk_16 8 (dk_at dksX6_isWorn_0 8 rfl rfl)
theorem dX6_isWorn_10 : decode cX6_isWorn 10 = .ok (.iadd, 1) := dk_96 (dk_at dksX6_isWorn_0 10 rfl rfl)
theorem dX6_isWorn_11 : decode cX6_isWorn 11 = .ok (.iaload, 1) := dk_46 (dk_at dksX6_isWorn_0 11 rfl rfl)
theorem dX6_isWorn_12 : decode cX6_isWorn 12 = .ok (.aload_n 0, 1) := dk_42 (dk_at dksX6_isWorn_0 12 rfl rfl)
theorem dX6_isWorn_13 : decode cX6_isWorn 13 = .ok (.getfield 7, 3) := dk_180 0 7 (dk_at dksX6_isWorn_0 13 rfl rfl)
theorem dX6_isWorn_16 : decode cX6_isWorn 16 = .ok (.iconst 2, 1) := dk_5 (dk_at dksX6_isWorn_0 16 rfl rfl)
theorem dX6_isWorn_17 : decode cX6_isWorn 17 = .ok (.iaload, 1) := dk_46 (dk_at dksX6_isWorn_0 17 rfl rfl)
theorem dX6_isWorn_18 : decode cX6_isWorn 18 = .ok (.if_icmp .lt 7, 3) := dk_161 0 7 (dk_at dksX6_isWorn_0 18 rfl rfl)
theorem dX6_isWorn_21 : decode cX6_isWorn 21 = .ok (.iconst 1, 1) := dk_4 (dk_at dksX6_isWorn_0 21 rfl rfl)
theorem dX6_isWorn_22 : decode cX6_isWorn 22 = .ok (.goto 4, 3) := dk_167 0 4 (dk_at dksX6_isWorn_1 0 rfl rfl)
theorem dX6_isWorn_25 : decode cX6_isWorn 25 = .ok (.iconst 0, 1) := dk_3 (dk_at dksX6_isWorn_1 3 rfl rfl)
theorem dX6_isWorn_26 : decode cX6_isWorn 26 = .ok (.ireturn, 1) := dk_172 (dk_at dksX6_isWorn_1 4 rfl rfl)
abbrev cX6_withPlan : ByteArray := prog_11_method_40_code
def yX6_withPlan : MethodName := ⟨RX6, "withPlan", "()I"⟩
def dkwX6_withPlan_1 : List UInt8 := [2, 160, 0, 7, 3, 167, 0, 4, 4, 96, 60, 132, 2, 1, 167, 255, 222, 27, 172]
abbrev dktX6_withPlan_1 : List UInt8 := dkwX6_withPlan_1 ++ []
def dkwX6_withPlan_0 : List UInt8 := [3, 60, 3, 61, 28, 42, 180, 0, 7, 4, 46, 162, 0, 30, 27, 42, 28, 42, 182, 0, 135, 182, 0, 131]
abbrev dktX6_withPlan_0 : List UInt8 := dkwX6_withPlan_0 ++ dktX6_withPlan_1
theorem dksX6_withPlan_0 : cX6_withPlan.data.toList.drop 0 = dktX6_withPlan_0 := by decide +kernel
theorem dksX6_withPlan_1 : cX6_withPlan.data.toList.drop 24 = dktX6_withPlan_1 := dk_seg dksX6_withPlan_0 24 rfl rfl
theorem dX6_withPlan_0 : decode cX6_withPlan 0 = .ok (.iconst 0, 1) := dk_3 (dk_at dksX6_withPlan_0 0 rfl rfl)
theorem dX6_withPlan_1 : decode cX6_withPlan 1 = .ok (.istore_n 1, 1) := dk_60 (dk_at dksX6_withPlan_0 1 rfl rfl)
theorem dX6_withPlan_2 : decode cX6_withPlan 2 = .ok (.iconst 0, 1) := dk_3 (dk_at dksX6_withPlan_0 2 rfl rfl)
theorem dX6_withPlan_3 : decode cX6_withPlan 3 = .ok (.istore_n 2, 1) := dk_61 (dk_at dksX6_withPlan_0 3 rfl rfl)
theorem dX6_withPlan_4 : decode cX6_withPlan 4 = .ok (.iload_n 2, 1) := dk_28 (dk_at dksX6_withPlan_0 4 rfl rfl)
theorem dX6_withPlan_5 : decode cX6_withPlan 5 = .ok (.aload_n 0, 1) := dk_42 (dk_at dksX6_withPlan_0 5 rfl rfl)
theorem dX6_withPlan_6 : decode cX6_withPlan 6 = .ok (.getfield 7, 3) := dk_180 0 7 (dk_at dksX6_withPlan_0 6 rfl rfl)
theorem dX6_withPlan_9 : decode cX6_withPlan 9 = .ok (.iconst 1, 1) := dk_4 (dk_at dksX6_withPlan_0 9 rfl rfl)
theorem dX6_withPlan_10 : decode cX6_withPlan 10 = .ok (.iaload, 1) := dk_46 (dk_at dksX6_withPlan_0 10 rfl rfl)
theorem dX6_withPlan_11 : decode cX6_withPlan 11 = .ok (.if_icmp .ge 30, 3) := dk_162 0 30 (dk_at dksX6_withPlan_0 11 rfl rfl)
theorem dX6_withPlan_14 : decode cX6_withPlan 14 = .ok (.iload_n 1, 1) := dk_27 (dk_at dksX6_withPlan_0 14 rfl rfl)
theorem dX6_withPlan_15 : decode cX6_withPlan 15 = .ok (.aload_n 0, 1) := dk_42 (dk_at dksX6_withPlan_0 15 rfl rfl)
theorem dX6_withPlan_16 : decode cX6_withPlan 16 = .ok (.iload_n 2, 1) := dk_28 (dk_at dksX6_withPlan_0 16 rfl rfl)
theorem dX6_withPlan_17 : decode cX6_withPlan 17 = .ok (.aload_n 0, 1) := dk_42 (dk_at dksX6_withPlan_0 17 rfl rfl)
theorem dX6_withPlan_18 : decode cX6_withPlan 18 = .ok (.invokevirtual 135, 3) := dk_182 0 135 (dk_at dksX6_withPlan_0 18 rfl rfl)
theorem dX6_withPlan_21 : decode cX6_withPlan 21 = .ok (.invokevirtual 131, 3) := dk_182 0 131 (dk_at dksX6_withPlan_0 21 rfl rfl)
theorem dX6_withPlan_24 : decode cX6_withPlan 24 = .ok (.iconst (-1), 1) := dk_2 (dk_at dksX6_withPlan_1 0 rfl rfl)
theorem dX6_withPlan_25 : decode cX6_withPlan 25 = .ok (.if_icmp .ne 7, 3) := dk_160 0 7 (dk_at dksX6_withPlan_1 1 rfl rfl)
theorem dX6_withPlan_28 : decode cX6_withPlan 28 = .ok (.iconst 0, 1) := dk_3 (dk_at dksX6_withPlan_1 4 rfl rfl)
theorem dX6_withPlan_29 : decode cX6_withPlan 29 = .ok (.goto 4, 3) := dk_167 0 4 (dk_at dksX6_withPlan_1 5 rfl rfl)
theorem dX6_withPlan_32 : decode cX6_withPlan 32 = .ok (.iconst 1, 1) := dk_4 (dk_at dksX6_withPlan_1 8 rfl rfl)
theorem dX6_withPlan_33 : decode cX6_withPlan 33 = .ok (.iadd, 1) := dk_96 (dk_at dksX6_withPlan_1 9 rfl rfl)
theorem dX6_withPlan_34 : decode cX6_withPlan 34 = .ok (.istore_n 1, 1) := dk_60 (dk_at dksX6_withPlan_1 10 rfl rfl)
theorem dX6_withPlan_35 : decode cX6_withPlan 35 = .ok (.iinc 2 1, 3) := dk_132 2 1 (dk_at dksX6_withPlan_1 11 rfl rfl)
theorem dX6_withPlan_38 : decode cX6_withPlan 38 = .ok (.goto (-34), 3) := dk_167 255 222 (dk_at dksX6_withPlan_1 14 rfl rfl)
theorem dX6_withPlan_41 : decode cX6_withPlan 41 = .ok (.iload_n 1, 1) := dk_27 (dk_at dksX6_withPlan_1 17 rfl rfl)
theorem dX6_withPlan_42 : decode cX6_withPlan 42 = .ok (.ireturn, 1) := dk_172 (dk_at dksX6_withPlan_1 18 rfl rfl)
abbrev cX6_fresh : ByteArray := prog_11_method_34_code
def yX6_fresh : MethodName := ⟨RX6, "fresh", "()I"⟩
def dkwX6_fresh_1 : List UInt8 := [167, 0, 6, 4, 28, 120, 128, 60, 132, 2, 1, 167, 255, 225, 27, 172]
abbrev dktX6_fresh_1 : List UInt8 := dkwX6_fresh_1 ++ []
def dkwX6_fresh_0 : List UInt8 := [3, 60, 3, 61, 28, 42, 180, 0, 7, 3, 46, 162, 0, 27, 27, 42, 28, 182, 0, 118, 153, 0, 7, 3]
abbrev dktX6_fresh_0 : List UInt8 := dkwX6_fresh_0 ++ dktX6_fresh_1
theorem dksX6_fresh_0 : cX6_fresh.data.toList.drop 0 = dktX6_fresh_0 := by decide +kernel
theorem dksX6_fresh_1 : cX6_fresh.data.toList.drop 24 = dktX6_fresh_1 := dk_seg dksX6_fresh_0 24 rfl rfl
theorem dX6_fresh_0 : decode cX6_fresh 0 = .ok (.iconst 0, 1) := dk_3 (dk_at dksX6_fresh_0 0 rfl rfl)
theorem dX6_fresh_1 : decode cX6_fresh 1 = .ok (.istore_n 1, 1) := dk_60 (dk_at dksX6_fresh_0 1 rfl rfl)
theorem dX6_fresh_2 : decode cX6_fresh 2 = .ok (.iconst 0, 1) := dk_3 (dk_at dksX6_fresh_0 2 rfl rfl)
theorem dX6_fresh_3 : decode cX6_fresh 3 = .ok (.istore_n 2, 1) := dk_61 (dk_at dksX6_fresh_0 3 rfl rfl)
theorem dX6_fresh_4 : decode cX6_fresh 4 = .ok (.iload_n 2, 1) := dk_28 (dk_at dksX6_fresh_0 4 rfl rfl)
theorem dX6_fresh_5 : decode cX6_fresh 5 = .ok (.aload_n 0, 1) := dk_42 (dk_at dksX6_fresh_0 5 rfl rfl)
theorem dX6_fresh_6 : decode cX6_fresh 6 = .ok (.getfield 7, 3) := dk_180 0 7 (dk_at dksX6_fresh_0 6 rfl rfl)
theorem dX6_fresh_9 : decode cX6_fresh 9 = .ok (.iconst 0, 1) := dk_3 (dk_at dksX6_fresh_0 9 rfl rfl)
theorem dX6_fresh_10 : decode cX6_fresh 10 = .ok (.iaload, 1) := dk_46 (dk_at dksX6_fresh_0 10 rfl rfl)
theorem dX6_fresh_11 : decode cX6_fresh 11 = .ok (.if_icmp .ge 27, 3) := dk_162 0 27 (dk_at dksX6_fresh_0 11 rfl rfl)
theorem dX6_fresh_14 : decode cX6_fresh 14 = .ok (.iload_n 1, 1) := dk_27 (dk_at dksX6_fresh_0 14 rfl rfl)
theorem dX6_fresh_15 : decode cX6_fresh 15 = .ok (.aload_n 0, 1) := dk_42 (dk_at dksX6_fresh_0 15 rfl rfl)
theorem dX6_fresh_16 : decode cX6_fresh 16 = .ok (.iload_n 2, 1) := dk_28 (dk_at dksX6_fresh_0 16 rfl rfl)
theorem dX6_fresh_17 : decode cX6_fresh 17 = .ok (.invokevirtual 118, 3) := dk_182 0 118 (dk_at dksX6_fresh_0 17 rfl rfl)
theorem dX6_fresh_20 : decode cX6_fresh 20 = .ok (.ifCond .eq 7, 3) := dk_153 0 7 (dk_at dksX6_fresh_0 20 rfl rfl)
theorem dX6_fresh_23 : decode cX6_fresh 23 = .ok (.iconst 0, 1) := dk_3 (dk_at dksX6_fresh_0 23 rfl rfl)
theorem dX6_fresh_24 : decode cX6_fresh 24 = .ok (.goto 6, 3) := dk_167 0 6 (dk_at dksX6_fresh_1 0 rfl rfl)
theorem dX6_fresh_27 : decode cX6_fresh 27 = .ok (.iconst 1, 1) := dk_4 (dk_at dksX6_fresh_1 3 rfl rfl)
theorem dX6_fresh_28 : decode cX6_fresh 28 = .ok (.iload_n 2, 1) := dk_28 (dk_at dksX6_fresh_1 4 rfl rfl)
theorem dX6_fresh_29 : decode cX6_fresh 29 = .ok (.ishl, 1) := dk_120 (dk_at dksX6_fresh_1 5 rfl rfl)
theorem dX6_fresh_30 : decode cX6_fresh 30 = .ok (.ior, 1) := dk_128 (dk_at dksX6_fresh_1 6 rfl rfl)
theorem dX6_fresh_31 : decode cX6_fresh 31 = .ok (.istore_n 1, 1) := dk_60 (dk_at dksX6_fresh_1 7 rfl rfl)
theorem dX6_fresh_32 : decode cX6_fresh 32 = .ok (.iinc 2 1, 3) := dk_132 2 1 (dk_at dksX6_fresh_1 8 rfl rfl)
theorem dX6_fresh_35 : decode cX6_fresh 35 = .ok (.goto (-31), 3) := dk_167 255 225 (dk_at dksX6_fresh_1 11 rfl rfl)
theorem dX6_fresh_38 : decode cX6_fresh 38 = .ok (.iload_n 1, 1) := dk_27 (dk_at dksX6_fresh_1 14 rfl rfl)
theorem dX6_fresh_39 : decode cX6_fresh 39 = .ok (.ireturn, 1) := dk_172 (dk_at dksX6_fresh_1 15 rfl rfl)
abbrev cX6_presses : ByteArray := prog_11_method_35_code
def yX6_presses : MethodName := ⟨RX6, "presses", "(II)I"⟩
def dkwX6_presses_8 : List UInt8 := [167, 0, 9, 42, 180, 0, 25, 3, 46, 172]
abbrev dktX6_presses_8 : List UInt8 := dkwX6_presses_8 ++ []
def dkwX6_presses_7 : List UInt8 := [132, 5, 1, 167, 255, 129, 132, 4, 255, 167, 255, 106, 42, 180, 0, 25, 3, 46, 16, 100, 160, 0, 7, 2]
abbrev dktX6_presses_7 : List UInt8 := dkwX6_presses_7 ++ dktX6_presses_8
def dkwX6_presses_6 : List UInt8 := [182, 0, 121, 153, 0, 19, 42, 180, 0, 25, 21, 4, 42, 180, 0, 25, 21, 6, 46, 4, 96, 79]
abbrev dktX6_presses_6 : List UInt8 := dkwX6_presses_6 ++ dktX6_presses_7
def dkwX6_presses_5 : List UInt8 := [3, 182, 0, 121, 154, 0, 25, 42, 21, 5, 182, 0, 125, 153, 0, 32, 42, 27, 21, 4, 21, 5, 4]
abbrev dktX6_presses_5 : List UInt8 := dkwX6_presses_5 ++ dktX6_presses_6
def dkwX6_presses_4 : List UInt8 := [21, 4, 46, 162, 0, 7, 4, 167, 0, 4, 3, 54, 7, 21, 7, 153, 0, 54, 42, 27, 21, 4, 21, 5]
abbrev dktX6_presses_4 : List UInt8 := dkwX6_presses_4 ++ dktX6_presses_5
def dkwX6_presses_3 : List UInt8 := [4, 160, 0, 32, 21, 6, 29, 163, 0, 26, 42, 180, 0, 25, 21, 6, 46, 4, 96, 42, 180, 0, 25]
abbrev dktX6_presses_3 : List UInt8 := dkwX6_presses_3 ++ dktX6_presses_4
def dkwX6_presses_2 : List UInt8 := [162, 0, 122, 21, 4, 42, 180, 0, 7, 21, 5, 184, 0, 58, 46, 96, 54, 6, 28, 21, 5, 122, 4, 126]
abbrev dktX6_presses_2 : List UInt8 := dkwX6_presses_2 ++ dktX6_presses_3
def dkwX6_presses_1 : List UInt8 := [155, 0, 151, 42, 180, 0, 25, 21, 4, 16, 100, 79, 3, 54, 5, 21, 5, 42, 180, 0, 7, 3, 46]
abbrev dktX6_presses_1 : List UInt8 := dkwX6_presses_1 ++ dktX6_presses_2
def dkwX6_presses_0 : List UInt8 := [42, 180, 0, 7, 27, 184, 0, 89, 46, 62, 42, 180, 0, 25, 29, 3, 79, 29, 4, 100, 54, 4, 21, 4]
abbrev dktX6_presses_0 : List UInt8 := dkwX6_presses_0 ++ dktX6_presses_1
theorem dksX6_presses_0 : cX6_presses.data.toList.drop 0 = dktX6_presses_0 := by decide +kernel
theorem dksX6_presses_1 : cX6_presses.data.toList.drop 24 = dktX6_presses_1 := dk_seg dksX6_presses_0 24 rfl rfl
theorem dksX6_presses_2 : cX6_presses.data.toList.drop 47 = dktX6_presses_2 := dk_seg dksX6_presses_1 23 rfl rfl
theorem dksX6_presses_3 : cX6_presses.data.toList.drop 71 = dktX6_presses_3 := dk_seg dksX6_presses_2 24 rfl rfl
theorem dksX6_presses_4 : cX6_presses.data.toList.drop 94 = dktX6_presses_4 := dk_seg dksX6_presses_3 23 rfl rfl
theorem dksX6_presses_5 : cX6_presses.data.toList.drop 118 = dktX6_presses_5 := dk_seg dksX6_presses_4 24 rfl rfl
theorem dksX6_presses_6 : cX6_presses.data.toList.drop 141 = dktX6_presses_6 := dk_seg dksX6_presses_5 23 rfl rfl
theorem dksX6_presses_7 : cX6_presses.data.toList.drop 163 = dktX6_presses_7 := dk_seg dksX6_presses_6 22 rfl rfl
theorem dksX6_presses_8 : cX6_presses.data.toList.drop 187 = dktX6_presses_8 := dk_seg dksX6_presses_7 24 rfl rfl
theorem dX6_presses_0 : decode cX6_presses 0 = .ok (.aload_n 0, 1) := dk_42 (dk_at dksX6_presses_0 0 rfl rfl)
theorem dX6_presses_1 : decode cX6_presses 1 = .ok (.getfield 7, 3) := dk_180 0 7 (dk_at dksX6_presses_0 1 rfl rfl)
theorem dX6_presses_4 : decode cX6_presses 4 = .ok (.iload_n 1, 1) := dk_27 (dk_at dksX6_presses_0 4 rfl rfl)
theorem dX6_presses_5 : decode cX6_presses 5 = .ok (.invokestatic 89, 3) := dk_184 0 89 (dk_at dksX6_presses_0 5 rfl rfl)
theorem dX6_presses_8 : decode cX6_presses 8 = .ok (.iaload, 1) := dk_46 (dk_at dksX6_presses_0 8 rfl rfl)
theorem dX6_presses_9 : decode cX6_presses 9 = .ok (.istore_n 3, 1) := dk_62 (dk_at dksX6_presses_0 9 rfl rfl)
theorem dX6_presses_10 : decode cX6_presses 10 = .ok (.aload_n 0, 1) := dk_42 (dk_at dksX6_presses_0 10 rfl rfl)
theorem dX6_presses_11 : decode cX6_presses 11 = .ok (.getfield 25, 3) := dk_180 0 25 (dk_at dksX6_presses_0 11 rfl rfl)
theorem dX6_presses_14 : decode cX6_presses 14 = .ok (.iload_n 3, 1) := dk_29 (dk_at dksX6_presses_0 14 rfl rfl)
theorem dX6_presses_15 : decode cX6_presses 15 = .ok (.iconst 0, 1) := dk_3 (dk_at dksX6_presses_0 15 rfl rfl)
theorem dX6_presses_16 : decode cX6_presses 16 = .ok (.iastore, 1) := dk_79 (dk_at dksX6_presses_0 16 rfl rfl)
theorem dX6_presses_17 : decode cX6_presses 17 = .ok (.iload_n 3, 1) := dk_29 (dk_at dksX6_presses_0 17 rfl rfl)
theorem dX6_presses_18 : decode cX6_presses 18 = .ok (.iconst 1, 1) := dk_4 (dk_at dksX6_presses_0 18 rfl rfl)
theorem dX6_presses_19 : decode cX6_presses 19 = .ok (.isub, 1) := dk_100 (dk_at dksX6_presses_0 19 rfl rfl)
theorem dX6_presses_20 : decode cX6_presses 20 = .ok (.istore 4, 2) := dk_54 4 (dk_at dksX6_presses_0 20 rfl rfl)
theorem dX6_presses_22 : decode cX6_presses 22 = .ok (.iload 4, 2) := dk_21 4 (dk_at dksX6_presses_0 22 rfl rfl)
theorem dX6_presses_24 : decode cX6_presses 24 = .ok (.ifCond .lt 151, 3) := dk_155 0 151 (dk_at dksX6_presses_1 0 rfl rfl)
theorem dX6_presses_27 : decode cX6_presses 27 = .ok (.aload_n 0, 1) := dk_42 (dk_at dksX6_presses_1 3 rfl rfl)
theorem dX6_presses_28 : decode cX6_presses 28 = .ok (.getfield 25, 3) := dk_180 0 25 (dk_at dksX6_presses_1 4 rfl rfl)
theorem dX6_presses_31 : decode cX6_presses 31 = .ok (.iload 4, 2) := dk_21 4 (dk_at dksX6_presses_1 7 rfl rfl)
theorem dX6_presses_33 : decode cX6_presses 33 = .ok (.bipush 100, 2) := dk_16 100 (dk_at dksX6_presses_1 9 rfl rfl)
theorem dX6_presses_35 : decode cX6_presses 35 = .ok (.iastore, 1) := dk_79 (dk_at dksX6_presses_1 11 rfl rfl)
theorem dX6_presses_36 : decode cX6_presses 36 = .ok (.iconst 0, 1) := dk_3 (dk_at dksX6_presses_1 12 rfl rfl)
theorem dX6_presses_37 : decode cX6_presses 37 = .ok (.istore 5, 2) := dk_54 5 (dk_at dksX6_presses_1 13 rfl rfl)
theorem dX6_presses_39 : decode cX6_presses 39 = .ok (.iload 5, 2) := dk_21 5 (dk_at dksX6_presses_1 15 rfl rfl)
theorem dX6_presses_41 : decode cX6_presses 41 = .ok (.aload_n 0, 1) := dk_42 (dk_at dksX6_presses_1 17 rfl rfl)
theorem dX6_presses_42 : decode cX6_presses 42 = .ok (.getfield 7, 3) := dk_180 0 7 (dk_at dksX6_presses_1 18 rfl rfl)
theorem dX6_presses_45 : decode cX6_presses 45 = .ok (.iconst 0, 1) := dk_3 (dk_at dksX6_presses_1 21 rfl rfl)
theorem dX6_presses_46 : decode cX6_presses 46 = .ok (.iaload, 1) := dk_46 (dk_at dksX6_presses_1 22 rfl rfl)
theorem dX6_presses_47 : decode cX6_presses 47 = .ok (.if_icmp .ge 122, 3) := dk_162 0 122 (dk_at dksX6_presses_2 0 rfl rfl)
theorem dX6_presses_50 : decode cX6_presses 50 = .ok (.iload 4, 2) := dk_21 4 (dk_at dksX6_presses_2 3 rfl rfl)
theorem dX6_presses_52 : decode cX6_presses 52 = .ok (.aload_n 0, 1) := dk_42 (dk_at dksX6_presses_2 5 rfl rfl)
theorem dX6_presses_53 : decode cX6_presses 53 = .ok (.getfield 7, 3) := dk_180 0 7 (dk_at dksX6_presses_2 6 rfl rfl)
theorem dX6_presses_56 : decode cX6_presses 56 = .ok (.iload 5, 2) := dk_21 5 (dk_at dksX6_presses_2 9 rfl rfl)
theorem dX6_presses_58 : decode cX6_presses 58 = .ok (.invokestatic 58, 3) := dk_184 0 58 (dk_at dksX6_presses_2 11 rfl rfl)
theorem dX6_presses_61 : decode cX6_presses 61 = .ok (.iaload, 1) := dk_46 (dk_at dksX6_presses_2 14 rfl rfl)
theorem dX6_presses_62 : decode cX6_presses 62 = .ok (.iadd, 1) := dk_96 (dk_at dksX6_presses_2 15 rfl rfl)
theorem dX6_presses_63 : decode cX6_presses 63 = .ok (.istore 6, 2) := dk_54 6 (dk_at dksX6_presses_2 16 rfl rfl)
theorem dX6_presses_65 : decode cX6_presses 65 = .ok (.iload_n 2, 1) := dk_28 (dk_at dksX6_presses_2 18 rfl rfl)
theorem dX6_presses_66 : decode cX6_presses 66 = .ok (.iload 5, 2) := dk_21 5 (dk_at dksX6_presses_2 19 rfl rfl)
theorem dX6_presses_68 : decode cX6_presses 68 = .ok (.ishr, 1) := dk_122 (dk_at dksX6_presses_2 21 rfl rfl)
theorem dX6_presses_69 : decode cX6_presses 69 = .ok (.iconst 1, 1) := dk_4 (dk_at dksX6_presses_2 22 rfl rfl)
theorem dX6_presses_70 : decode cX6_presses 70 = .ok (.iand, 1) := dk_126 (dk_at dksX6_presses_2 23 rfl rfl)
theorem dX6_presses_71 : decode cX6_presses 71 = .ok (.iconst 1, 1) := dk_4 (dk_at dksX6_presses_3 0 rfl rfl)
theorem dX6_presses_72 : decode cX6_presses 72 = .ok (.if_icmp .ne 32, 3) := dk_160 0 32 (dk_at dksX6_presses_3 1 rfl rfl)
theorem dX6_presses_75 : decode cX6_presses 75 = .ok (.iload 6, 2) := dk_21 6 (dk_at dksX6_presses_3 4 rfl rfl)
theorem dX6_presses_77 : decode cX6_presses 77 = .ok (.iload_n 3, 1) := dk_29 (dk_at dksX6_presses_3 6 rfl rfl)
theorem dX6_presses_78 : decode cX6_presses 78 = .ok (.if_icmp .gt 26, 3) := dk_163 0 26 (dk_at dksX6_presses_3 7 rfl rfl)
theorem dX6_presses_81 : decode cX6_presses 81 = .ok (.aload_n 0, 1) := dk_42 (dk_at dksX6_presses_3 10 rfl rfl)
theorem dX6_presses_82 : decode cX6_presses 82 = .ok (.getfield 25, 3) := dk_180 0 25 (dk_at dksX6_presses_3 11 rfl rfl)
theorem dX6_presses_85 : decode cX6_presses 85 = .ok (.iload 6, 2) := dk_21 6 (dk_at dksX6_presses_3 14 rfl rfl)
theorem dX6_presses_87 : decode cX6_presses 87 = .ok (.iaload, 1) := dk_46 (dk_at dksX6_presses_3 16 rfl rfl)
theorem dX6_presses_88 : decode cX6_presses 88 = .ok (.iconst 1, 1) := dk_4 (dk_at dksX6_presses_3 17 rfl rfl)
theorem dX6_presses_89 : decode cX6_presses 89 = .ok (.iadd, 1) := dk_96 (dk_at dksX6_presses_3 18 rfl rfl)
theorem dX6_presses_90 : decode cX6_presses 90 = .ok (.aload_n 0, 1) := dk_42 (dk_at dksX6_presses_3 19 rfl rfl)
theorem dX6_presses_91 : decode cX6_presses 91 = .ok (.getfield 25, 3) := dk_180 0 25 (dk_at dksX6_presses_3 20 rfl rfl)
theorem dX6_presses_94 : decode cX6_presses 94 = .ok (.iload 4, 2) := dk_21 4 (dk_at dksX6_presses_4 0 rfl rfl)
theorem dX6_presses_96 : decode cX6_presses 96 = .ok (.iaload, 1) := dk_46 (dk_at dksX6_presses_4 2 rfl rfl)
theorem dX6_presses_97 : decode cX6_presses 97 = .ok (.if_icmp .ge 7, 3) := dk_162 0 7 (dk_at dksX6_presses_4 3 rfl rfl)
theorem dX6_presses_100 : decode cX6_presses 100 = .ok (.iconst 1, 1) := dk_4 (dk_at dksX6_presses_4 6 rfl rfl)
theorem dX6_presses_101 : decode cX6_presses 101 = .ok (.goto 4, 3) := dk_167 0 4 (dk_at dksX6_presses_4 7 rfl rfl)
theorem dX6_presses_104 : decode cX6_presses 104 = .ok (.iconst 0, 1) := dk_3 (dk_at dksX6_presses_4 10 rfl rfl)
theorem dX6_presses_105 : decode cX6_presses 105 = .ok (.istore 7, 2) := dk_54 7 (dk_at dksX6_presses_4 11 rfl rfl)
theorem dX6_presses_107 : decode cX6_presses 107 = .ok (.iload 7, 2) := dk_21 7 (dk_at dksX6_presses_4 13 rfl rfl)
theorem dX6_presses_109 : decode cX6_presses 109 = .ok (.ifCond .eq 54, 3) := dk_153 0 54 (dk_at dksX6_presses_4 15 rfl rfl)
theorem dX6_presses_112 : decode cX6_presses 112 = .ok (.aload_n 0, 1) := dk_42 (dk_at dksX6_presses_4 18 rfl rfl)
theorem dX6_presses_113 : decode cX6_presses 113 = .ok (.iload_n 1, 1) := dk_27 (dk_at dksX6_presses_4 19 rfl rfl)
theorem dX6_presses_114 : decode cX6_presses 114 = .ok (.iload 4, 2) := dk_21 4 (dk_at dksX6_presses_4 20 rfl rfl)
theorem dX6_presses_116 : decode cX6_presses 116 = .ok (.iload 5, 2) := dk_21 5 (dk_at dksX6_presses_4 22 rfl rfl)
theorem dX6_presses_118 : decode cX6_presses 118 = .ok (.iconst 0, 1) := dk_3 (dk_at dksX6_presses_5 0 rfl rfl)
theorem dX6_presses_119 : decode cX6_presses 119 = .ok (.invokevirtual 121, 3) := dk_182 0 121 (dk_at dksX6_presses_5 1 rfl rfl)
theorem dX6_presses_122 : decode cX6_presses 122 = .ok (.ifCond .ne 25, 3) := dk_154 0 25 (dk_at dksX6_presses_5 4 rfl rfl)
theorem dX6_presses_125 : decode cX6_presses 125 = .ok (.aload_n 0, 1) := dk_42 (dk_at dksX6_presses_5 7 rfl rfl)
theorem dX6_presses_126 : decode cX6_presses 126 = .ok (.iload 5, 2) := dk_21 5 (dk_at dksX6_presses_5 8 rfl rfl)
theorem dX6_presses_128 : decode cX6_presses 128 = .ok (.invokevirtual 125, 3) := dk_182 0 125 (dk_at dksX6_presses_5 10 rfl rfl)
theorem dX6_presses_131 : decode cX6_presses 131 = .ok (.ifCond .eq 32, 3) := dk_153 0 32 (dk_at dksX6_presses_5 13 rfl rfl)
theorem dX6_presses_134 : decode cX6_presses 134 = .ok (.aload_n 0, 1) := dk_42 (dk_at dksX6_presses_5 16 rfl rfl)
theorem dX6_presses_135 : decode cX6_presses 135 = .ok (.iload_n 1, 1) := dk_27 (dk_at dksX6_presses_5 17 rfl rfl)
theorem dX6_presses_136 : decode cX6_presses 136 = .ok (.iload 4, 2) := dk_21 4 (dk_at dksX6_presses_5 18 rfl rfl)
theorem dX6_presses_138 : decode cX6_presses 138 = .ok (.iload 5, 2) := dk_21 5 (dk_at dksX6_presses_5 20 rfl rfl)
theorem dX6_presses_140 : decode cX6_presses 140 = .ok (.iconst 1, 1) := dk_4 (dk_at dksX6_presses_5 22 rfl rfl)
theorem dX6_presses_141 : decode cX6_presses 141 = .ok (.invokevirtual 121, 3) := dk_182 0 121 (dk_at dksX6_presses_6 0 rfl rfl)
theorem dX6_presses_144 : decode cX6_presses 144 = .ok (.ifCond .eq 19, 3) := dk_153 0 19 (dk_at dksX6_presses_6 3 rfl rfl)
theorem dX6_presses_147 : decode cX6_presses 147 = .ok (.aload_n 0, 1) := dk_42 (dk_at dksX6_presses_6 6 rfl rfl)
theorem dX6_presses_148 : decode cX6_presses 148 = .ok (.getfield 25, 3) := dk_180 0 25 (dk_at dksX6_presses_6 7 rfl rfl)
theorem dX6_presses_151 : decode cX6_presses 151 = .ok (.iload 4, 2) := dk_21 4 (dk_at dksX6_presses_6 10 rfl rfl)
theorem dX6_presses_153 : decode cX6_presses 153 = .ok (.aload_n 0, 1) := dk_42 (dk_at dksX6_presses_6 12 rfl rfl)
theorem dX6_presses_154 : decode cX6_presses 154 = .ok (.getfield 25, 3) := dk_180 0 25 (dk_at dksX6_presses_6 13 rfl rfl)
theorem dX6_presses_157 : decode cX6_presses 157 = .ok (.iload 6, 2) := dk_21 6 (dk_at dksX6_presses_6 16 rfl rfl)
theorem dX6_presses_159 : decode cX6_presses 159 = .ok (.iaload, 1) := dk_46 (dk_at dksX6_presses_6 18 rfl rfl)
theorem dX6_presses_160 : decode cX6_presses 160 = .ok (.iconst 1, 1) := dk_4 (dk_at dksX6_presses_6 19 rfl rfl)
theorem dX6_presses_161 : decode cX6_presses 161 = .ok (.iadd, 1) := dk_96 (dk_at dksX6_presses_6 20 rfl rfl)
theorem dX6_presses_162 : decode cX6_presses 162 = .ok (.iastore, 1) := dk_79 (dk_at dksX6_presses_6 21 rfl rfl)
theorem dX6_presses_163 : decode cX6_presses 163 = .ok (.iinc 5 1, 3) := dk_132 5 1 (dk_at dksX6_presses_7 0 rfl rfl)
theorem dX6_presses_166 : decode cX6_presses 166 = .ok (.goto (-127), 3) := dk_167 255 129 (dk_at dksX6_presses_7 3 rfl rfl)
theorem dX6_presses_169 : decode cX6_presses 169 = .ok (.iinc 4 (-1), 3) := dk_132 4 255 (dk_at dksX6_presses_7 6 rfl rfl)
theorem dX6_presses_172 : decode cX6_presses 172 = .ok (.goto (-150), 3) := dk_167 255 106 (dk_at dksX6_presses_7 9 rfl rfl)
theorem dX6_presses_175 : decode cX6_presses 175 = .ok (.aload_n 0, 1) := dk_42 (dk_at dksX6_presses_7 12 rfl rfl)
theorem dX6_presses_176 : decode cX6_presses 176 = .ok (.getfield 25, 3) := dk_180 0 25 (dk_at dksX6_presses_7 13 rfl rfl)
theorem dX6_presses_179 : decode cX6_presses 179 = .ok (.iconst 0, 1) := dk_3 (dk_at dksX6_presses_7 16 rfl rfl)
theorem dX6_presses_180 : decode cX6_presses 180 = .ok (.iaload, 1) := dk_46 (dk_at dksX6_presses_7 17 rfl rfl)
theorem dX6_presses_181 : decode cX6_presses 181 = .ok (.bipush 100, 2) := dk_16 100 (dk_at dksX6_presses_7 18 rfl rfl)
theorem dX6_presses_183 : decode cX6_presses 183 = .ok (.if_icmp .ne 7, 3) := dk_160 0 7 (dk_at dksX6_presses_7 20 rfl rfl)
theorem dX6_presses_186 : decode cX6_presses 186 = .ok (.iconst (-1), 1) := dk_2 (dk_at dksX6_presses_7 23 rfl rfl)
theorem dX6_presses_187 : decode cX6_presses 187 = .ok (.goto 9, 3) := dk_167 0 9 (dk_at dksX6_presses_8 0 rfl rfl)
theorem dX6_presses_190 : decode cX6_presses 190 = .ok (.aload_n 0, 1) := dk_42 (dk_at dksX6_presses_8 3 rfl rfl)
theorem dX6_presses_191 : decode cX6_presses 191 = .ok (.getfield 25, 3) := dk_180 0 25 (dk_at dksX6_presses_8 4 rfl rfl)
theorem dX6_presses_194 : decode cX6_presses 194 = .ok (.iconst 0, 1) := dk_3 (dk_at dksX6_presses_8 7 rfl rfl)
theorem dX6_presses_195 : decode cX6_presses 195 = .ok (.iaload, 1) := dk_46 (dk_at dksX6_presses_8 8 rfl rfl)
theorem dX6_presses_196 : decode cX6_presses 196 = .ok (.ireturn, 1) := dk_172 (dk_at dksX6_presses_8 9 rfl rfl)
abbrev cX6_fits : ByteArray := prog_11_method_33_code
def yX6_fits : MethodName := ⟨RX6, "fits", "(IIIZ)Z"⟩
def dkwX6_fits_3 : List UInt8 := [160, 0, 7, 4, 167, 0, 4, 3, 54, 6, 132, 7, 1, 167, 255, 206, 21, 6, 172]
abbrev dktX6_fits_3 : List UInt8 := dkwX6_fits_3 ++ []
def dkwX6_fits_2 : List UInt8 := [29, 21, 7, 21, 4, 182, 0, 68, 42, 180, 0, 7, 27, 184, 0, 89, 5, 96, 28, 96, 21, 7, 96, 46]
abbrev dktX6_fits_2 : List UInt8 := dkwX6_fits_2 ++ dktX6_fits_3
def dkwX6_fits_1 : List UInt8 := [164, 0, 5, 3, 172, 4, 54, 6, 3, 54, 7, 21, 7, 21, 5, 162, 0, 49, 21, 6, 153, 0, 44, 42]
abbrev dktX6_fits_1 : List UInt8 := dkwX6_fits_1 ++ dktX6_fits_2
def dkwX6_fits_0 : List UInt8 := [42, 180, 0, 7, 29, 184, 0, 58, 46, 54, 5, 28, 21, 5, 96, 42, 180, 0, 7, 27, 184, 0, 89, 46]
abbrev dktX6_fits_0 : List UInt8 := dkwX6_fits_0 ++ dktX6_fits_1
theorem dksX6_fits_0 : cX6_fits.data.toList.drop 0 = dktX6_fits_0 := by decide +kernel
theorem dksX6_fits_1 : cX6_fits.data.toList.drop 24 = dktX6_fits_1 := dk_seg dksX6_fits_0 24 rfl rfl
theorem dksX6_fits_2 : cX6_fits.data.toList.drop 48 = dktX6_fits_2 := dk_seg dksX6_fits_1 24 rfl rfl
theorem dksX6_fits_3 : cX6_fits.data.toList.drop 72 = dktX6_fits_3 := dk_seg dksX6_fits_2 24 rfl rfl
theorem dX6_fits_0 : decode cX6_fits 0 = .ok (.aload_n 0, 1) := dk_42 (dk_at dksX6_fits_0 0 rfl rfl)
theorem dX6_fits_1 : decode cX6_fits 1 = .ok (.getfield 7, 3) := dk_180 0 7 (dk_at dksX6_fits_0 1 rfl rfl)
theorem dX6_fits_4 : decode cX6_fits 4 = .ok (.iload_n 3, 1) := dk_29 (dk_at dksX6_fits_0 4 rfl rfl)
theorem dX6_fits_5 : decode cX6_fits 5 = .ok (.invokestatic 58, 3) := dk_184 0 58 (dk_at dksX6_fits_0 5 rfl rfl)
theorem dX6_fits_8 : decode cX6_fits 8 = .ok (.iaload, 1) := dk_46 (dk_at dksX6_fits_0 8 rfl rfl)
theorem dX6_fits_9 : decode cX6_fits 9 = .ok (.istore 5, 2) := dk_54 5 (dk_at dksX6_fits_0 9 rfl rfl)
theorem dX6_fits_11 : decode cX6_fits 11 = .ok (.iload_n 2, 1) := dk_28 (dk_at dksX6_fits_0 11 rfl rfl)
theorem dX6_fits_12 : decode cX6_fits 12 = .ok (.iload 5, 2) := dk_21 5 (dk_at dksX6_fits_0 12 rfl rfl)
theorem dX6_fits_14 : decode cX6_fits 14 = .ok (.iadd, 1) := dk_96 (dk_at dksX6_fits_0 14 rfl rfl)
theorem dX6_fits_15 : decode cX6_fits 15 = .ok (.aload_n 0, 1) := dk_42 (dk_at dksX6_fits_0 15 rfl rfl)
theorem dX6_fits_16 : decode cX6_fits 16 = .ok (.getfield 7, 3) := dk_180 0 7 (dk_at dksX6_fits_0 16 rfl rfl)
theorem dX6_fits_19 : decode cX6_fits 19 = .ok (.iload_n 1, 1) := dk_27 (dk_at dksX6_fits_0 19 rfl rfl)
theorem dX6_fits_20 : decode cX6_fits 20 = .ok (.invokestatic 89, 3) := dk_184 0 89 (dk_at dksX6_fits_0 20 rfl rfl)
theorem dX6_fits_23 : decode cX6_fits 23 = .ok (.iaload, 1) := dk_46 (dk_at dksX6_fits_0 23 rfl rfl)
theorem dX6_fits_24 : decode cX6_fits 24 = .ok (.if_icmp .le 5, 3) := dk_164 0 5 (dk_at dksX6_fits_1 0 rfl rfl)
theorem dX6_fits_27 : decode cX6_fits 27 = .ok (.iconst 0, 1) := dk_3 (dk_at dksX6_fits_1 3 rfl rfl)
theorem dX6_fits_28 : decode cX6_fits 28 = .ok (.ireturn, 1) := dk_172 (dk_at dksX6_fits_1 4 rfl rfl)
theorem dX6_fits_29 : decode cX6_fits 29 = .ok (.iconst 1, 1) := dk_4 (dk_at dksX6_fits_1 5 rfl rfl)
theorem dX6_fits_30 : decode cX6_fits 30 = .ok (.istore 6, 2) := dk_54 6 (dk_at dksX6_fits_1 6 rfl rfl)
theorem dX6_fits_32 : decode cX6_fits 32 = .ok (.iconst 0, 1) := dk_3 (dk_at dksX6_fits_1 8 rfl rfl)
theorem dX6_fits_33 : decode cX6_fits 33 = .ok (.istore 7, 2) := dk_54 7 (dk_at dksX6_fits_1 9 rfl rfl)
theorem dX6_fits_35 : decode cX6_fits 35 = .ok (.iload 7, 2) := dk_21 7 (dk_at dksX6_fits_1 11 rfl rfl)
theorem dX6_fits_37 : decode cX6_fits 37 = .ok (.iload 5, 2) := dk_21 5 (dk_at dksX6_fits_1 13 rfl rfl)
theorem dX6_fits_39 : decode cX6_fits 39 = .ok (.if_icmp .ge 49, 3) := dk_162 0 49 (dk_at dksX6_fits_1 15 rfl rfl)
theorem dX6_fits_42 : decode cX6_fits 42 = .ok (.iload 6, 2) := dk_21 6 (dk_at dksX6_fits_1 18 rfl rfl)
theorem dX6_fits_44 : decode cX6_fits 44 = .ok (.ifCond .eq 44, 3) := dk_153 0 44 (dk_at dksX6_fits_1 20 rfl rfl)
theorem dX6_fits_47 : decode cX6_fits 47 = .ok (.aload_n 0, 1) := dk_42 (dk_at dksX6_fits_1 23 rfl rfl)
theorem dX6_fits_48 : decode cX6_fits 48 = .ok (.iload_n 3, 1) := dk_29 (dk_at dksX6_fits_2 0 rfl rfl)
theorem dX6_fits_49 : decode cX6_fits 49 = .ok (.iload 7, 2) := dk_21 7 (dk_at dksX6_fits_2 1 rfl rfl)
theorem dX6_fits_51 : decode cX6_fits 51 = .ok (.iload 4, 2) := dk_21 4 (dk_at dksX6_fits_2 3 rfl rfl)
theorem dX6_fits_53 : decode cX6_fits 53 = .ok (.invokevirtual 68, 3) := dk_182 0 68 (dk_at dksX6_fits_2 5 rfl rfl)
theorem dX6_fits_56 : decode cX6_fits 56 = .ok (.aload_n 0, 1) := dk_42 (dk_at dksX6_fits_2 8 rfl rfl)
theorem dX6_fits_57 : decode cX6_fits 57 = .ok (.getfield 7, 3) := dk_180 0 7 (dk_at dksX6_fits_2 9 rfl rfl)
theorem dX6_fits_60 : decode cX6_fits 60 = .ok (.iload_n 1, 1) := dk_27 (dk_at dksX6_fits_2 12 rfl rfl)
theorem dX6_fits_61 : decode cX6_fits 61 = .ok (.invokestatic 89, 3) := dk_184 0 89 (dk_at dksX6_fits_2 13 rfl rfl)
theorem dX6_fits_64 : decode cX6_fits 64 = .ok (.iconst 2, 1) := dk_5 (dk_at dksX6_fits_2 16 rfl rfl)
theorem dX6_fits_65 : decode cX6_fits 65 = .ok (.iadd, 1) := dk_96 (dk_at dksX6_fits_2 17 rfl rfl)
theorem dX6_fits_66 : decode cX6_fits 66 = .ok (.iload_n 2, 1) := dk_28 (dk_at dksX6_fits_2 18 rfl rfl)
theorem dX6_fits_67 : decode cX6_fits 67 = .ok (.iadd, 1) := dk_96 (dk_at dksX6_fits_2 19 rfl rfl)
theorem dX6_fits_68 : decode cX6_fits 68 = .ok (.iload 7, 2) := dk_21 7 (dk_at dksX6_fits_2 20 rfl rfl)
theorem dX6_fits_70 : decode cX6_fits 70 = .ok (.iadd, 1) := dk_96 (dk_at dksX6_fits_2 22 rfl rfl)
theorem dX6_fits_71 : decode cX6_fits 71 = .ok (.iaload, 1) := dk_46 (dk_at dksX6_fits_2 23 rfl rfl)
theorem dX6_fits_72 : decode cX6_fits 72 = .ok (.if_icmp .ne 7, 3) := dk_160 0 7 (dk_at dksX6_fits_3 0 rfl rfl)
theorem dX6_fits_75 : decode cX6_fits 75 = .ok (.iconst 1, 1) := dk_4 (dk_at dksX6_fits_3 3 rfl rfl)
theorem dX6_fits_76 : decode cX6_fits 76 = .ok (.goto 4, 3) := dk_167 0 4 (dk_at dksX6_fits_3 4 rfl rfl)
theorem dX6_fits_79 : decode cX6_fits 79 = .ok (.iconst 0, 1) := dk_3 (dk_at dksX6_fits_3 7 rfl rfl)
theorem dX6_fits_80 : decode cX6_fits 80 = .ok (.istore 6, 2) := dk_54 6 (dk_at dksX6_fits_3 8 rfl rfl)
theorem dX6_fits_82 : decode cX6_fits 82 = .ok (.iinc 7 1, 3) := dk_132 7 1 (dk_at dksX6_fits_3 10 rfl rfl)
theorem dX6_fits_85 : decode cX6_fits 85 = .ok (.goto (-50), 3) := dk_167 255 206 (dk_at dksX6_fits_3 13 rfl rfl)
theorem dX6_fits_88 : decode cX6_fits 88 = .ok (.iload 6, 2) := dk_21 6 (dk_at dksX6_fits_3 16 rfl rfl)
theorem dX6_fits_90 : decode cX6_fits 90 = .ok (.ireturn, 1) := dk_172 (dk_at dksX6_fits_3 18 rfl rfl)
abbrev cX6_printed : ByteArray := prog_11_method_16_code
def yX6_printed : MethodName := ⟨RX6, "printed", "(IIZ)I"⟩
def dkwX6_printed_1 : List UInt8 := [28, 100, 46, 184, 0, 62, 167, 0, 14, 42, 180, 0, 7, 21, 4, 4, 96, 28, 96, 46, 172]
abbrev dktX6_printed_1 : List UInt8 := dkwX6_printed_1 ++ []
def dkwX6_printed_0 : List UInt8 := [27, 184, 0, 58, 54, 4, 29, 153, 0, 26, 42, 180, 0, 7, 21, 4, 42, 180, 0, 7, 21, 4, 46, 96]
abbrev dktX6_printed_0 : List UInt8 := dkwX6_printed_0 ++ dktX6_printed_1
theorem dksX6_printed_0 : cX6_printed.data.toList.drop 0 = dktX6_printed_0 := by decide +kernel
theorem dksX6_printed_1 : cX6_printed.data.toList.drop 24 = dktX6_printed_1 := dk_seg dksX6_printed_0 24 rfl rfl
theorem dX6_printed_0 : decode cX6_printed 0 = .ok (.iload_n 1, 1) := dk_27 (dk_at dksX6_printed_0 0 rfl rfl)
theorem dX6_printed_1 : decode cX6_printed 1 = .ok (.invokestatic 58, 3) := dk_184 0 58 (dk_at dksX6_printed_0 1 rfl rfl)
theorem dX6_printed_4 : decode cX6_printed 4 = .ok (.istore 4, 2) := dk_54 4 (dk_at dksX6_printed_0 4 rfl rfl)
theorem dX6_printed_6 : decode cX6_printed 6 = .ok (.iload_n 3, 1) := dk_29 (dk_at dksX6_printed_0 6 rfl rfl)
theorem dX6_printed_7 : decode cX6_printed 7 = .ok (.ifCond .eq 26, 3) := dk_153 0 26 (dk_at dksX6_printed_0 7 rfl rfl)
theorem dX6_printed_10 : decode cX6_printed 10 = .ok (.aload_n 0, 1) := dk_42 (dk_at dksX6_printed_0 10 rfl rfl)
theorem dX6_printed_11 : decode cX6_printed 11 = .ok (.getfield 7, 3) := dk_180 0 7 (dk_at dksX6_printed_0 11 rfl rfl)
theorem dX6_printed_14 : decode cX6_printed 14 = .ok (.iload 4, 2) := dk_21 4 (dk_at dksX6_printed_0 14 rfl rfl)
theorem dX6_printed_16 : decode cX6_printed 16 = .ok (.aload_n 0, 1) := dk_42 (dk_at dksX6_printed_0 16 rfl rfl)
theorem dX6_printed_17 : decode cX6_printed 17 = .ok (.getfield 7, 3) := dk_180 0 7 (dk_at dksX6_printed_0 17 rfl rfl)
theorem dX6_printed_20 : decode cX6_printed 20 = .ok (.iload 4, 2) := dk_21 4 (dk_at dksX6_printed_0 20 rfl rfl)
theorem dX6_printed_22 : decode cX6_printed 22 = .ok (.iaload, 1) := dk_46 (dk_at dksX6_printed_0 22 rfl rfl)
theorem dX6_printed_23 : decode cX6_printed 23 = .ok (.iadd, 1) := dk_96 (dk_at dksX6_printed_0 23 rfl rfl)
theorem dX6_printed_24 : decode cX6_printed 24 = .ok (.iload_n 2, 1) := dk_28 (dk_at dksX6_printed_1 0 rfl rfl)
theorem dX6_printed_25 : decode cX6_printed 25 = .ok (.isub, 1) := dk_100 (dk_at dksX6_printed_1 1 rfl rfl)
theorem dX6_printed_26 : decode cX6_printed 26 = .ok (.iaload, 1) := dk_46 (dk_at dksX6_printed_1 2 rfl rfl)
theorem dX6_printed_27 : decode cX6_printed 27 = .ok (.invokestatic 62, 3) := dk_184 0 62 (dk_at dksX6_printed_1 3 rfl rfl)
theorem dX6_printed_30 : decode cX6_printed 30 = .ok (.goto 14, 3) := dk_167 0 14 (dk_at dksX6_printed_1 6 rfl rfl)
theorem dX6_printed_33 : decode cX6_printed 33 = .ok (.aload_n 0, 1) := dk_42 (dk_at dksX6_printed_1 9 rfl rfl)
theorem dX6_printed_34 : decode cX6_printed 34 = .ok (.getfield 7, 3) := dk_180 0 7 (dk_at dksX6_printed_1 10 rfl rfl)
theorem dX6_printed_37 : decode cX6_printed 37 = .ok (.iload 4, 2) := dk_21 4 (dk_at dksX6_printed_1 13 rfl rfl)
theorem dX6_printed_39 : decode cX6_printed 39 = .ok (.iconst 1, 1) := dk_4 (dk_at dksX6_printed_1 15 rfl rfl)
theorem dX6_printed_40 : decode cX6_printed 40 = .ok (.iadd, 1) := dk_96 (dk_at dksX6_printed_1 16 rfl rfl)
theorem dX6_printed_41 : decode cX6_printed 41 = .ok (.iload_n 2, 1) := dk_28 (dk_at dksX6_printed_1 17 rfl rfl)
theorem dX6_printed_42 : decode cX6_printed 42 = .ok (.iadd, 1) := dk_96 (dk_at dksX6_printed_1 18 rfl rfl)
theorem dX6_printed_43 : decode cX6_printed 43 = .ok (.iaload, 1) := dk_46 (dk_at dksX6_printed_1 19 rfl rfl)
theorem dX6_printed_44 : decode cX6_printed 44 = .ok (.ireturn, 1) := dk_172 (dk_at dksX6_printed_1 20 rfl rfl)
abbrev cX6_turned : ByteArray := prog_11_method_14_code
def yX6_turned : MethodName := ⟨RX6, "turned", "(I)I"⟩
def dkwX6_turned_3 : List UInt8 := [2, 172]
abbrev dktX6_turned_3 : List UInt8 := dkwX6_turned_3 ++ []
def dkwX6_turned_2 : List UInt8 := [16, 16, 172, 4, 172, 16, 15, 172, 6, 172, 16, 22, 172, 16, 12, 172, 16, 20, 172, 16, 13, 172, 26, 172]
abbrev dktX6_turned_2 : List UInt8 := dkwX6_turned_2 ++ dktX6_turned_3
def dkwX6_turned_1 : List UInt8 := [170, 0, 0, 0, 0, 0, 0, 140, 0, 0, 0, 98, 0, 0, 0, 122, 0, 0, 0, 116, 0, 0, 0, 140, 0, 0, 0, 121, 0, 0, 0, 140, 0, 0, 0, 140, 0, 0, 0, 140, 0, 0, 0, 140, 0, 0, 0, 140, 0, 0, 0, 140, 0, 0, 0, 140, 0, 0, 0, 138, 0, 0, 0, 126, 0, 0, 0, 132, 0, 0, 0, 138, 0, 0, 0, 124, 0, 0, 0, 119, 0, 0, 0, 140, 0, 0, 0, 138, 0, 0, 0, 140, 0, 0, 0, 135, 0, 0, 0, 140, 0, 0, 0, 129, 0, 0, 0, 138, 0, 0, 0, 140, 0, 0, 0, 138]
abbrev dktX6_turned_1 : List UInt8 := dkwX6_turned_1 ++ dktX6_turned_2
def dkwX6_turned_0 : List UInt8 := [26, 16, 97, 96]
abbrev dktX6_turned_0 : List UInt8 := dkwX6_turned_0 ++ dktX6_turned_1
theorem dksX6_turned_0 : cX6_turned.data.toList.drop 0 = dktX6_turned_0 := by decide +kernel
theorem dksX6_turned_1 : cX6_turned.data.toList.drop 4 = dktX6_turned_1 := dk_seg dksX6_turned_0 4 rfl rfl
theorem dksX6_turned_2 : cX6_turned.data.toList.drop 120 = dktX6_turned_2 := dk_seg dksX6_turned_1 116 rfl rfl
theorem dksX6_turned_3 : cX6_turned.data.toList.drop 144 = dktX6_turned_3 := dk_seg dksX6_turned_2 24 rfl rfl
theorem dX6_turned_0 : decode cX6_turned 0 = .ok (.iload_n 0, 1) := dk_26 (dk_at dksX6_turned_0 0 rfl rfl)
theorem dX6_turned_1 : decode cX6_turned 1 = .ok (.bipush 97, 2) := dk_16 97 (dk_at dksX6_turned_0 1 rfl rfl)
theorem dX6_turned_3 : decode cX6_turned 3 = .ok (.iadd, 1) := dk_96 (dk_at dksX6_turned_0 3 rfl rfl)
theorem dX6_turned_4 : decode cX6_turned 4 = .ok (.tableswitch 140 98 122 #[116, 140, 121, 140, 140, 140, 140, 140, 140, 140, 138, 126, 132, 138, 124, 119, 140, 138, 140, 135, 140, 129, 138, 140, 138], 116) := by decide +kernel
theorem dX6_turned_120 : decode cX6_turned 120 = .ok (.bipush 16, 2) := dk_16 16 (dk_at dksX6_turned_2 0 rfl rfl)
theorem dX6_turned_122 : decode cX6_turned 122 = .ok (.ireturn, 1) := dk_172 (dk_at dksX6_turned_2 2 rfl rfl)
theorem dX6_turned_123 : decode cX6_turned 123 = .ok (.iconst 1, 1) := dk_4 (dk_at dksX6_turned_2 3 rfl rfl)
theorem dX6_turned_124 : decode cX6_turned 124 = .ok (.ireturn, 1) := dk_172 (dk_at dksX6_turned_2 4 rfl rfl)
theorem dX6_turned_125 : decode cX6_turned 125 = .ok (.bipush 15, 2) := dk_16 15 (dk_at dksX6_turned_2 5 rfl rfl)
theorem dX6_turned_127 : decode cX6_turned 127 = .ok (.ireturn, 1) := dk_172 (dk_at dksX6_turned_2 7 rfl rfl)
theorem dX6_turned_128 : decode cX6_turned 128 = .ok (.iconst 3, 1) := dk_6 (dk_at dksX6_turned_2 8 rfl rfl)
theorem dX6_turned_129 : decode cX6_turned 129 = .ok (.ireturn, 1) := dk_172 (dk_at dksX6_turned_2 9 rfl rfl)
theorem dX6_turned_130 : decode cX6_turned 130 = .ok (.bipush 22, 2) := dk_16 22 (dk_at dksX6_turned_2 10 rfl rfl)
theorem dX6_turned_132 : decode cX6_turned 132 = .ok (.ireturn, 1) := dk_172 (dk_at dksX6_turned_2 12 rfl rfl)
theorem dX6_turned_133 : decode cX6_turned 133 = .ok (.bipush 12, 2) := dk_16 12 (dk_at dksX6_turned_2 13 rfl rfl)
theorem dX6_turned_135 : decode cX6_turned 135 = .ok (.ireturn, 1) := dk_172 (dk_at dksX6_turned_2 15 rfl rfl)
theorem dX6_turned_136 : decode cX6_turned 136 = .ok (.bipush 20, 2) := dk_16 20 (dk_at dksX6_turned_2 16 rfl rfl)
theorem dX6_turned_138 : decode cX6_turned 138 = .ok (.ireturn, 1) := dk_172 (dk_at dksX6_turned_2 18 rfl rfl)
theorem dX6_turned_139 : decode cX6_turned 139 = .ok (.bipush 13, 2) := dk_16 13 (dk_at dksX6_turned_2 19 rfl rfl)
theorem dX6_turned_141 : decode cX6_turned 141 = .ok (.ireturn, 1) := dk_172 (dk_at dksX6_turned_2 21 rfl rfl)
theorem dX6_turned_142 : decode cX6_turned 142 = .ok (.iload_n 0, 1) := dk_26 (dk_at dksX6_turned_2 22 rfl rfl)
theorem dX6_turned_143 : decode cX6_turned 143 = .ok (.ireturn, 1) := dk_172 (dk_at dksX6_turned_2 23 rfl rfl)
theorem dX6_turned_144 : decode cX6_turned 144 = .ok (.iconst (-1), 1) := dk_2 (dk_at dksX6_turned_3 0 rfl rfl)
theorem dX6_turned_145 : decode cX6_turned 145 = .ok (.ireturn, 1) := dk_172 (dk_at dksX6_turned_3 1 rfl rfl)
abbrev cX6_counts : ByteArray := prog_11_method_17_code
def yX6_counts : MethodName := ⟨RX6, "counts", "(I)Z"⟩
def dkwX6_counts_2 : List UInt8 := [4, 167, 0, 4, 3, 61, 132, 3, 1, 167, 255, 213, 28, 154, 0, 7, 4, 167, 0, 4, 3, 172]
abbrev dktX6_counts_2 : List UInt8 := dkwX6_counts_2 ++ []
def dkwX6_counts_1 : List UInt8 := [162, 0, 36, 28, 153, 0, 24, 42, 27, 29, 4, 182, 0, 68, 42, 27, 29, 3, 182, 0, 68, 160, 0, 7]
abbrev dktX6_counts_1 : List UInt8 := dkwX6_counts_1 ++ dktX6_counts_2
def dkwX6_counts_0 : List UInt8 := [42, 27, 182, 0, 65, 154, 0, 5, 3, 172, 4, 61, 3, 62, 29, 42, 180, 0, 7, 27, 184, 0, 58, 46]
abbrev dktX6_counts_0 : List UInt8 := dkwX6_counts_0 ++ dktX6_counts_1
theorem dksX6_counts_0 : cX6_counts.data.toList.drop 0 = dktX6_counts_0 := by decide +kernel
theorem dksX6_counts_1 : cX6_counts.data.toList.drop 24 = dktX6_counts_1 := dk_seg dksX6_counts_0 24 rfl rfl
theorem dksX6_counts_2 : cX6_counts.data.toList.drop 48 = dktX6_counts_2 := dk_seg dksX6_counts_1 24 rfl rfl
theorem dX6_counts_0 : decode cX6_counts 0 = .ok (.aload_n 0, 1) := dk_42 (dk_at dksX6_counts_0 0 rfl rfl)
theorem dX6_counts_1 : decode cX6_counts 1 = .ok (.iload_n 1, 1) := dk_27 (dk_at dksX6_counts_0 1 rfl rfl)
theorem dX6_counts_2 : decode cX6_counts 2 = .ok (.invokevirtual 65, 3) := dk_182 0 65 (dk_at dksX6_counts_0 2 rfl rfl)
theorem dX6_counts_5 : decode cX6_counts 5 = .ok (.ifCond .ne 5, 3) := dk_154 0 5 (dk_at dksX6_counts_0 5 rfl rfl)
theorem dX6_counts_8 : decode cX6_counts 8 = .ok (.iconst 0, 1) := dk_3 (dk_at dksX6_counts_0 8 rfl rfl)
theorem dX6_counts_9 : decode cX6_counts 9 = .ok (.ireturn, 1) := dk_172 (dk_at dksX6_counts_0 9 rfl rfl)
theorem dX6_counts_10 : decode cX6_counts 10 = .ok (.iconst 1, 1) := dk_4 (dk_at dksX6_counts_0 10 rfl rfl)
theorem dX6_counts_11 : decode cX6_counts 11 = .ok (.istore_n 2, 1) := dk_61 (dk_at dksX6_counts_0 11 rfl rfl)
theorem dX6_counts_12 : decode cX6_counts 12 = .ok (.iconst 0, 1) := dk_3 (dk_at dksX6_counts_0 12 rfl rfl)
theorem dX6_counts_13 : decode cX6_counts 13 = .ok (.istore_n 3, 1) := dk_62 (dk_at dksX6_counts_0 13 rfl rfl)
theorem dX6_counts_14 : decode cX6_counts 14 = .ok (.iload_n 3, 1) := dk_29 (dk_at dksX6_counts_0 14 rfl rfl)
theorem dX6_counts_15 : decode cX6_counts 15 = .ok (.aload_n 0, 1) := dk_42 (dk_at dksX6_counts_0 15 rfl rfl)
theorem dX6_counts_16 : decode cX6_counts 16 = .ok (.getfield 7, 3) := dk_180 0 7 (dk_at dksX6_counts_0 16 rfl rfl)
theorem dX6_counts_19 : decode cX6_counts 19 = .ok (.iload_n 1, 1) := dk_27 (dk_at dksX6_counts_0 19 rfl rfl)
theorem dX6_counts_20 : decode cX6_counts 20 = .ok (.invokestatic 58, 3) := dk_184 0 58 (dk_at dksX6_counts_0 20 rfl rfl)
theorem dX6_counts_23 : decode cX6_counts 23 = .ok (.iaload, 1) := dk_46 (dk_at dksX6_counts_0 23 rfl rfl)
theorem dX6_counts_24 : decode cX6_counts 24 = .ok (.if_icmp .ge 36, 3) := dk_162 0 36 (dk_at dksX6_counts_1 0 rfl rfl)
theorem dX6_counts_27 : decode cX6_counts 27 = .ok (.iload_n 2, 1) := dk_28 (dk_at dksX6_counts_1 3 rfl rfl)
theorem dX6_counts_28 : decode cX6_counts 28 = .ok (.ifCond .eq 24, 3) := dk_153 0 24 (dk_at dksX6_counts_1 4 rfl rfl)
theorem dX6_counts_31 : decode cX6_counts 31 = .ok (.aload_n 0, 1) := dk_42 (dk_at dksX6_counts_1 7 rfl rfl)
theorem dX6_counts_32 : decode cX6_counts 32 = .ok (.iload_n 1, 1) := dk_27 (dk_at dksX6_counts_1 8 rfl rfl)
theorem dX6_counts_33 : decode cX6_counts 33 = .ok (.iload_n 3, 1) := dk_29 (dk_at dksX6_counts_1 9 rfl rfl)
theorem dX6_counts_34 : decode cX6_counts 34 = .ok (.iconst 1, 1) := dk_4 (dk_at dksX6_counts_1 10 rfl rfl)
theorem dX6_counts_35 : decode cX6_counts 35 = .ok (.invokevirtual 68, 3) := dk_182 0 68 (dk_at dksX6_counts_1 11 rfl rfl)
theorem dX6_counts_38 : decode cX6_counts 38 = .ok (.aload_n 0, 1) := dk_42 (dk_at dksX6_counts_1 14 rfl rfl)
theorem dX6_counts_39 : decode cX6_counts 39 = .ok (.iload_n 1, 1) := dk_27 (dk_at dksX6_counts_1 15 rfl rfl)
theorem dX6_counts_40 : decode cX6_counts 40 = .ok (.iload_n 3, 1) := dk_29 (dk_at dksX6_counts_1 16 rfl rfl)
theorem dX6_counts_41 : decode cX6_counts 41 = .ok (.iconst 0, 1) := dk_3 (dk_at dksX6_counts_1 17 rfl rfl)
theorem dX6_counts_42 : decode cX6_counts 42 = .ok (.invokevirtual 68, 3) := dk_182 0 68 (dk_at dksX6_counts_1 18 rfl rfl)
theorem dX6_counts_45 : decode cX6_counts 45 = .ok (.if_icmp .ne 7, 3) := dk_160 0 7 (dk_at dksX6_counts_1 21 rfl rfl)
theorem dX6_counts_48 : decode cX6_counts 48 = .ok (.iconst 1, 1) := dk_4 (dk_at dksX6_counts_2 0 rfl rfl)
theorem dX6_counts_49 : decode cX6_counts 49 = .ok (.goto 4, 3) := dk_167 0 4 (dk_at dksX6_counts_2 1 rfl rfl)
theorem dX6_counts_52 : decode cX6_counts 52 = .ok (.iconst 0, 1) := dk_3 (dk_at dksX6_counts_2 4 rfl rfl)
theorem dX6_counts_53 : decode cX6_counts 53 = .ok (.istore_n 2, 1) := dk_61 (dk_at dksX6_counts_2 5 rfl rfl)
theorem dX6_counts_54 : decode cX6_counts 54 = .ok (.iinc 3 1, 3) := dk_132 3 1 (dk_at dksX6_counts_2 6 rfl rfl)
theorem dX6_counts_57 : decode cX6_counts 57 = .ok (.goto (-43), 3) := dk_167 255 213 (dk_at dksX6_counts_2 9 rfl rfl)
theorem dX6_counts_60 : decode cX6_counts 60 = .ok (.iload_n 2, 1) := dk_28 (dk_at dksX6_counts_2 12 rfl rfl)
theorem dX6_counts_61 : decode cX6_counts 61 = .ok (.ifCond .ne 7, 3) := dk_154 0 7 (dk_at dksX6_counts_2 13 rfl rfl)
theorem dX6_counts_64 : decode cX6_counts 64 = .ok (.iconst 1, 1) := dk_4 (dk_at dksX6_counts_2 16 rfl rfl)
theorem dX6_counts_65 : decode cX6_counts 65 = .ok (.goto 4, 3) := dk_167 0 4 (dk_at dksX6_counts_2 17 rfl rfl)
theorem dX6_counts_68 : decode cX6_counts 68 = .ok (.iconst 0, 1) := dk_3 (dk_at dksX6_counts_2 20 rfl rfl)
theorem dX6_counts_69 : decode cX6_counts 69 = .ok (.ireturn, 1) := dk_172 (dk_at dksX6_counts_2 21 rfl rfl)
abbrev cX6_canTurn : ByteArray := prog_11_method_15_code
def yX6_canTurn : MethodName := ⟨RX6, "canTurn", "(I)Z"⟩
def dkwX6_canTurn_2 : List UInt8 := [61, 132, 3, 1, 167, 255, 210, 28, 172]
abbrev dktX6_canTurn_2 : List UInt8 := dkwX6_canTurn_2 ++ []
def dkwX6_canTurn_1 : List UInt8 := [180, 0, 7, 27, 184, 0, 58, 4, 96, 29, 96, 46, 184, 0, 62, 2, 159, 0, 7, 4, 167, 0, 4, 3]
abbrev dktX6_canTurn_1 : List UInt8 := dkwX6_canTurn_1 ++ dktX6_canTurn_2
def dkwX6_canTurn_0 : List UInt8 := [4, 61, 3, 62, 29, 42, 180, 0, 7, 27, 184, 0, 58, 46, 162, 0, 39, 28, 153, 0, 27, 42]
abbrev dktX6_canTurn_0 : List UInt8 := dkwX6_canTurn_0 ++ dktX6_canTurn_1
theorem dksX6_canTurn_0 : cX6_canTurn.data.toList.drop 0 = dktX6_canTurn_0 := by decide +kernel
theorem dksX6_canTurn_1 : cX6_canTurn.data.toList.drop 22 = dktX6_canTurn_1 := dk_seg dksX6_canTurn_0 22 rfl rfl
theorem dksX6_canTurn_2 : cX6_canTurn.data.toList.drop 46 = dktX6_canTurn_2 := dk_seg dksX6_canTurn_1 24 rfl rfl
theorem dX6_canTurn_0 : decode cX6_canTurn 0 = .ok (.iconst 1, 1) := dk_4 (dk_at dksX6_canTurn_0 0 rfl rfl)
theorem dX6_canTurn_1 : decode cX6_canTurn 1 = .ok (.istore_n 2, 1) := dk_61 (dk_at dksX6_canTurn_0 1 rfl rfl)
theorem dX6_canTurn_2 : decode cX6_canTurn 2 = .ok (.iconst 0, 1) := dk_3 (dk_at dksX6_canTurn_0 2 rfl rfl)
theorem dX6_canTurn_3 : decode cX6_canTurn 3 = .ok (.istore_n 3, 1) := dk_62 (dk_at dksX6_canTurn_0 3 rfl rfl)
theorem dX6_canTurn_4 : decode cX6_canTurn 4 = .ok (.iload_n 3, 1) := dk_29 (dk_at dksX6_canTurn_0 4 rfl rfl)
theorem dX6_canTurn_5 : decode cX6_canTurn 5 = .ok (.aload_n 0, 1) := dk_42 (dk_at dksX6_canTurn_0 5 rfl rfl)
theorem dX6_canTurn_6 : decode cX6_canTurn 6 = .ok (.getfield 7, 3) := dk_180 0 7 (dk_at dksX6_canTurn_0 6 rfl rfl)
theorem dX6_canTurn_9 : decode cX6_canTurn 9 = .ok (.iload_n 1, 1) := dk_27 (dk_at dksX6_canTurn_0 9 rfl rfl)
theorem dX6_canTurn_10 : decode cX6_canTurn 10 = .ok (.invokestatic 58, 3) := dk_184 0 58 (dk_at dksX6_canTurn_0 10 rfl rfl)
theorem dX6_canTurn_13 : decode cX6_canTurn 13 = .ok (.iaload, 1) := dk_46 (dk_at dksX6_canTurn_0 13 rfl rfl)
theorem dX6_canTurn_14 : decode cX6_canTurn 14 = .ok (.if_icmp .ge 39, 3) := dk_162 0 39 (dk_at dksX6_canTurn_0 14 rfl rfl)
theorem dX6_canTurn_17 : decode cX6_canTurn 17 = .ok (.iload_n 2, 1) := dk_28 (dk_at dksX6_canTurn_0 17 rfl rfl)
theorem dX6_canTurn_18 : decode cX6_canTurn 18 = .ok (.ifCond .eq 27, 3) := dk_153 0 27 (dk_at dksX6_canTurn_0 18 rfl rfl)
theorem dX6_canTurn_21 : decode cX6_canTurn 21 = .ok (.aload_n 0, 1) := dk_42 (dk_at dksX6_canTurn_0 21 rfl rfl)
theorem dX6_canTurn_22 : decode cX6_canTurn 22 = .ok (.getfield 7, 3) := dk_180 0 7 (dk_at dksX6_canTurn_1 0 rfl rfl)
theorem dX6_canTurn_25 : decode cX6_canTurn 25 = .ok (.iload_n 1, 1) := dk_27 (dk_at dksX6_canTurn_1 3 rfl rfl)
theorem dX6_canTurn_26 : decode cX6_canTurn 26 = .ok (.invokestatic 58, 3) := dk_184 0 58 (dk_at dksX6_canTurn_1 4 rfl rfl)
theorem dX6_canTurn_29 : decode cX6_canTurn 29 = .ok (.iconst 1, 1) := dk_4 (dk_at dksX6_canTurn_1 7 rfl rfl)
theorem dX6_canTurn_30 : decode cX6_canTurn 30 = .ok (.iadd, 1) := dk_96 (dk_at dksX6_canTurn_1 8 rfl rfl)
theorem dX6_canTurn_31 : decode cX6_canTurn 31 = .ok (.iload_n 3, 1) := dk_29 (dk_at dksX6_canTurn_1 9 rfl rfl)
theorem dX6_canTurn_32 : decode cX6_canTurn 32 = .ok (.iadd, 1) := dk_96 (dk_at dksX6_canTurn_1 10 rfl rfl)
theorem dX6_canTurn_33 : decode cX6_canTurn 33 = .ok (.iaload, 1) := dk_46 (dk_at dksX6_canTurn_1 11 rfl rfl)
theorem dX6_canTurn_34 : decode cX6_canTurn 34 = .ok (.invokestatic 62, 3) := dk_184 0 62 (dk_at dksX6_canTurn_1 12 rfl rfl)
theorem dX6_canTurn_37 : decode cX6_canTurn 37 = .ok (.iconst (-1), 1) := dk_2 (dk_at dksX6_canTurn_1 15 rfl rfl)
theorem dX6_canTurn_38 : decode cX6_canTurn 38 = .ok (.if_icmp .eq 7, 3) := dk_159 0 7 (dk_at dksX6_canTurn_1 16 rfl rfl)
theorem dX6_canTurn_41 : decode cX6_canTurn 41 = .ok (.iconst 1, 1) := dk_4 (dk_at dksX6_canTurn_1 19 rfl rfl)
theorem dX6_canTurn_42 : decode cX6_canTurn 42 = .ok (.goto 4, 3) := dk_167 0 4 (dk_at dksX6_canTurn_1 20 rfl rfl)
theorem dX6_canTurn_45 : decode cX6_canTurn 45 = .ok (.iconst 0, 1) := dk_3 (dk_at dksX6_canTurn_1 23 rfl rfl)
theorem dX6_canTurn_46 : decode cX6_canTurn 46 = .ok (.istore_n 2, 1) := dk_61 (dk_at dksX6_canTurn_2 0 rfl rfl)
theorem dX6_canTurn_47 : decode cX6_canTurn 47 = .ok (.iinc 3 1, 3) := dk_132 3 1 (dk_at dksX6_canTurn_2 1 rfl rfl)
theorem dX6_canTurn_50 : decode cX6_canTurn 50 = .ok (.goto (-46), 3) := dk_167 255 210 (dk_at dksX6_canTurn_2 4 rfl rfl)
theorem dX6_canTurn_53 : decode cX6_canTurn 53 = .ok (.iload_n 2, 1) := dk_28 (dk_at dksX6_canTurn_2 7 rfl rfl)
theorem dX6_canTurn_54 : decode cX6_canTurn 54 = .ok (.ireturn, 1) := dk_172 (dk_at dksX6_canTurn_2 8 rfl rfl)
abbrev cX6_stamp : ByteArray := prog_11_method_44_code
def yX6_stamp : MethodName := ⟨RX6, "stamp", "(II)I"⟩
def dkwX6_stamp_1 : List UInt8 := [167, 0, 4, 5, 182, 0, 50, 153, 0, 7, 3, 167, 0, 9, 42, 27, 28, 182, 0, 151, 172]
abbrev dktX6_stamp_1 : List UInt8 := dkwX6_stamp_1 ++ []
def dkwX6_stamp_0 : List UInt8 := [42, 42, 27, 182, 0, 115, 154, 0, 7, 4, 167, 0, 17, 28, 3, 8, 184, 0, 54, 153, 0, 7, 3]
abbrev dktX6_stamp_0 : List UInt8 := dkwX6_stamp_0 ++ dktX6_stamp_1
theorem dksX6_stamp_0 : cX6_stamp.data.toList.drop 0 = dktX6_stamp_0 := by decide +kernel
theorem dksX6_stamp_1 : cX6_stamp.data.toList.drop 23 = dktX6_stamp_1 := dk_seg dksX6_stamp_0 23 rfl rfl
theorem dX6_stamp_0 : decode cX6_stamp 0 = .ok (.aload_n 0, 1) := dk_42 (dk_at dksX6_stamp_0 0 rfl rfl)
theorem dX6_stamp_1 : decode cX6_stamp 1 = .ok (.aload_n 0, 1) := dk_42 (dk_at dksX6_stamp_0 1 rfl rfl)
theorem dX6_stamp_2 : decode cX6_stamp 2 = .ok (.iload_n 1, 1) := dk_27 (dk_at dksX6_stamp_0 2 rfl rfl)
theorem dX6_stamp_3 : decode cX6_stamp 3 = .ok (.invokevirtual 115, 3) := dk_182 0 115 (dk_at dksX6_stamp_0 3 rfl rfl)
theorem dX6_stamp_6 : decode cX6_stamp 6 = .ok (.ifCond .ne 7, 3) := dk_154 0 7 (dk_at dksX6_stamp_0 6 rfl rfl)
theorem dX6_stamp_9 : decode cX6_stamp 9 = .ok (.iconst 1, 1) := dk_4 (dk_at dksX6_stamp_0 9 rfl rfl)
theorem dX6_stamp_10 : decode cX6_stamp 10 = .ok (.goto 17, 3) := dk_167 0 17 (dk_at dksX6_stamp_0 10 rfl rfl)
theorem dX6_stamp_13 : decode cX6_stamp 13 = .ok (.iload_n 2, 1) := dk_28 (dk_at dksX6_stamp_0 13 rfl rfl)
theorem dX6_stamp_14 : decode cX6_stamp 14 = .ok (.iconst 0, 1) := dk_3 (dk_at dksX6_stamp_0 14 rfl rfl)
theorem dX6_stamp_15 : decode cX6_stamp 15 = .ok (.iconst 5, 1) := dk_8 (dk_at dksX6_stamp_0 15 rfl rfl)
theorem dX6_stamp_16 : decode cX6_stamp 16 = .ok (.invokestatic 54, 3) := dk_184 0 54 (dk_at dksX6_stamp_0 16 rfl rfl)
theorem dX6_stamp_19 : decode cX6_stamp 19 = .ok (.ifCond .eq 7, 3) := dk_153 0 7 (dk_at dksX6_stamp_0 19 rfl rfl)
theorem dX6_stamp_22 : decode cX6_stamp 22 = .ok (.iconst 0, 1) := dk_3 (dk_at dksX6_stamp_0 22 rfl rfl)
theorem dX6_stamp_23 : decode cX6_stamp 23 = .ok (.goto 4, 3) := dk_167 0 4 (dk_at dksX6_stamp_1 0 rfl rfl)
theorem dX6_stamp_26 : decode cX6_stamp 26 = .ok (.iconst 2, 1) := dk_5 (dk_at dksX6_stamp_1 3 rfl rfl)
theorem dX6_stamp_27 : decode cX6_stamp 27 = .ok (.invokevirtual 50, 3) := dk_182 0 50 (dk_at dksX6_stamp_1 4 rfl rfl)
theorem dX6_stamp_30 : decode cX6_stamp 30 = .ok (.ifCond .eq 7, 3) := dk_153 0 7 (dk_at dksX6_stamp_1 7 rfl rfl)
theorem dX6_stamp_33 : decode cX6_stamp 33 = .ok (.iconst 0, 1) := dk_3 (dk_at dksX6_stamp_1 10 rfl rfl)
theorem dX6_stamp_34 : decode cX6_stamp 34 = .ok (.goto 9, 3) := dk_167 0 9 (dk_at dksX6_stamp_1 11 rfl rfl)
theorem dX6_stamp_37 : decode cX6_stamp 37 = .ok (.aload_n 0, 1) := dk_42 (dk_at dksX6_stamp_1 14 rfl rfl)
theorem dX6_stamp_38 : decode cX6_stamp 38 = .ok (.iload_n 1, 1) := dk_27 (dk_at dksX6_stamp_1 15 rfl rfl)
theorem dX6_stamp_39 : decode cX6_stamp 39 = .ok (.iload_n 2, 1) := dk_28 (dk_at dksX6_stamp_1 16 rfl rfl)
theorem dX6_stamp_40 : decode cX6_stamp 40 = .ok (.invokevirtual 151, 3) := dk_182 0 151 (dk_at dksX6_stamp_1 17 rfl rfl)
theorem dX6_stamp_43 : decode cX6_stamp 43 = .ok (.ireturn, 1) := dk_172 (dk_at dksX6_stamp_1 20 rfl rfl)
abbrev cX6_tellStamp : ByteArray := prog_11_method_43_code
def yX6_tellStamp : MethodName := ⟨RX6, "tellStamp", "(II)I"⟩
def dkwX6_tellStamp_4 : List UInt8 := [167, 0, 4, 3, 172, 42, 27, 182, 0, 118, 153, 0, 7, 4, 167, 0, 4, 3, 172]
abbrev dktX6_tellStamp_4 : List UInt8 := dkwX6_tellStamp_4 ++ []
def dkwX6_tellStamp_3 : List UInt8 := [96, 46, 172, 42, 180, 0, 7, 29, 16, 8, 96, 46, 172, 42, 27, 182, 0, 65, 153, 0, 7, 4]
abbrev dktX6_tellStamp_3 : List UInt8 := dkwX6_tellStamp_3 ++ dktX6_tellStamp_4
def dkwX6_tellStamp_2 : List UInt8 := [42, 180, 0, 7, 29, 46, 172, 42, 180, 0, 7, 29, 16, 6, 96, 46, 172, 42, 180, 0, 7, 29, 16, 7]
abbrev dktX6_tellStamp_2 : List UInt8 := dkwX6_tellStamp_2 ++ dktX6_tellStamp_3
def dkwX6_tellStamp_1 : List UInt8 := [170, 0, 0, 0, 0, 85, 0, 0, 0, 0, 0, 0, 0, 4, 0, 0, 0, 34, 0, 0, 0, 41, 0, 0, 0, 51, 0, 0, 0, 61, 0, 0, 0, 71]
abbrev dktX6_tellStamp_1 : List UInt8 := dkwX6_tellStamp_1 ++ dktX6_tellStamp_2
def dkwX6_tellStamp_0 : List UInt8 := [27, 184, 0, 58, 62, 28]
abbrev dktX6_tellStamp_0 : List UInt8 := dkwX6_tellStamp_0 ++ dktX6_tellStamp_1
theorem dksX6_tellStamp_0 : cX6_tellStamp.data.toList.drop 0 = dktX6_tellStamp_0 := by decide +kernel
theorem dksX6_tellStamp_1 : cX6_tellStamp.data.toList.drop 6 = dktX6_tellStamp_1 := dk_seg dksX6_tellStamp_0 6 rfl rfl
theorem dksX6_tellStamp_2 : cX6_tellStamp.data.toList.drop 40 = dktX6_tellStamp_2 := dk_seg dksX6_tellStamp_1 34 rfl rfl
theorem dksX6_tellStamp_3 : cX6_tellStamp.data.toList.drop 64 = dktX6_tellStamp_3 := dk_seg dksX6_tellStamp_2 24 rfl rfl
theorem dksX6_tellStamp_4 : cX6_tellStamp.data.toList.drop 86 = dktX6_tellStamp_4 := dk_seg dksX6_tellStamp_3 22 rfl rfl
theorem dX6_tellStamp_0 : decode cX6_tellStamp 0 = .ok (.iload_n 1, 1) := dk_27 (dk_at dksX6_tellStamp_0 0 rfl rfl)
theorem dX6_tellStamp_1 : decode cX6_tellStamp 1 = .ok (.invokestatic 58, 3) := dk_184 0 58 (dk_at dksX6_tellStamp_0 1 rfl rfl)
theorem dX6_tellStamp_4 : decode cX6_tellStamp 4 = .ok (.istore_n 3, 1) := dk_62 (dk_at dksX6_tellStamp_0 4 rfl rfl)
theorem dX6_tellStamp_5 : decode cX6_tellStamp 5 = .ok (.iload_n 2, 1) := dk_28 (dk_at dksX6_tellStamp_0 5 rfl rfl)
theorem dX6_tellStamp_6 : decode cX6_tellStamp 6 = .ok (.tableswitch 85 0 4 #[34, 41, 51, 61, 71], 34) := by decide +kernel
theorem dX6_tellStamp_40 : decode cX6_tellStamp 40 = .ok (.aload_n 0, 1) := dk_42 (dk_at dksX6_tellStamp_2 0 rfl rfl)
theorem dX6_tellStamp_41 : decode cX6_tellStamp 41 = .ok (.getfield 7, 3) := dk_180 0 7 (dk_at dksX6_tellStamp_2 1 rfl rfl)
theorem dX6_tellStamp_44 : decode cX6_tellStamp 44 = .ok (.iload_n 3, 1) := dk_29 (dk_at dksX6_tellStamp_2 4 rfl rfl)
theorem dX6_tellStamp_45 : decode cX6_tellStamp 45 = .ok (.iaload, 1) := dk_46 (dk_at dksX6_tellStamp_2 5 rfl rfl)
theorem dX6_tellStamp_46 : decode cX6_tellStamp 46 = .ok (.ireturn, 1) := dk_172 (dk_at dksX6_tellStamp_2 6 rfl rfl)
theorem dX6_tellStamp_47 : decode cX6_tellStamp 47 = .ok (.aload_n 0, 1) := dk_42 (dk_at dksX6_tellStamp_2 7 rfl rfl)
theorem dX6_tellStamp_48 : decode cX6_tellStamp 48 = .ok (.getfield 7, 3) := dk_180 0 7 (dk_at dksX6_tellStamp_2 8 rfl rfl)
theorem dX6_tellStamp_51 : decode cX6_tellStamp 51 = .ok (.iload_n 3, 1) := dk_29 (dk_at dksX6_tellStamp_2 11 rfl rfl)
theorem dX6_tellStamp_52 : decode cX6_tellStamp 52 = .ok (.bipush 6, 2) := dk_16 6 (dk_at dksX6_tellStamp_2 12 rfl rfl)
theorem dX6_tellStamp_54 : decode cX6_tellStamp 54 = .ok (.iadd, 1) := dk_96 (dk_at dksX6_tellStamp_2 14 rfl rfl)
theorem dX6_tellStamp_55 : decode cX6_tellStamp 55 = .ok (.iaload, 1) := dk_46 (dk_at dksX6_tellStamp_2 15 rfl rfl)
theorem dX6_tellStamp_56 : decode cX6_tellStamp 56 = .ok (.ireturn, 1) := dk_172 (dk_at dksX6_tellStamp_2 16 rfl rfl)
theorem dX6_tellStamp_57 : decode cX6_tellStamp 57 = .ok (.aload_n 0, 1) := dk_42 (dk_at dksX6_tellStamp_2 17 rfl rfl)
theorem dX6_tellStamp_58 : decode cX6_tellStamp 58 = .ok (.getfield 7, 3) := dk_180 0 7 (dk_at dksX6_tellStamp_2 18 rfl rfl)
theorem dX6_tellStamp_61 : decode cX6_tellStamp 61 = .ok (.iload_n 3, 1) := dk_29 (dk_at dksX6_tellStamp_2 21 rfl rfl)
theorem dX6_tellStamp_62 : decode cX6_tellStamp 62 = .ok (.bipush 7, 2) := dk_16 7 (dk_at dksX6_tellStamp_2 22 rfl rfl)
theorem dX6_tellStamp_64 : decode cX6_tellStamp 64 = .ok (.iadd, 1) := dk_96 (dk_at dksX6_tellStamp_3 0 rfl rfl)
theorem dX6_tellStamp_65 : decode cX6_tellStamp 65 = .ok (.iaload, 1) := dk_46 (dk_at dksX6_tellStamp_3 1 rfl rfl)
theorem dX6_tellStamp_66 : decode cX6_tellStamp 66 = .ok (.ireturn, 1) := dk_172 (dk_at dksX6_tellStamp_3 2 rfl rfl)
theorem dX6_tellStamp_67 : decode cX6_tellStamp 67 = .ok (.aload_n 0, 1) := dk_42 (dk_at dksX6_tellStamp_3 3 rfl rfl)
theorem dX6_tellStamp_68 : decode cX6_tellStamp 68 = .ok (.getfield 7, 3) := dk_180 0 7 (dk_at dksX6_tellStamp_3 4 rfl rfl)
theorem dX6_tellStamp_71 : decode cX6_tellStamp 71 = .ok (.iload_n 3, 1) := dk_29 (dk_at dksX6_tellStamp_3 7 rfl rfl)
theorem dX6_tellStamp_72 : decode cX6_tellStamp 72 = .ok (.bipush 8, 2) := dk_16 8 (dk_at dksX6_tellStamp_3 8 rfl rfl)
theorem dX6_tellStamp_74 : decode cX6_tellStamp 74 = .ok (.iadd, 1) := dk_96 (dk_at dksX6_tellStamp_3 10 rfl rfl)
theorem dX6_tellStamp_75 : decode cX6_tellStamp 75 = .ok (.iaload, 1) := dk_46 (dk_at dksX6_tellStamp_3 11 rfl rfl)
theorem dX6_tellStamp_76 : decode cX6_tellStamp 76 = .ok (.ireturn, 1) := dk_172 (dk_at dksX6_tellStamp_3 12 rfl rfl)
theorem dX6_tellStamp_77 : decode cX6_tellStamp 77 = .ok (.aload_n 0, 1) := dk_42 (dk_at dksX6_tellStamp_3 13 rfl rfl)
theorem dX6_tellStamp_78 : decode cX6_tellStamp 78 = .ok (.iload_n 1, 1) := dk_27 (dk_at dksX6_tellStamp_3 14 rfl rfl)
theorem dX6_tellStamp_79 : decode cX6_tellStamp 79 = .ok (.invokevirtual 65, 3) := dk_182 0 65 (dk_at dksX6_tellStamp_3 15 rfl rfl)
theorem dX6_tellStamp_82 : decode cX6_tellStamp 82 = .ok (.ifCond .eq 7, 3) := dk_153 0 7 (dk_at dksX6_tellStamp_3 18 rfl rfl)
theorem dX6_tellStamp_85 : decode cX6_tellStamp 85 = .ok (.iconst 1, 1) := dk_4 (dk_at dksX6_tellStamp_3 21 rfl rfl)
theorem dX6_tellStamp_86 : decode cX6_tellStamp 86 = .ok (.goto 4, 3) := dk_167 0 4 (dk_at dksX6_tellStamp_4 0 rfl rfl)
theorem dX6_tellStamp_89 : decode cX6_tellStamp 89 = .ok (.iconst 0, 1) := dk_3 (dk_at dksX6_tellStamp_4 3 rfl rfl)
theorem dX6_tellStamp_90 : decode cX6_tellStamp 90 = .ok (.ireturn, 1) := dk_172 (dk_at dksX6_tellStamp_4 4 rfl rfl)
theorem dX6_tellStamp_91 : decode cX6_tellStamp 91 = .ok (.aload_n 0, 1) := dk_42 (dk_at dksX6_tellStamp_4 5 rfl rfl)
theorem dX6_tellStamp_92 : decode cX6_tellStamp 92 = .ok (.iload_n 1, 1) := dk_27 (dk_at dksX6_tellStamp_4 6 rfl rfl)
theorem dX6_tellStamp_93 : decode cX6_tellStamp 93 = .ok (.invokevirtual 118, 3) := dk_182 0 118 (dk_at dksX6_tellStamp_4 7 rfl rfl)
theorem dX6_tellStamp_96 : decode cX6_tellStamp 96 = .ok (.ifCond .eq 7, 3) := dk_153 0 7 (dk_at dksX6_tellStamp_4 10 rfl rfl)
theorem dX6_tellStamp_99 : decode cX6_tellStamp 99 = .ok (.iconst 1, 1) := dk_4 (dk_at dksX6_tellStamp_4 13 rfl rfl)
theorem dX6_tellStamp_100 : decode cX6_tellStamp 100 = .ok (.goto 4, 3) := dk_167 0 4 (dk_at dksX6_tellStamp_4 14 rfl rfl)
theorem dX6_tellStamp_103 : decode cX6_tellStamp 103 = .ok (.iconst 0, 1) := dk_3 (dk_at dksX6_tellStamp_4 17 rfl rfl)
theorem dX6_tellStamp_104 : decode cX6_tellStamp 104 = .ok (.ireturn, 1) := dk_172 (dk_at dksX6_tellStamp_4 18 rfl rfl)
abbrev cX6_print : ByteArray := prog_11_method_45_code
def yX6_print : MethodName := ⟨RX6, "print", "(IIZ)I"⟩
def dkwX6_print_2 : List UInt8 := [27, 182, 0, 65, 154, 0, 7, 2, 167, 0, 10, 42, 27, 28, 29, 182, 0, 68, 172]
abbrev dktX6_print_2 : List UInt8 := dkwX6_print_2 ++ []
def dkwX6_print_1 : List UInt8 := [184, 0, 54, 153, 0, 7, 3, 167, 0, 4, 4, 182, 0, 50, 153, 0, 5, 3, 172, 29, 153, 0, 15, 42]
abbrev dktX6_print_1 : List UInt8 := dkwX6_print_1 ++ dktX6_print_2
def dkwX6_print_0 : List UInt8 := [42, 42, 27, 182, 0, 115, 153, 0, 26, 28, 3, 42, 180, 0, 7, 27, 184, 0, 58, 46, 4, 100]
abbrev dktX6_print_0 : List UInt8 := dkwX6_print_0 ++ dktX6_print_1
theorem dksX6_print_0 : cX6_print.data.toList.drop 0 = dktX6_print_0 := by decide +kernel
theorem dksX6_print_1 : cX6_print.data.toList.drop 22 = dktX6_print_1 := dk_seg dksX6_print_0 22 rfl rfl
theorem dksX6_print_2 : cX6_print.data.toList.drop 46 = dktX6_print_2 := dk_seg dksX6_print_1 24 rfl rfl
theorem dX6_print_0 : decode cX6_print 0 = .ok (.aload_n 0, 1) := dk_42 (dk_at dksX6_print_0 0 rfl rfl)
theorem dX6_print_1 : decode cX6_print 1 = .ok (.aload_n 0, 1) := dk_42 (dk_at dksX6_print_0 1 rfl rfl)
theorem dX6_print_2 : decode cX6_print 2 = .ok (.iload_n 1, 1) := dk_27 (dk_at dksX6_print_0 2 rfl rfl)
theorem dX6_print_3 : decode cX6_print 3 = .ok (.invokevirtual 115, 3) := dk_182 0 115 (dk_at dksX6_print_0 3 rfl rfl)
theorem dX6_print_6 : decode cX6_print 6 = .ok (.ifCond .eq 26, 3) := dk_153 0 26 (dk_at dksX6_print_0 6 rfl rfl)
theorem dX6_print_9 : decode cX6_print 9 = .ok (.iload_n 2, 1) := dk_28 (dk_at dksX6_print_0 9 rfl rfl)
theorem dX6_print_10 : decode cX6_print 10 = .ok (.iconst 0, 1) := dk_3 (dk_at dksX6_print_0 10 rfl rfl)
theorem dX6_print_11 : decode cX6_print 11 = .ok (.aload_n 0, 1) := dk_42 (dk_at dksX6_print_0 11 rfl rfl)
theorem dX6_print_12 : decode cX6_print 12 = .ok (.getfield 7, 3) := dk_180 0 7 (dk_at dksX6_print_0 12 rfl rfl)
theorem dX6_print_15 : decode cX6_print 15 = .ok (.iload_n 1, 1) := dk_27 (dk_at dksX6_print_0 15 rfl rfl)
theorem dX6_print_16 : decode cX6_print 16 = .ok (.invokestatic 58, 3) := dk_184 0 58 (dk_at dksX6_print_0 16 rfl rfl)
theorem dX6_print_19 : decode cX6_print 19 = .ok (.iaload, 1) := dk_46 (dk_at dksX6_print_0 19 rfl rfl)
theorem dX6_print_20 : decode cX6_print 20 = .ok (.iconst 1, 1) := dk_4 (dk_at dksX6_print_0 20 rfl rfl)
theorem dX6_print_21 : decode cX6_print 21 = .ok (.isub, 1) := dk_100 (dk_at dksX6_print_0 21 rfl rfl)
theorem dX6_print_22 : decode cX6_print 22 = .ok (.invokestatic 54, 3) := dk_184 0 54 (dk_at dksX6_print_1 0 rfl rfl)
theorem dX6_print_25 : decode cX6_print 25 = .ok (.ifCond .eq 7, 3) := dk_153 0 7 (dk_at dksX6_print_1 3 rfl rfl)
theorem dX6_print_28 : decode cX6_print 28 = .ok (.iconst 0, 1) := dk_3 (dk_at dksX6_print_1 6 rfl rfl)
theorem dX6_print_29 : decode cX6_print 29 = .ok (.goto 4, 3) := dk_167 0 4 (dk_at dksX6_print_1 7 rfl rfl)
theorem dX6_print_32 : decode cX6_print 32 = .ok (.iconst 1, 1) := dk_4 (dk_at dksX6_print_1 10 rfl rfl)
theorem dX6_print_33 : decode cX6_print 33 = .ok (.invokevirtual 50, 3) := dk_182 0 50 (dk_at dksX6_print_1 11 rfl rfl)
theorem dX6_print_36 : decode cX6_print 36 = .ok (.ifCond .eq 5, 3) := dk_153 0 5 (dk_at dksX6_print_1 14 rfl rfl)
theorem dX6_print_39 : decode cX6_print 39 = .ok (.iconst 0, 1) := dk_3 (dk_at dksX6_print_1 17 rfl rfl)
theorem dX6_print_40 : decode cX6_print 40 = .ok (.ireturn, 1) := dk_172 (dk_at dksX6_print_1 18 rfl rfl)
theorem dX6_print_41 : decode cX6_print 41 = .ok (.iload_n 3, 1) := dk_29 (dk_at dksX6_print_1 19 rfl rfl)
theorem dX6_print_42 : decode cX6_print 42 = .ok (.ifCond .eq 15, 3) := dk_153 0 15 (dk_at dksX6_print_1 20 rfl rfl)
theorem dX6_print_45 : decode cX6_print 45 = .ok (.aload_n 0, 1) := dk_42 (dk_at dksX6_print_1 23 rfl rfl)
theorem dX6_print_46 : decode cX6_print 46 = .ok (.iload_n 1, 1) := dk_27 (dk_at dksX6_print_2 0 rfl rfl)
theorem dX6_print_47 : decode cX6_print 47 = .ok (.invokevirtual 65, 3) := dk_182 0 65 (dk_at dksX6_print_2 1 rfl rfl)
theorem dX6_print_50 : decode cX6_print 50 = .ok (.ifCond .ne 7, 3) := dk_154 0 7 (dk_at dksX6_print_2 4 rfl rfl)
theorem dX6_print_53 : decode cX6_print 53 = .ok (.iconst (-1), 1) := dk_2 (dk_at dksX6_print_2 7 rfl rfl)
theorem dX6_print_54 : decode cX6_print 54 = .ok (.goto 10, 3) := dk_167 0 10 (dk_at dksX6_print_2 8 rfl rfl)
theorem dX6_print_57 : decode cX6_print 57 = .ok (.aload_n 0, 1) := dk_42 (dk_at dksX6_print_2 11 rfl rfl)
theorem dX6_print_58 : decode cX6_print 58 = .ok (.iload_n 1, 1) := dk_27 (dk_at dksX6_print_2 12 rfl rfl)
theorem dX6_print_59 : decode cX6_print 59 = .ok (.iload_n 2, 1) := dk_28 (dk_at dksX6_print_2 13 rfl rfl)
theorem dX6_print_60 : decode cX6_print 60 = .ok (.iload_n 3, 1) := dk_29 (dk_at dksX6_print_2 14 rfl rfl)
theorem dX6_print_61 : decode cX6_print 61 = .ok (.invokevirtual 68, 3) := dk_182 0 68 (dk_at dksX6_print_2 15 rfl rfl)
theorem dX6_print_64 : decode cX6_print 64 = .ok (.ireturn, 1) := dk_172 (dk_at dksX6_print_2 18 rfl rfl)
abbrev cX6_word : ByteArray := prog_11_method_48_code
def yX6_word : MethodName := ⟨RX6, "word", "(II)I"⟩
def dkwX6_word_1 : List UInt8 := [167, 0, 4, 5, 182, 0, 50, 153, 0, 7, 3, 167, 0, 9, 42, 27, 28, 182, 0, 164, 172]
abbrev dktX6_word_1 : List UInt8 := dkwX6_word_1 ++ []
def dkwX6_word_0 : List UInt8 := [42, 42, 27, 182, 0, 105, 154, 0, 7, 4, 167, 0, 17, 28, 3, 8, 184, 0, 54, 153, 0, 7, 3]
abbrev dktX6_word_0 : List UInt8 := dkwX6_word_0 ++ dktX6_word_1
theorem dksX6_word_0 : cX6_word.data.toList.drop 0 = dktX6_word_0 := by decide +kernel
theorem dksX6_word_1 : cX6_word.data.toList.drop 23 = dktX6_word_1 := dk_seg dksX6_word_0 23 rfl rfl
theorem dX6_word_0 : decode cX6_word 0 = .ok (.aload_n 0, 1) := dk_42 (dk_at dksX6_word_0 0 rfl rfl)
theorem dX6_word_1 : decode cX6_word 1 = .ok (.aload_n 0, 1) := dk_42 (dk_at dksX6_word_0 1 rfl rfl)
theorem dX6_word_2 : decode cX6_word 2 = .ok (.iload_n 1, 1) := dk_27 (dk_at dksX6_word_0 2 rfl rfl)
theorem dX6_word_3 : decode cX6_word 3 = .ok (.invokevirtual 105, 3) := dk_182 0 105 (dk_at dksX6_word_0 3 rfl rfl)
theorem dX6_word_6 : decode cX6_word 6 = .ok (.ifCond .ne 7, 3) := dk_154 0 7 (dk_at dksX6_word_0 6 rfl rfl)
theorem dX6_word_9 : decode cX6_word 9 = .ok (.iconst 1, 1) := dk_4 (dk_at dksX6_word_0 9 rfl rfl)
theorem dX6_word_10 : decode cX6_word 10 = .ok (.goto 17, 3) := dk_167 0 17 (dk_at dksX6_word_0 10 rfl rfl)
theorem dX6_word_13 : decode cX6_word 13 = .ok (.iload_n 2, 1) := dk_28 (dk_at dksX6_word_0 13 rfl rfl)
theorem dX6_word_14 : decode cX6_word 14 = .ok (.iconst 0, 1) := dk_3 (dk_at dksX6_word_0 14 rfl rfl)
theorem dX6_word_15 : decode cX6_word 15 = .ok (.iconst 5, 1) := dk_8 (dk_at dksX6_word_0 15 rfl rfl)
theorem dX6_word_16 : decode cX6_word 16 = .ok (.invokestatic 54, 3) := dk_184 0 54 (dk_at dksX6_word_0 16 rfl rfl)
theorem dX6_word_19 : decode cX6_word 19 = .ok (.ifCond .eq 7, 3) := dk_153 0 7 (dk_at dksX6_word_0 19 rfl rfl)
theorem dX6_word_22 : decode cX6_word 22 = .ok (.iconst 0, 1) := dk_3 (dk_at dksX6_word_0 22 rfl rfl)
theorem dX6_word_23 : decode cX6_word 23 = .ok (.goto 4, 3) := dk_167 0 4 (dk_at dksX6_word_1 0 rfl rfl)
theorem dX6_word_26 : decode cX6_word 26 = .ok (.iconst 2, 1) := dk_5 (dk_at dksX6_word_1 3 rfl rfl)
theorem dX6_word_27 : decode cX6_word 27 = .ok (.invokevirtual 50, 3) := dk_182 0 50 (dk_at dksX6_word_1 4 rfl rfl)
theorem dX6_word_30 : decode cX6_word 30 = .ok (.ifCond .eq 7, 3) := dk_153 0 7 (dk_at dksX6_word_1 7 rfl rfl)
theorem dX6_word_33 : decode cX6_word 33 = .ok (.iconst 0, 1) := dk_3 (dk_at dksX6_word_1 10 rfl rfl)
theorem dX6_word_34 : decode cX6_word 34 = .ok (.goto 9, 3) := dk_167 0 9 (dk_at dksX6_word_1 11 rfl rfl)
theorem dX6_word_37 : decode cX6_word 37 = .ok (.aload_n 0, 1) := dk_42 (dk_at dksX6_word_1 14 rfl rfl)
theorem dX6_word_38 : decode cX6_word 38 = .ok (.iload_n 1, 1) := dk_27 (dk_at dksX6_word_1 15 rfl rfl)
theorem dX6_word_39 : decode cX6_word 39 = .ok (.iload_n 2, 1) := dk_28 (dk_at dksX6_word_1 16 rfl rfl)
theorem dX6_word_40 : decode cX6_word 40 = .ok (.invokevirtual 164, 3) := dk_182 0 164 (dk_at dksX6_word_1 17 rfl rfl)
theorem dX6_word_43 : decode cX6_word 43 = .ok (.ireturn, 1) := dk_172 (dk_at dksX6_word_1 20 rfl rfl)
abbrev cX6_tellWord : ByteArray := prog_11_method_47_code
def yX6_tellWord : MethodName := ⟨RX6, "tellWord", "(II)I"⟩
def dkwX6_tellWord_4 : List UInt8 := [182, 0, 160, 172]
abbrev dktX6_tellWord_4 : List UInt8 := dkwX6_tellWord_4 ++ []
def dkwX6_tellWord_3 : List UInt8 := [182, 0, 154, 153, 0, 7, 4, 167, 0, 4, 3, 172, 42, 27, 28, 8, 160, 0, 7, 4, 167, 0, 4, 3]
abbrev dktX6_tellWord_3 : List UInt8 := dkwX6_tellWord_3 ++ dktX6_tellWord_4
def dkwX6_tellWord_2 : List UInt8 := [42, 180, 0, 7, 27, 184, 0, 89, 28, 96, 46, 172, 42, 27, 42, 182, 0, 135, 182, 0, 131, 172, 42, 27]
abbrev dktX6_tellWord_2 : List UInt8 := dkwX6_tellWord_2 ++ dktX6_tellWord_3
def dkwX6_tellWord_1 : List UInt8 := [170, 0, 0, 0, 0, 0, 67, 0, 0, 0, 0, 0, 0, 0, 3, 0, 0, 0, 31, 0, 0, 0, 31, 0, 0, 0, 43, 0, 0, 0, 53]
abbrev dktX6_tellWord_1 : List UInt8 := dkwX6_tellWord_1 ++ dktX6_tellWord_2
def dkwX6_tellWord_0 : List UInt8 := [28]
abbrev dktX6_tellWord_0 : List UInt8 := dkwX6_tellWord_0 ++ dktX6_tellWord_1
theorem dksX6_tellWord_0 : cX6_tellWord.data.toList.drop 0 = dktX6_tellWord_0 := by decide +kernel
theorem dksX6_tellWord_1 : cX6_tellWord.data.toList.drop 1 = dktX6_tellWord_1 := dk_seg dksX6_tellWord_0 1 rfl rfl
theorem dksX6_tellWord_2 : cX6_tellWord.data.toList.drop 32 = dktX6_tellWord_2 := dk_seg dksX6_tellWord_1 31 rfl rfl
theorem dksX6_tellWord_3 : cX6_tellWord.data.toList.drop 56 = dktX6_tellWord_3 := dk_seg dksX6_tellWord_2 24 rfl rfl
theorem dksX6_tellWord_4 : cX6_tellWord.data.toList.drop 80 = dktX6_tellWord_4 := dk_seg dksX6_tellWord_3 24 rfl rfl
theorem dX6_tellWord_0 : decode cX6_tellWord 0 = .ok (.iload_n 2, 1) := dk_28 (dk_at dksX6_tellWord_0 0 rfl rfl)
theorem dX6_tellWord_1 : decode cX6_tellWord 1 = .ok (.tableswitch 67 0 3 #[31, 31, 43, 53], 31) := by decide +kernel
theorem dX6_tellWord_32 : decode cX6_tellWord 32 = .ok (.aload_n 0, 1) := dk_42 (dk_at dksX6_tellWord_2 0 rfl rfl)
theorem dX6_tellWord_33 : decode cX6_tellWord 33 = .ok (.getfield 7, 3) := dk_180 0 7 (dk_at dksX6_tellWord_2 1 rfl rfl)
theorem dX6_tellWord_36 : decode cX6_tellWord 36 = .ok (.iload_n 1, 1) := dk_27 (dk_at dksX6_tellWord_2 4 rfl rfl)
theorem dX6_tellWord_37 : decode cX6_tellWord 37 = .ok (.invokestatic 89, 3) := dk_184 0 89 (dk_at dksX6_tellWord_2 5 rfl rfl)
theorem dX6_tellWord_40 : decode cX6_tellWord 40 = .ok (.iload_n 2, 1) := dk_28 (dk_at dksX6_tellWord_2 8 rfl rfl)
theorem dX6_tellWord_41 : decode cX6_tellWord 41 = .ok (.iadd, 1) := dk_96 (dk_at dksX6_tellWord_2 9 rfl rfl)
theorem dX6_tellWord_42 : decode cX6_tellWord 42 = .ok (.iaload, 1) := dk_46 (dk_at dksX6_tellWord_2 10 rfl rfl)
theorem dX6_tellWord_43 : decode cX6_tellWord 43 = .ok (.ireturn, 1) := dk_172 (dk_at dksX6_tellWord_2 11 rfl rfl)
theorem dX6_tellWord_44 : decode cX6_tellWord 44 = .ok (.aload_n 0, 1) := dk_42 (dk_at dksX6_tellWord_2 12 rfl rfl)
theorem dX6_tellWord_45 : decode cX6_tellWord 45 = .ok (.iload_n 1, 1) := dk_27 (dk_at dksX6_tellWord_2 13 rfl rfl)
theorem dX6_tellWord_46 : decode cX6_tellWord 46 = .ok (.aload_n 0, 1) := dk_42 (dk_at dksX6_tellWord_2 14 rfl rfl)
theorem dX6_tellWord_47 : decode cX6_tellWord 47 = .ok (.invokevirtual 135, 3) := dk_182 0 135 (dk_at dksX6_tellWord_2 15 rfl rfl)
theorem dX6_tellWord_50 : decode cX6_tellWord 50 = .ok (.invokevirtual 131, 3) := dk_182 0 131 (dk_at dksX6_tellWord_2 18 rfl rfl)
theorem dX6_tellWord_53 : decode cX6_tellWord 53 = .ok (.ireturn, 1) := dk_172 (dk_at dksX6_tellWord_2 21 rfl rfl)
theorem dX6_tellWord_54 : decode cX6_tellWord 54 = .ok (.aload_n 0, 1) := dk_42 (dk_at dksX6_tellWord_2 22 rfl rfl)
theorem dX6_tellWord_55 : decode cX6_tellWord 55 = .ok (.iload_n 1, 1) := dk_27 (dk_at dksX6_tellWord_2 23 rfl rfl)
theorem dX6_tellWord_56 : decode cX6_tellWord 56 = .ok (.invokevirtual 154, 3) := dk_182 0 154 (dk_at dksX6_tellWord_3 0 rfl rfl)
theorem dX6_tellWord_59 : decode cX6_tellWord 59 = .ok (.ifCond .eq 7, 3) := dk_153 0 7 (dk_at dksX6_tellWord_3 3 rfl rfl)
theorem dX6_tellWord_62 : decode cX6_tellWord 62 = .ok (.iconst 1, 1) := dk_4 (dk_at dksX6_tellWord_3 6 rfl rfl)
theorem dX6_tellWord_63 : decode cX6_tellWord 63 = .ok (.goto 4, 3) := dk_167 0 4 (dk_at dksX6_tellWord_3 7 rfl rfl)
theorem dX6_tellWord_66 : decode cX6_tellWord 66 = .ok (.iconst 0, 1) := dk_3 (dk_at dksX6_tellWord_3 10 rfl rfl)
theorem dX6_tellWord_67 : decode cX6_tellWord 67 = .ok (.ireturn, 1) := dk_172 (dk_at dksX6_tellWord_3 11 rfl rfl)
theorem dX6_tellWord_68 : decode cX6_tellWord 68 = .ok (.aload_n 0, 1) := dk_42 (dk_at dksX6_tellWord_3 12 rfl rfl)
theorem dX6_tellWord_69 : decode cX6_tellWord 69 = .ok (.iload_n 1, 1) := dk_27 (dk_at dksX6_tellWord_3 13 rfl rfl)
theorem dX6_tellWord_70 : decode cX6_tellWord 70 = .ok (.iload_n 2, 1) := dk_28 (dk_at dksX6_tellWord_3 14 rfl rfl)
theorem dX6_tellWord_71 : decode cX6_tellWord 71 = .ok (.iconst 5, 1) := dk_8 (dk_at dksX6_tellWord_3 15 rfl rfl)
theorem dX6_tellWord_72 : decode cX6_tellWord 72 = .ok (.if_icmp .ne 7, 3) := dk_160 0 7 (dk_at dksX6_tellWord_3 16 rfl rfl)
theorem dX6_tellWord_75 : decode cX6_tellWord 75 = .ok (.iconst 1, 1) := dk_4 (dk_at dksX6_tellWord_3 19 rfl rfl)
theorem dX6_tellWord_76 : decode cX6_tellWord 76 = .ok (.goto 4, 3) := dk_167 0 4 (dk_at dksX6_tellWord_3 20 rfl rfl)
theorem dX6_tellWord_79 : decode cX6_tellWord 79 = .ok (.iconst 0, 1) := dk_3 (dk_at dksX6_tellWord_3 23 rfl rfl)
theorem dX6_tellWord_80 : decode cX6_tellWord 80 = .ok (.invokevirtual 160, 3) := dk_182 0 160 (dk_at dksX6_tellWord_4 0 rfl rfl)
theorem dX6_tellWord_83 : decode cX6_tellWord 83 = .ok (.ireturn, 1) := dk_172 (dk_at dksX6_tellWord_4 3 rfl rfl)
abbrev cX6_canWrite : ByteArray := prog_11_method_37_code
def yX6_canWrite : MethodName := ⟨RX6, "canWrite", "(I)Z"⟩
def dkwX6_canWrite_5 : List UInt8 := [167, 0, 4, 3, 61, 132, 3, 1, 167, 255, 150, 28, 172]
abbrev dktX6_canWrite_5 : List UInt8 := dkwX6_canWrite_5 ++ []
def dkwX6_canWrite_4 : List UInt8 := [46, 164, 0, 20, 21, 4, 42, 180, 0, 7, 29, 184, 0, 58, 16, 8, 96, 46, 160, 0, 7, 4]
abbrev dktX6_canWrite_4 : List UInt8 := dkwX6_canWrite_4 ++ dktX6_canWrite_5
def dkwX6_canWrite_3 : List UInt8 := [167, 0, 4, 3, 96, 54, 4, 132, 5, 1, 167, 255, 221, 28, 153, 0, 35, 21, 4, 42, 180, 0, 7, 5]
abbrev dktX6_canWrite_3 : List UInt8 := dkwX6_canWrite_3 ++ dktX6_canWrite_4
def dkwX6_canWrite_2 : List UInt8 := [180, 0, 128, 162, 0, 32, 21, 4, 42, 180, 0, 28, 21, 5, 46, 5, 108, 29, 160, 0, 7, 4]
abbrev dktX6_canWrite_2 : List UInt8 := dkwX6_canWrite_2 ++ dktX6_canWrite_3
def dkwX6_canWrite_1 : List UInt8 := [46, 162, 0, 102, 42, 180, 0, 7, 29, 184, 0, 58, 16, 8, 96, 46, 54, 4, 3, 54, 5, 21, 5, 42]
abbrev dktX6_canWrite_1 : List UInt8 := dkwX6_canWrite_1 ++ dktX6_canWrite_2
def dkwX6_canWrite_0 : List UInt8 := [42, 27, 42, 182, 0, 135, 182, 0, 139, 154, 0, 5, 3, 172, 4, 61, 3, 62, 29, 42, 180, 0, 7, 3]
abbrev dktX6_canWrite_0 : List UInt8 := dkwX6_canWrite_0 ++ dktX6_canWrite_1
theorem dksX6_canWrite_0 : cX6_canWrite.data.toList.drop 0 = dktX6_canWrite_0 := by decide +kernel
theorem dksX6_canWrite_1 : cX6_canWrite.data.toList.drop 24 = dktX6_canWrite_1 := dk_seg dksX6_canWrite_0 24 rfl rfl
theorem dksX6_canWrite_2 : cX6_canWrite.data.toList.drop 48 = dktX6_canWrite_2 := dk_seg dksX6_canWrite_1 24 rfl rfl
theorem dksX6_canWrite_3 : cX6_canWrite.data.toList.drop 70 = dktX6_canWrite_3 := dk_seg dksX6_canWrite_2 22 rfl rfl
theorem dksX6_canWrite_4 : cX6_canWrite.data.toList.drop 94 = dktX6_canWrite_4 := dk_seg dksX6_canWrite_3 24 rfl rfl
theorem dksX6_canWrite_5 : cX6_canWrite.data.toList.drop 116 = dktX6_canWrite_5 := dk_seg dksX6_canWrite_4 22 rfl rfl
theorem dX6_canWrite_0 : decode cX6_canWrite 0 = .ok (.aload_n 0, 1) := dk_42 (dk_at dksX6_canWrite_0 0 rfl rfl)
theorem dX6_canWrite_1 : decode cX6_canWrite 1 = .ok (.iload_n 1, 1) := dk_27 (dk_at dksX6_canWrite_0 1 rfl rfl)
theorem dX6_canWrite_2 : decode cX6_canWrite 2 = .ok (.aload_n 0, 1) := dk_42 (dk_at dksX6_canWrite_0 2 rfl rfl)
theorem dX6_canWrite_3 : decode cX6_canWrite 3 = .ok (.invokevirtual 135, 3) := dk_182 0 135 (dk_at dksX6_canWrite_0 3 rfl rfl)
theorem dX6_canWrite_6 : decode cX6_canWrite 6 = .ok (.invokevirtual 139, 3) := dk_182 0 139 (dk_at dksX6_canWrite_0 6 rfl rfl)
theorem dX6_canWrite_9 : decode cX6_canWrite 9 = .ok (.ifCond .ne 5, 3) := dk_154 0 5 (dk_at dksX6_canWrite_0 9 rfl rfl)
theorem dX6_canWrite_12 : decode cX6_canWrite 12 = .ok (.iconst 0, 1) := dk_3 (dk_at dksX6_canWrite_0 12 rfl rfl)
theorem dX6_canWrite_13 : decode cX6_canWrite 13 = .ok (.ireturn, 1) := dk_172 (dk_at dksX6_canWrite_0 13 rfl rfl)
theorem dX6_canWrite_14 : decode cX6_canWrite 14 = .ok (.iconst 1, 1) := dk_4 (dk_at dksX6_canWrite_0 14 rfl rfl)
theorem dX6_canWrite_15 : decode cX6_canWrite 15 = .ok (.istore_n 2, 1) := dk_61 (dk_at dksX6_canWrite_0 15 rfl rfl)
theorem dX6_canWrite_16 : decode cX6_canWrite 16 = .ok (.iconst 0, 1) := dk_3 (dk_at dksX6_canWrite_0 16 rfl rfl)
theorem dX6_canWrite_17 : decode cX6_canWrite 17 = .ok (.istore_n 3, 1) := dk_62 (dk_at dksX6_canWrite_0 17 rfl rfl)
theorem dX6_canWrite_18 : decode cX6_canWrite 18 = .ok (.iload_n 3, 1) := dk_29 (dk_at dksX6_canWrite_0 18 rfl rfl)
theorem dX6_canWrite_19 : decode cX6_canWrite 19 = .ok (.aload_n 0, 1) := dk_42 (dk_at dksX6_canWrite_0 19 rfl rfl)
theorem dX6_canWrite_20 : decode cX6_canWrite 20 = .ok (.getfield 7, 3) := dk_180 0 7 (dk_at dksX6_canWrite_0 20 rfl rfl)
theorem dX6_canWrite_23 : decode cX6_canWrite 23 = .ok (.iconst 0, 1) := dk_3 (dk_at dksX6_canWrite_0 23 rfl rfl)
theorem dX6_canWrite_24 : decode cX6_canWrite 24 = .ok (.iaload, 1) := dk_46 (dk_at dksX6_canWrite_1 0 rfl rfl)
theorem dX6_canWrite_25 : decode cX6_canWrite 25 = .ok (.if_icmp .ge 102, 3) := dk_162 0 102 (dk_at dksX6_canWrite_1 1 rfl rfl)
theorem dX6_canWrite_28 : decode cX6_canWrite 28 = .ok (.aload_n 0, 1) := dk_42 (dk_at dksX6_canWrite_1 4 rfl rfl)
theorem dX6_canWrite_29 : decode cX6_canWrite 29 = .ok (.getfield 7, 3) := dk_180 0 7 (dk_at dksX6_canWrite_1 5 rfl rfl)
theorem dX6_canWrite_32 : decode cX6_canWrite 32 = .ok (.iload_n 3, 1) := dk_29 (dk_at dksX6_canWrite_1 8 rfl rfl)
theorem dX6_canWrite_33 : decode cX6_canWrite 33 = .ok (.invokestatic 58, 3) := dk_184 0 58 (dk_at dksX6_canWrite_1 9 rfl rfl)
theorem dX6_canWrite_36 : decode cX6_canWrite 36 = .ok (.bipush 8, 2) := dk_16 8 (dk_at dksX6_canWrite_1 12 rfl rfl)
theorem dX6_canWrite_38 : decode cX6_canWrite 38 = .ok (.iadd, 1) := dk_96 (dk_at dksX6_canWrite_1 14 rfl rfl)
theorem dX6_canWrite_39 : decode cX6_canWrite 39 = .ok (.iaload, 1) := dk_46 (dk_at dksX6_canWrite_1 15 rfl rfl)
theorem dX6_canWrite_40 : decode cX6_canWrite 40 = .ok (.istore 4, 2) := dk_54 4 (dk_at dksX6_canWrite_1 16 rfl rfl)
theorem dX6_canWrite_42 : decode cX6_canWrite 42 = .ok (.iconst 0, 1) := dk_3 (dk_at dksX6_canWrite_1 18 rfl rfl)
theorem dX6_canWrite_43 : decode cX6_canWrite 43 = .ok (.istore 5, 2) := dk_54 5 (dk_at dksX6_canWrite_1 19 rfl rfl)
theorem dX6_canWrite_45 : decode cX6_canWrite 45 = .ok (.iload 5, 2) := dk_21 5 (dk_at dksX6_canWrite_1 21 rfl rfl)
theorem dX6_canWrite_47 : decode cX6_canWrite 47 = .ok (.aload_n 0, 1) := dk_42 (dk_at dksX6_canWrite_1 23 rfl rfl)
theorem dX6_canWrite_48 : decode cX6_canWrite 48 = .ok (.getfield 128, 3) := dk_180 0 128 (dk_at dksX6_canWrite_2 0 rfl rfl)
theorem dX6_canWrite_51 : decode cX6_canWrite 51 = .ok (.if_icmp .ge 32, 3) := dk_162 0 32 (dk_at dksX6_canWrite_2 3 rfl rfl)
theorem dX6_canWrite_54 : decode cX6_canWrite 54 = .ok (.iload 4, 2) := dk_21 4 (dk_at dksX6_canWrite_2 6 rfl rfl)
theorem dX6_canWrite_56 : decode cX6_canWrite 56 = .ok (.aload_n 0, 1) := dk_42 (dk_at dksX6_canWrite_2 8 rfl rfl)
theorem dX6_canWrite_57 : decode cX6_canWrite 57 = .ok (.getfield 28, 3) := dk_180 0 28 (dk_at dksX6_canWrite_2 9 rfl rfl)
theorem dX6_canWrite_60 : decode cX6_canWrite 60 = .ok (.iload 5, 2) := dk_21 5 (dk_at dksX6_canWrite_2 12 rfl rfl)
theorem dX6_canWrite_62 : decode cX6_canWrite 62 = .ok (.iaload, 1) := dk_46 (dk_at dksX6_canWrite_2 14 rfl rfl)
theorem dX6_canWrite_63 : decode cX6_canWrite 63 = .ok (.iconst 2, 1) := dk_5 (dk_at dksX6_canWrite_2 15 rfl rfl)
theorem dX6_canWrite_64 : decode cX6_canWrite 64 = .ok (.idiv, 1) := dk_108 (dk_at dksX6_canWrite_2 16 rfl rfl)
theorem dX6_canWrite_65 : decode cX6_canWrite 65 = .ok (.iload_n 3, 1) := dk_29 (dk_at dksX6_canWrite_2 17 rfl rfl)
theorem dX6_canWrite_66 : decode cX6_canWrite 66 = .ok (.if_icmp .ne 7, 3) := dk_160 0 7 (dk_at dksX6_canWrite_2 18 rfl rfl)
theorem dX6_canWrite_69 : decode cX6_canWrite 69 = .ok (.iconst 1, 1) := dk_4 (dk_at dksX6_canWrite_2 21 rfl rfl)
theorem dX6_canWrite_70 : decode cX6_canWrite 70 = .ok (.goto 4, 3) := dk_167 0 4 (dk_at dksX6_canWrite_3 0 rfl rfl)
theorem dX6_canWrite_73 : decode cX6_canWrite 73 = .ok (.iconst 0, 1) := dk_3 (dk_at dksX6_canWrite_3 3 rfl rfl)
theorem dX6_canWrite_74 : decode cX6_canWrite 74 = .ok (.iadd, 1) := dk_96 (dk_at dksX6_canWrite_3 4 rfl rfl)
theorem dX6_canWrite_75 : decode cX6_canWrite 75 = .ok (.istore 4, 2) := dk_54 4 (dk_at dksX6_canWrite_3 5 rfl rfl)
theorem dX6_canWrite_77 : decode cX6_canWrite 77 = .ok (.iinc 5 1, 3) := dk_132 5 1 (dk_at dksX6_canWrite_3 7 rfl rfl)
theorem dX6_canWrite_80 : decode cX6_canWrite 80 = .ok (.goto (-35), 3) := dk_167 255 221 (dk_at dksX6_canWrite_3 10 rfl rfl)
theorem dX6_canWrite_83 : decode cX6_canWrite 83 = .ok (.iload_n 2, 1) := dk_28 (dk_at dksX6_canWrite_3 13 rfl rfl)
theorem dX6_canWrite_84 : decode cX6_canWrite 84 = .ok (.ifCond .eq 35, 3) := dk_153 0 35 (dk_at dksX6_canWrite_3 14 rfl rfl)
theorem dX6_canWrite_87 : decode cX6_canWrite 87 = .ok (.iload 4, 2) := dk_21 4 (dk_at dksX6_canWrite_3 17 rfl rfl)
theorem dX6_canWrite_89 : decode cX6_canWrite 89 = .ok (.aload_n 0, 1) := dk_42 (dk_at dksX6_canWrite_3 19 rfl rfl)
theorem dX6_canWrite_90 : decode cX6_canWrite 90 = .ok (.getfield 7, 3) := dk_180 0 7 (dk_at dksX6_canWrite_3 20 rfl rfl)
theorem dX6_canWrite_93 : decode cX6_canWrite 93 = .ok (.iconst 2, 1) := dk_5 (dk_at dksX6_canWrite_3 23 rfl rfl)
theorem dX6_canWrite_94 : decode cX6_canWrite 94 = .ok (.iaload, 1) := dk_46 (dk_at dksX6_canWrite_4 0 rfl rfl)
theorem dX6_canWrite_95 : decode cX6_canWrite 95 = .ok (.if_icmp .le 20, 3) := dk_164 0 20 (dk_at dksX6_canWrite_4 1 rfl rfl)
theorem dX6_canWrite_98 : decode cX6_canWrite 98 = .ok (.iload 4, 2) := dk_21 4 (dk_at dksX6_canWrite_4 4 rfl rfl)
theorem dX6_canWrite_100 : decode cX6_canWrite 100 = .ok (.aload_n 0, 1) := dk_42 (dk_at dksX6_canWrite_4 6 rfl rfl)
theorem dX6_canWrite_101 : decode cX6_canWrite 101 = .ok (.getfield 7, 3) := dk_180 0 7 (dk_at dksX6_canWrite_4 7 rfl rfl)
theorem dX6_canWrite_104 : decode cX6_canWrite 104 = .ok (.iload_n 3, 1) := dk_29 (dk_at dksX6_canWrite_4 10 rfl rfl)
theorem dX6_canWrite_105 : decode cX6_canWrite 105 = .ok (.invokestatic 58, 3) := dk_184 0 58 (dk_at dksX6_canWrite_4 11 rfl rfl)
theorem dX6_canWrite_108 : decode cX6_canWrite 108 = .ok (.bipush 8, 2) := dk_16 8 (dk_at dksX6_canWrite_4 14 rfl rfl)
theorem dX6_canWrite_110 : decode cX6_canWrite 110 = .ok (.iadd, 1) := dk_96 (dk_at dksX6_canWrite_4 16 rfl rfl)
theorem dX6_canWrite_111 : decode cX6_canWrite 111 = .ok (.iaload, 1) := dk_46 (dk_at dksX6_canWrite_4 17 rfl rfl)
theorem dX6_canWrite_112 : decode cX6_canWrite 112 = .ok (.if_icmp .ne 7, 3) := dk_160 0 7 (dk_at dksX6_canWrite_4 18 rfl rfl)
theorem dX6_canWrite_115 : decode cX6_canWrite 115 = .ok (.iconst 1, 1) := dk_4 (dk_at dksX6_canWrite_4 21 rfl rfl)
theorem dX6_canWrite_116 : decode cX6_canWrite 116 = .ok (.goto 4, 3) := dk_167 0 4 (dk_at dksX6_canWrite_5 0 rfl rfl)
theorem dX6_canWrite_119 : decode cX6_canWrite 119 = .ok (.iconst 0, 1) := dk_3 (dk_at dksX6_canWrite_5 3 rfl rfl)
theorem dX6_canWrite_120 : decode cX6_canWrite 120 = .ok (.istore_n 2, 1) := dk_61 (dk_at dksX6_canWrite_5 4 rfl rfl)
theorem dX6_canWrite_121 : decode cX6_canWrite 121 = .ok (.iinc 3 1, 3) := dk_132 3 1 (dk_at dksX6_canWrite_5 5 rfl rfl)
theorem dX6_canWrite_124 : decode cX6_canWrite 124 = .ok (.goto (-106), 3) := dk_167 255 150 (dk_at dksX6_canWrite_5 8 rfl rfl)
theorem dX6_canWrite_127 : decode cX6_canWrite 127 = .ok (.iload_n 2, 1) := dk_28 (dk_at dksX6_canWrite_5 11 rfl rfl)
theorem dX6_canWrite_128 : decode cX6_canWrite 128 = .ok (.ireturn, 1) := dk_172 (dk_at dksX6_canWrite_5 12 rfl rfl)
abbrev cX6_plans : ByteArray := prog_11_method_36_code
def yX6_plans : MethodName := ⟨RX6, "plans", "(II)Z"⟩
def dkwX6_plans_8 : List UInt8 := [62, 42, 89, 180, 0, 128, 4, 96, 181, 0, 128, 167, 255, 75, 4, 172]
abbrev dktX6_plans_8 : List UInt8 := dkwX6_plans_8 ++ []
def dkwX6_plans_7 : List UInt8 := [180, 0, 128, 21, 4, 4, 100, 79, 29, 42, 180, 0, 7, 21, 4, 4, 100, 5, 108, 184, 0, 58, 46, 96]
abbrev dktX6_plans_7 : List UInt8 := dkwX6_plans_7 ++ dktX6_plans_8
def dkwX6_plans_6 : List UInt8 := [182, 0, 121, 153, 0, 7, 4, 167, 0, 4, 3, 54, 5, 132, 4, 1, 167, 255, 137, 42, 180, 0, 28, 42]
abbrev dktX6_plans_6 : List UInt8 := dkwX6_plans_6 ++ dktX6_plans_7
def dkwX6_plans_5 : List UInt8 := [160, 0, 34, 21, 7, 153, 0, 12, 42, 21, 6, 182, 0, 125, 153, 0, 20, 42, 27, 29, 21, 6, 21, 7]
abbrev dktX6_plans_5 : List UInt8 := dkwX6_plans_5 ++ dktX6_plans_6
def dkwX6_plans_4 : List UInt8 := [184, 0, 89, 46, 163, 0, 52, 42, 180, 0, 25, 21, 8, 46, 42, 180, 0, 25, 29, 46, 4, 100]
abbrev dktX6_plans_4 : List UInt8 := dkwX6_plans_4 ++ dktX6_plans_5
def dkwX6_plans_3 : List UInt8 := [184, 0, 58, 46, 96, 54, 8, 28, 21, 6, 122, 4, 126, 4, 160, 0, 66, 21, 8, 42, 180, 0, 7, 27]
abbrev dktX6_plans_3 : List UInt8 := dkwX6_plans_3 ++ dktX6_plans_4
def dkwX6_plans_2 : List UInt8 := [54, 6, 21, 4, 5, 112, 4, 160, 0, 7, 4, 167, 0, 4, 3, 54, 7, 29, 42, 180, 0, 7, 21, 6]
abbrev dktX6_plans_2 : List UInt8 := dkwX6_plans_2 ++ dktX6_plans_3
def dkwX6_plans_1 : List UInt8 := [27, 184, 0, 89, 46, 162, 0, 174, 3, 54, 4, 3, 54, 5, 21, 5, 154, 0, 120, 21, 4, 5, 108]
abbrev dktX6_plans_1 : List UInt8 := dkwX6_plans_1 ++ dktX6_plans_2
def dkwX6_plans_0 : List UInt8 := [42, 3, 181, 0, 128, 42, 27, 28, 182, 0, 131, 2, 160, 0, 5, 3, 172, 3, 62, 29, 42, 180, 0, 7]
abbrev dktX6_plans_0 : List UInt8 := dkwX6_plans_0 ++ dktX6_plans_1
theorem dksX6_plans_0 : cX6_plans.data.toList.drop 0 = dktX6_plans_0 := by decide +kernel
theorem dksX6_plans_1 : cX6_plans.data.toList.drop 24 = dktX6_plans_1 := dk_seg dksX6_plans_0 24 rfl rfl
theorem dksX6_plans_2 : cX6_plans.data.toList.drop 47 = dktX6_plans_2 := dk_seg dksX6_plans_1 23 rfl rfl
theorem dksX6_plans_3 : cX6_plans.data.toList.drop 71 = dktX6_plans_3 := dk_seg dksX6_plans_2 24 rfl rfl
theorem dksX6_plans_4 : cX6_plans.data.toList.drop 95 = dktX6_plans_4 := dk_seg dksX6_plans_3 24 rfl rfl
theorem dksX6_plans_5 : cX6_plans.data.toList.drop 117 = dktX6_plans_5 := dk_seg dksX6_plans_4 22 rfl rfl
theorem dksX6_plans_6 : cX6_plans.data.toList.drop 141 = dktX6_plans_6 := dk_seg dksX6_plans_5 24 rfl rfl
theorem dksX6_plans_7 : cX6_plans.data.toList.drop 165 = dktX6_plans_7 := dk_seg dksX6_plans_6 24 rfl rfl
theorem dksX6_plans_8 : cX6_plans.data.toList.drop 189 = dktX6_plans_8 := dk_seg dksX6_plans_7 24 rfl rfl
theorem dX6_plans_0 : decode cX6_plans 0 = .ok (.aload_n 0, 1) := dk_42 (dk_at dksX6_plans_0 0 rfl rfl)
theorem dX6_plans_1 : decode cX6_plans 1 = .ok (.iconst 0, 1) := dk_3 (dk_at dksX6_plans_0 1 rfl rfl)
theorem dX6_plans_2 : decode cX6_plans 2 = .ok (.putfield 128, 3) := dk_181 0 128 (dk_at dksX6_plans_0 2 rfl rfl)
theorem dX6_plans_5 : decode cX6_plans 5 = .ok (.aload_n 0, 1) := dk_42 (dk_at dksX6_plans_0 5 rfl rfl)
theorem dX6_plans_6 : decode cX6_plans 6 = .ok (.iload_n 1, 1) := dk_27 (dk_at dksX6_plans_0 6 rfl rfl)
theorem dX6_plans_7 : decode cX6_plans 7 = .ok (.iload_n 2, 1) := dk_28 (dk_at dksX6_plans_0 7 rfl rfl)
theorem dX6_plans_8 : decode cX6_plans 8 = .ok (.invokevirtual 131, 3) := dk_182 0 131 (dk_at dksX6_plans_0 8 rfl rfl)
theorem dX6_plans_11 : decode cX6_plans 11 = .ok (.iconst (-1), 1) := dk_2 (dk_at dksX6_plans_0 11 rfl rfl)
theorem dX6_plans_12 : decode cX6_plans 12 = .ok (.if_icmp .ne 5, 3) := dk_160 0 5 (dk_at dksX6_plans_0 12 rfl rfl)
theorem dX6_plans_15 : decode cX6_plans 15 = .ok (.iconst 0, 1) := dk_3 (dk_at dksX6_plans_0 15 rfl rfl)
theorem dX6_plans_16 : decode cX6_plans 16 = .ok (.ireturn, 1) := dk_172 (dk_at dksX6_plans_0 16 rfl rfl)
theorem dX6_plans_17 : decode cX6_plans 17 = .ok (.iconst 0, 1) := dk_3 (dk_at dksX6_plans_0 17 rfl rfl)
theorem dX6_plans_18 : decode cX6_plans 18 = .ok (.istore_n 3, 1) := dk_62 (dk_at dksX6_plans_0 18 rfl rfl)
theorem dX6_plans_19 : decode cX6_plans 19 = .ok (.iload_n 3, 1) := dk_29 (dk_at dksX6_plans_0 19 rfl rfl)
theorem dX6_plans_20 : decode cX6_plans 20 = .ok (.aload_n 0, 1) := dk_42 (dk_at dksX6_plans_0 20 rfl rfl)
theorem dX6_plans_21 : decode cX6_plans 21 = .ok (.getfield 7, 3) := dk_180 0 7 (dk_at dksX6_plans_0 21 rfl rfl)
theorem dX6_plans_24 : decode cX6_plans 24 = .ok (.iload_n 1, 1) := dk_27 (dk_at dksX6_plans_1 0 rfl rfl)
theorem dX6_plans_25 : decode cX6_plans 25 = .ok (.invokestatic 89, 3) := dk_184 0 89 (dk_at dksX6_plans_1 1 rfl rfl)
theorem dX6_plans_28 : decode cX6_plans 28 = .ok (.iaload, 1) := dk_46 (dk_at dksX6_plans_1 4 rfl rfl)
theorem dX6_plans_29 : decode cX6_plans 29 = .ok (.if_icmp .ge 174, 3) := dk_162 0 174 (dk_at dksX6_plans_1 5 rfl rfl)
theorem dX6_plans_32 : decode cX6_plans 32 = .ok (.iconst 0, 1) := dk_3 (dk_at dksX6_plans_1 8 rfl rfl)
theorem dX6_plans_33 : decode cX6_plans 33 = .ok (.istore 4, 2) := dk_54 4 (dk_at dksX6_plans_1 9 rfl rfl)
theorem dX6_plans_35 : decode cX6_plans 35 = .ok (.iconst 0, 1) := dk_3 (dk_at dksX6_plans_1 11 rfl rfl)
theorem dX6_plans_36 : decode cX6_plans 36 = .ok (.istore 5, 2) := dk_54 5 (dk_at dksX6_plans_1 12 rfl rfl)
theorem dX6_plans_38 : decode cX6_plans 38 = .ok (.iload 5, 2) := dk_21 5 (dk_at dksX6_plans_1 14 rfl rfl)
theorem dX6_plans_40 : decode cX6_plans 40 = .ok (.ifCond .ne 120, 3) := dk_154 0 120 (dk_at dksX6_plans_1 16 rfl rfl)
theorem dX6_plans_43 : decode cX6_plans 43 = .ok (.iload 4, 2) := dk_21 4 (dk_at dksX6_plans_1 19 rfl rfl)
theorem dX6_plans_45 : decode cX6_plans 45 = .ok (.iconst 2, 1) := dk_5 (dk_at dksX6_plans_1 21 rfl rfl)
theorem dX6_plans_46 : decode cX6_plans 46 = .ok (.idiv, 1) := dk_108 (dk_at dksX6_plans_1 22 rfl rfl)
theorem dX6_plans_47 : decode cX6_plans 47 = .ok (.istore 6, 2) := dk_54 6 (dk_at dksX6_plans_2 0 rfl rfl)
theorem dX6_plans_49 : decode cX6_plans 49 = .ok (.iload 4, 2) := dk_21 4 (dk_at dksX6_plans_2 2 rfl rfl)
theorem dX6_plans_51 : decode cX6_plans 51 = .ok (.iconst 2, 1) := dk_5 (dk_at dksX6_plans_2 4 rfl rfl)
theorem dX6_plans_52 : decode cX6_plans 52 = .ok (.irem, 1) := dk_112 (dk_at dksX6_plans_2 5 rfl rfl)
theorem dX6_plans_53 : decode cX6_plans 53 = .ok (.iconst 1, 1) := dk_4 (dk_at dksX6_plans_2 6 rfl rfl)
theorem dX6_plans_54 : decode cX6_plans 54 = .ok (.if_icmp .ne 7, 3) := dk_160 0 7 (dk_at dksX6_plans_2 7 rfl rfl)
theorem dX6_plans_57 : decode cX6_plans 57 = .ok (.iconst 1, 1) := dk_4 (dk_at dksX6_plans_2 10 rfl rfl)
theorem dX6_plans_58 : decode cX6_plans 58 = .ok (.goto 4, 3) := dk_167 0 4 (dk_at dksX6_plans_2 11 rfl rfl)
theorem dX6_plans_61 : decode cX6_plans 61 = .ok (.iconst 0, 1) := dk_3 (dk_at dksX6_plans_2 14 rfl rfl)
theorem dX6_plans_62 : decode cX6_plans 62 = .ok (.istore 7, 2) := dk_54 7 (dk_at dksX6_plans_2 15 rfl rfl)
theorem dX6_plans_64 : decode cX6_plans 64 = .ok (.iload_n 3, 1) := dk_29 (dk_at dksX6_plans_2 17 rfl rfl)
theorem dX6_plans_65 : decode cX6_plans 65 = .ok (.aload_n 0, 1) := dk_42 (dk_at dksX6_plans_2 18 rfl rfl)
theorem dX6_plans_66 : decode cX6_plans 66 = .ok (.getfield 7, 3) := dk_180 0 7 (dk_at dksX6_plans_2 19 rfl rfl)
theorem dX6_plans_69 : decode cX6_plans 69 = .ok (.iload 6, 2) := dk_21 6 (dk_at dksX6_plans_2 22 rfl rfl)
theorem dX6_plans_71 : decode cX6_plans 71 = .ok (.invokestatic 58, 3) := dk_184 0 58 (dk_at dksX6_plans_3 0 rfl rfl)
theorem dX6_plans_74 : decode cX6_plans 74 = .ok (.iaload, 1) := dk_46 (dk_at dksX6_plans_3 3 rfl rfl)
theorem dX6_plans_75 : decode cX6_plans 75 = .ok (.iadd, 1) := dk_96 (dk_at dksX6_plans_3 4 rfl rfl)
theorem dX6_plans_76 : decode cX6_plans 76 = .ok (.istore 8, 2) := dk_54 8 (dk_at dksX6_plans_3 5 rfl rfl)
theorem dX6_plans_78 : decode cX6_plans 78 = .ok (.iload_n 2, 1) := dk_28 (dk_at dksX6_plans_3 7 rfl rfl)
theorem dX6_plans_79 : decode cX6_plans 79 = .ok (.iload 6, 2) := dk_21 6 (dk_at dksX6_plans_3 8 rfl rfl)
theorem dX6_plans_81 : decode cX6_plans 81 = .ok (.ishr, 1) := dk_122 (dk_at dksX6_plans_3 10 rfl rfl)
theorem dX6_plans_82 : decode cX6_plans 82 = .ok (.iconst 1, 1) := dk_4 (dk_at dksX6_plans_3 11 rfl rfl)
theorem dX6_plans_83 : decode cX6_plans 83 = .ok (.iand, 1) := dk_126 (dk_at dksX6_plans_3 12 rfl rfl)
theorem dX6_plans_84 : decode cX6_plans 84 = .ok (.iconst 1, 1) := dk_4 (dk_at dksX6_plans_3 13 rfl rfl)
theorem dX6_plans_85 : decode cX6_plans 85 = .ok (.if_icmp .ne 66, 3) := dk_160 0 66 (dk_at dksX6_plans_3 14 rfl rfl)
theorem dX6_plans_88 : decode cX6_plans 88 = .ok (.iload 8, 2) := dk_21 8 (dk_at dksX6_plans_3 17 rfl rfl)
theorem dX6_plans_90 : decode cX6_plans 90 = .ok (.aload_n 0, 1) := dk_42 (dk_at dksX6_plans_3 19 rfl rfl)
theorem dX6_plans_91 : decode cX6_plans 91 = .ok (.getfield 7, 3) := dk_180 0 7 (dk_at dksX6_plans_3 20 rfl rfl)
theorem dX6_plans_94 : decode cX6_plans 94 = .ok (.iload_n 1, 1) := dk_27 (dk_at dksX6_plans_3 23 rfl rfl)
theorem dX6_plans_95 : decode cX6_plans 95 = .ok (.invokestatic 89, 3) := dk_184 0 89 (dk_at dksX6_plans_4 0 rfl rfl)
theorem dX6_plans_98 : decode cX6_plans 98 = .ok (.iaload, 1) := dk_46 (dk_at dksX6_plans_4 3 rfl rfl)
theorem dX6_plans_99 : decode cX6_plans 99 = .ok (.if_icmp .gt 52, 3) := dk_163 0 52 (dk_at dksX6_plans_4 4 rfl rfl)
theorem dX6_plans_102 : decode cX6_plans 102 = .ok (.aload_n 0, 1) := dk_42 (dk_at dksX6_plans_4 7 rfl rfl)
theorem dX6_plans_103 : decode cX6_plans 103 = .ok (.getfield 25, 3) := dk_180 0 25 (dk_at dksX6_plans_4 8 rfl rfl)
theorem dX6_plans_106 : decode cX6_plans 106 = .ok (.iload 8, 2) := dk_21 8 (dk_at dksX6_plans_4 11 rfl rfl)
theorem dX6_plans_108 : decode cX6_plans 108 = .ok (.iaload, 1) := dk_46 (dk_at dksX6_plans_4 13 rfl rfl)
theorem dX6_plans_109 : decode cX6_plans 109 = .ok (.aload_n 0, 1) := dk_42 (dk_at dksX6_plans_4 14 rfl rfl)
theorem dX6_plans_110 : decode cX6_plans 110 = .ok (.getfield 25, 3) := dk_180 0 25 (dk_at dksX6_plans_4 15 rfl rfl)
theorem dX6_plans_113 : decode cX6_plans 113 = .ok (.iload_n 3, 1) := dk_29 (dk_at dksX6_plans_4 18 rfl rfl)
theorem dX6_plans_114 : decode cX6_plans 114 = .ok (.iaload, 1) := dk_46 (dk_at dksX6_plans_4 19 rfl rfl)
theorem dX6_plans_115 : decode cX6_plans 115 = .ok (.iconst 1, 1) := dk_4 (dk_at dksX6_plans_4 20 rfl rfl)
theorem dX6_plans_116 : decode cX6_plans 116 = .ok (.isub, 1) := dk_100 (dk_at dksX6_plans_4 21 rfl rfl)
theorem dX6_plans_117 : decode cX6_plans 117 = .ok (.if_icmp .ne 34, 3) := dk_160 0 34 (dk_at dksX6_plans_5 0 rfl rfl)
theorem dX6_plans_120 : decode cX6_plans 120 = .ok (.iload 7, 2) := dk_21 7 (dk_at dksX6_plans_5 3 rfl rfl)
theorem dX6_plans_122 : decode cX6_plans 122 = .ok (.ifCond .eq 12, 3) := dk_153 0 12 (dk_at dksX6_plans_5 5 rfl rfl)
theorem dX6_plans_125 : decode cX6_plans 125 = .ok (.aload_n 0, 1) := dk_42 (dk_at dksX6_plans_5 8 rfl rfl)
theorem dX6_plans_126 : decode cX6_plans 126 = .ok (.iload 6, 2) := dk_21 6 (dk_at dksX6_plans_5 9 rfl rfl)
theorem dX6_plans_128 : decode cX6_plans 128 = .ok (.invokevirtual 125, 3) := dk_182 0 125 (dk_at dksX6_plans_5 11 rfl rfl)
theorem dX6_plans_131 : decode cX6_plans 131 = .ok (.ifCond .eq 20, 3) := dk_153 0 20 (dk_at dksX6_plans_5 14 rfl rfl)
theorem dX6_plans_134 : decode cX6_plans 134 = .ok (.aload_n 0, 1) := dk_42 (dk_at dksX6_plans_5 17 rfl rfl)
theorem dX6_plans_135 : decode cX6_plans 135 = .ok (.iload_n 1, 1) := dk_27 (dk_at dksX6_plans_5 18 rfl rfl)
theorem dX6_plans_136 : decode cX6_plans 136 = .ok (.iload_n 3, 1) := dk_29 (dk_at dksX6_plans_5 19 rfl rfl)
theorem dX6_plans_137 : decode cX6_plans 137 = .ok (.iload 6, 2) := dk_21 6 (dk_at dksX6_plans_5 20 rfl rfl)
theorem dX6_plans_139 : decode cX6_plans 139 = .ok (.iload 7, 2) := dk_21 7 (dk_at dksX6_plans_5 22 rfl rfl)
theorem dX6_plans_141 : decode cX6_plans 141 = .ok (.invokevirtual 121, 3) := dk_182 0 121 (dk_at dksX6_plans_6 0 rfl rfl)
theorem dX6_plans_144 : decode cX6_plans 144 = .ok (.ifCond .eq 7, 3) := dk_153 0 7 (dk_at dksX6_plans_6 3 rfl rfl)
theorem dX6_plans_147 : decode cX6_plans 147 = .ok (.iconst 1, 1) := dk_4 (dk_at dksX6_plans_6 6 rfl rfl)
theorem dX6_plans_148 : decode cX6_plans 148 = .ok (.goto 4, 3) := dk_167 0 4 (dk_at dksX6_plans_6 7 rfl rfl)
theorem dX6_plans_151 : decode cX6_plans 151 = .ok (.iconst 0, 1) := dk_3 (dk_at dksX6_plans_6 10 rfl rfl)
theorem dX6_plans_152 : decode cX6_plans 152 = .ok (.istore 5, 2) := dk_54 5 (dk_at dksX6_plans_6 11 rfl rfl)
theorem dX6_plans_154 : decode cX6_plans 154 = .ok (.iinc 4 1, 3) := dk_132 4 1 (dk_at dksX6_plans_6 13 rfl rfl)
theorem dX6_plans_157 : decode cX6_plans 157 = .ok (.goto (-119), 3) := dk_167 255 137 (dk_at dksX6_plans_6 16 rfl rfl)
theorem dX6_plans_160 : decode cX6_plans 160 = .ok (.aload_n 0, 1) := dk_42 (dk_at dksX6_plans_6 19 rfl rfl)
theorem dX6_plans_161 : decode cX6_plans 161 = .ok (.getfield 28, 3) := dk_180 0 28 (dk_at dksX6_plans_6 20 rfl rfl)
theorem dX6_plans_164 : decode cX6_plans 164 = .ok (.aload_n 0, 1) := dk_42 (dk_at dksX6_plans_6 23 rfl rfl)
theorem dX6_plans_165 : decode cX6_plans 165 = .ok (.getfield 128, 3) := dk_180 0 128 (dk_at dksX6_plans_7 0 rfl rfl)
theorem dX6_plans_168 : decode cX6_plans 168 = .ok (.iload 4, 2) := dk_21 4 (dk_at dksX6_plans_7 3 rfl rfl)
theorem dX6_plans_170 : decode cX6_plans 170 = .ok (.iconst 1, 1) := dk_4 (dk_at dksX6_plans_7 5 rfl rfl)
theorem dX6_plans_171 : decode cX6_plans 171 = .ok (.isub, 1) := dk_100 (dk_at dksX6_plans_7 6 rfl rfl)
theorem dX6_plans_172 : decode cX6_plans 172 = .ok (.iastore, 1) := dk_79 (dk_at dksX6_plans_7 7 rfl rfl)
theorem dX6_plans_173 : decode cX6_plans 173 = .ok (.iload_n 3, 1) := dk_29 (dk_at dksX6_plans_7 8 rfl rfl)
theorem dX6_plans_174 : decode cX6_plans 174 = .ok (.aload_n 0, 1) := dk_42 (dk_at dksX6_plans_7 9 rfl rfl)
theorem dX6_plans_175 : decode cX6_plans 175 = .ok (.getfield 7, 3) := dk_180 0 7 (dk_at dksX6_plans_7 10 rfl rfl)
theorem dX6_plans_178 : decode cX6_plans 178 = .ok (.iload 4, 2) := dk_21 4 (dk_at dksX6_plans_7 13 rfl rfl)
theorem dX6_plans_180 : decode cX6_plans 180 = .ok (.iconst 1, 1) := dk_4 (dk_at dksX6_plans_7 15 rfl rfl)
theorem dX6_plans_181 : decode cX6_plans 181 = .ok (.isub, 1) := dk_100 (dk_at dksX6_plans_7 16 rfl rfl)
theorem dX6_plans_182 : decode cX6_plans 182 = .ok (.iconst 2, 1) := dk_5 (dk_at dksX6_plans_7 17 rfl rfl)
theorem dX6_plans_183 : decode cX6_plans 183 = .ok (.idiv, 1) := dk_108 (dk_at dksX6_plans_7 18 rfl rfl)
theorem dX6_plans_184 : decode cX6_plans 184 = .ok (.invokestatic 58, 3) := dk_184 0 58 (dk_at dksX6_plans_7 19 rfl rfl)
theorem dX6_plans_187 : decode cX6_plans 187 = .ok (.iaload, 1) := dk_46 (dk_at dksX6_plans_7 22 rfl rfl)
theorem dX6_plans_188 : decode cX6_plans 188 = .ok (.iadd, 1) := dk_96 (dk_at dksX6_plans_7 23 rfl rfl)
theorem dX6_plans_189 : decode cX6_plans 189 = .ok (.istore_n 3, 1) := dk_62 (dk_at dksX6_plans_8 0 rfl rfl)
theorem dX6_plans_190 : decode cX6_plans 190 = .ok (.aload_n 0, 1) := dk_42 (dk_at dksX6_plans_8 1 rfl rfl)
theorem dX6_plans_191 : decode cX6_plans 191 = .ok (.dup, 1) := dk_89 (dk_at dksX6_plans_8 2 rfl rfl)
theorem dX6_plans_192 : decode cX6_plans 192 = .ok (.getfield 128, 3) := dk_180 0 128 (dk_at dksX6_plans_8 3 rfl rfl)
theorem dX6_plans_195 : decode cX6_plans 195 = .ok (.iconst 1, 1) := dk_4 (dk_at dksX6_plans_8 6 rfl rfl)
theorem dX6_plans_196 : decode cX6_plans 196 = .ok (.iadd, 1) := dk_96 (dk_at dksX6_plans_8 7 rfl rfl)
theorem dX6_plans_197 : decode cX6_plans 197 = .ok (.putfield 128, 3) := dk_181 0 128 (dk_at dksX6_plans_8 8 rfl rfl)
theorem dX6_plans_200 : decode cX6_plans 200 = .ok (.goto (-181), 3) := dk_167 255 75 (dk_at dksX6_plans_8 11 rfl rfl)
theorem dX6_plans_203 : decode cX6_plans 203 = .ok (.iconst 1, 1) := dk_4 (dk_at dksX6_plans_8 14 rfl rfl)
theorem dX6_plans_204 : decode cX6_plans 204 = .ok (.ireturn, 1) := dk_172 (dk_at dksX6_plans_8 15 rfl rfl)
abbrev cX6_needs : ByteArray := prog_11_method_46_code
def yX6_needs : MethodName := ⟨RX6, "needs", "(IZ)I"⟩
def dkwX6_needs_2 : List UInt8 := [180, 0, 16, 29, 46, 100, 54, 4, 42, 182, 0, 99, 21, 4, 172]
abbrev dktX6_needs_2 : List UInt8 := dkwX6_needs_2 ++ []
def dkwX6_needs_1 : List UInt8 := [96, 46, 182, 0, 157, 28, 153, 0, 8, 16, 6, 167, 0, 4, 8, 62, 42, 180, 0, 7, 29, 46, 42]
abbrev dktX6_needs_1 : List UInt8 := dkwX6_needs_1 ++ dktX6_needs_2
def dkwX6_needs_0 : List UInt8 := [42, 27, 182, 0, 154, 154, 0, 5, 2, 172, 42, 182, 0, 92, 42, 42, 180, 0, 7, 27, 184, 0, 89, 4]
abbrev dktX6_needs_0 : List UInt8 := dkwX6_needs_0 ++ dktX6_needs_1
theorem dksX6_needs_0 : cX6_needs.data.toList.drop 0 = dktX6_needs_0 := by decide +kernel
theorem dksX6_needs_1 : cX6_needs.data.toList.drop 24 = dktX6_needs_1 := dk_seg dksX6_needs_0 24 rfl rfl
theorem dksX6_needs_2 : cX6_needs.data.toList.drop 47 = dktX6_needs_2 := dk_seg dksX6_needs_1 23 rfl rfl
theorem dX6_needs_0 : decode cX6_needs 0 = .ok (.aload_n 0, 1) := dk_42 (dk_at dksX6_needs_0 0 rfl rfl)
theorem dX6_needs_1 : decode cX6_needs 1 = .ok (.iload_n 1, 1) := dk_27 (dk_at dksX6_needs_0 1 rfl rfl)
theorem dX6_needs_2 : decode cX6_needs 2 = .ok (.invokevirtual 154, 3) := dk_182 0 154 (dk_at dksX6_needs_0 2 rfl rfl)
theorem dX6_needs_5 : decode cX6_needs 5 = .ok (.ifCond .ne 5, 3) := dk_154 0 5 (dk_at dksX6_needs_0 5 rfl rfl)
theorem dX6_needs_8 : decode cX6_needs 8 = .ok (.iconst (-1), 1) := dk_2 (dk_at dksX6_needs_0 8 rfl rfl)
theorem dX6_needs_9 : decode cX6_needs 9 = .ok (.ireturn, 1) := dk_172 (dk_at dksX6_needs_0 9 rfl rfl)
theorem dX6_needs_10 : decode cX6_needs 10 = .ok (.aload_n 0, 1) := dk_42 (dk_at dksX6_needs_0 10 rfl rfl)
theorem dX6_needs_11 : decode cX6_needs 11 = .ok (.invokevirtual 92, 3) := dk_182 0 92 (dk_at dksX6_needs_0 11 rfl rfl)
theorem dX6_needs_14 : decode cX6_needs 14 = .ok (.aload_n 0, 1) := dk_42 (dk_at dksX6_needs_0 14 rfl rfl)
theorem dX6_needs_15 : decode cX6_needs 15 = .ok (.aload_n 0, 1) := dk_42 (dk_at dksX6_needs_0 15 rfl rfl)
theorem dX6_needs_16 : decode cX6_needs 16 = .ok (.getfield 7, 3) := dk_180 0 7 (dk_at dksX6_needs_0 16 rfl rfl)
theorem dX6_needs_19 : decode cX6_needs 19 = .ok (.iload_n 1, 1) := dk_27 (dk_at dksX6_needs_0 19 rfl rfl)
theorem dX6_needs_20 : decode cX6_needs 20 = .ok (.invokestatic 89, 3) := dk_184 0 89 (dk_at dksX6_needs_0 20 rfl rfl)
theorem dX6_needs_23 : decode cX6_needs 23 = .ok (.iconst 1, 1) := dk_4 (dk_at dksX6_needs_0 23 rfl rfl)
theorem dX6_needs_24 : decode cX6_needs 24 = .ok (.iadd, 1) := dk_96 (dk_at dksX6_needs_1 0 rfl rfl)
theorem dX6_needs_25 : decode cX6_needs 25 = .ok (.iaload, 1) := dk_46 (dk_at dksX6_needs_1 1 rfl rfl)
theorem dX6_needs_26 : decode cX6_needs 26 = .ok (.invokevirtual 157, 3) := dk_182 0 157 (dk_at dksX6_needs_1 2 rfl rfl)
theorem dX6_needs_29 : decode cX6_needs 29 = .ok (.iload_n 2, 1) := dk_28 (dk_at dksX6_needs_1 5 rfl rfl)
theorem dX6_needs_30 : decode cX6_needs 30 = .ok (.ifCond .eq 8, 3) := dk_153 0 8 (dk_at dksX6_needs_1 6 rfl rfl)
theorem dX6_needs_33 : decode cX6_needs 33 = .ok (.bipush 6, 2) := dk_16 6 (dk_at dksX6_needs_1 9 rfl rfl)
theorem dX6_needs_35 : decode cX6_needs 35 = .ok (.goto 4, 3) := dk_167 0 4 (dk_at dksX6_needs_1 11 rfl rfl)
theorem dX6_needs_38 : decode cX6_needs 38 = .ok (.iconst 5, 1) := dk_8 (dk_at dksX6_needs_1 14 rfl rfl)
theorem dX6_needs_39 : decode cX6_needs 39 = .ok (.istore_n 3, 1) := dk_62 (dk_at dksX6_needs_1 15 rfl rfl)
theorem dX6_needs_40 : decode cX6_needs 40 = .ok (.aload_n 0, 1) := dk_42 (dk_at dksX6_needs_1 16 rfl rfl)
theorem dX6_needs_41 : decode cX6_needs 41 = .ok (.getfield 7, 3) := dk_180 0 7 (dk_at dksX6_needs_1 17 rfl rfl)
theorem dX6_needs_44 : decode cX6_needs 44 = .ok (.iload_n 3, 1) := dk_29 (dk_at dksX6_needs_1 20 rfl rfl)
theorem dX6_needs_45 : decode cX6_needs 45 = .ok (.iaload, 1) := dk_46 (dk_at dksX6_needs_1 21 rfl rfl)
theorem dX6_needs_46 : decode cX6_needs 46 = .ok (.aload_n 0, 1) := dk_42 (dk_at dksX6_needs_1 22 rfl rfl)
theorem dX6_needs_47 : decode cX6_needs 47 = .ok (.getfield 16, 3) := dk_180 0 16 (dk_at dksX6_needs_2 0 rfl rfl)
theorem dX6_needs_50 : decode cX6_needs 50 = .ok (.iload_n 3, 1) := dk_29 (dk_at dksX6_needs_2 3 rfl rfl)
theorem dX6_needs_51 : decode cX6_needs 51 = .ok (.iaload, 1) := dk_46 (dk_at dksX6_needs_2 4 rfl rfl)
theorem dX6_needs_52 : decode cX6_needs 52 = .ok (.isub, 1) := dk_100 (dk_at dksX6_needs_2 5 rfl rfl)
theorem dX6_needs_53 : decode cX6_needs 53 = .ok (.istore 4, 2) := dk_54 4 (dk_at dksX6_needs_2 6 rfl rfl)
theorem dX6_needs_55 : decode cX6_needs 55 = .ok (.aload_n 0, 1) := dk_42 (dk_at dksX6_needs_2 8 rfl rfl)
theorem dX6_needs_56 : decode cX6_needs 56 = .ok (.invokevirtual 99, 3) := dk_182 0 99 (dk_at dksX6_needs_2 9 rfl rfl)
theorem dX6_needs_59 : decode cX6_needs 59 = .ok (.iload 4, 2) := dk_21 4 (dk_at dksX6_needs_2 12 rfl rfl)
theorem dX6_needs_61 : decode cX6_needs 61 = .ok (.ireturn, 1) := dk_172 (dk_at dksX6_needs_2 14 rfl rfl)
abbrev cX6_carries : ByteArray := prog_11_method_38_code
def yX6_carries : MethodName := ⟨RX6, "carries", "(I)V"⟩
def dkwX6_carries_7 : List UInt8 := [132, 2, 1, 167, 255, 92, 177]
abbrev dktX6_carries_7 : List UInt8 := dkwX6_carries_7 ++ []
def dkwX6_carries_6 : List UInt8 := [42, 180, 0, 7, 29, 16, 8, 96, 92, 46, 4, 96, 79, 42, 180, 0, 7, 7, 92, 46, 4, 96, 79]
abbrev dktX6_carries_6 : List UInt8 := dkwX6_carries_6 ++ dktX6_carries_7
def dkwX6_carries_5 : List UInt8 := [29, 16, 7, 96, 42, 180, 0, 7, 6, 46, 79, 42, 180, 0, 7, 29, 16, 7, 96, 92, 46, 4, 100, 79]
abbrev dktX6_carries_5 : List UInt8 := dkwX6_carries_5 ++ dktX6_carries_6
def dkwX6_carries_4 : List UInt8 := [159, 0, 7, 4, 167, 0, 4, 3, 96, 79, 42, 180, 0, 7, 29, 16, 6, 96, 27, 79, 42, 180, 0, 7]
abbrev dktX6_carries_4 : List UInt8 := dkwX6_carries_4 ++ dktX6_carries_5
def dkwX6_carries_3 : List UInt8 := [180, 0, 7, 16, 6, 92, 46, 21, 4, 153, 0, 20, 42, 180, 0, 7, 29, 16, 6, 96, 46, 2]
abbrev dktX6_carries_3 : List UInt8 := dkwX6_carries_3 ++ dktX6_carries_4
def dkwX6_carries_2 : List UInt8 := [42, 180, 0, 7, 29, 16, 7, 96, 46, 154, 0, 71, 42, 180, 0, 7, 8, 92, 46, 4, 96, 79, 42]
abbrev dktX6_carries_2 : List UInt8 := dkwX6_carries_2 ++ dktX6_carries_3
def dkwX6_carries_1 : List UInt8 := [180, 0, 7, 29, 16, 6, 96, 46, 27, 159, 0, 7, 4, 167, 0, 4, 3, 54, 4, 21, 4, 154, 0, 15]
abbrev dktX6_carries_1 : List UInt8 := dkwX6_carries_1 ++ dktX6_carries_2
def dkwX6_carries_0 : List UInt8 := [3, 61, 28, 42, 180, 0, 128, 162, 0, 162, 42, 180, 0, 28, 28, 46, 5, 108, 184, 0, 58, 62, 42]
abbrev dktX6_carries_0 : List UInt8 := dkwX6_carries_0 ++ dktX6_carries_1
theorem dksX6_carries_0 : cX6_carries.data.toList.drop 0 = dktX6_carries_0 := by decide +kernel
theorem dksX6_carries_1 : cX6_carries.data.toList.drop 23 = dktX6_carries_1 := dk_seg dksX6_carries_0 23 rfl rfl
theorem dksX6_carries_2 : cX6_carries.data.toList.drop 47 = dktX6_carries_2 := dk_seg dksX6_carries_1 24 rfl rfl
theorem dksX6_carries_3 : cX6_carries.data.toList.drop 70 = dktX6_carries_3 := dk_seg dksX6_carries_2 23 rfl rfl
theorem dksX6_carries_4 : cX6_carries.data.toList.drop 92 = dktX6_carries_4 := dk_seg dksX6_carries_3 22 rfl rfl
theorem dksX6_carries_5 : cX6_carries.data.toList.drop 116 = dktX6_carries_5 := dk_seg dksX6_carries_4 24 rfl rfl
theorem dksX6_carries_6 : cX6_carries.data.toList.drop 140 = dktX6_carries_6 := dk_seg dksX6_carries_5 24 rfl rfl
theorem dksX6_carries_7 : cX6_carries.data.toList.drop 163 = dktX6_carries_7 := dk_seg dksX6_carries_6 23 rfl rfl
theorem dX6_carries_0 : decode cX6_carries 0 = .ok (.iconst 0, 1) := dk_3 (dk_at dksX6_carries_0 0 rfl rfl)
theorem dX6_carries_1 : decode cX6_carries 1 = .ok (.istore_n 2, 1) := dk_61 (dk_at dksX6_carries_0 1 rfl rfl)
theorem dX6_carries_2 : decode cX6_carries 2 = .ok (.iload_n 2, 1) := dk_28 (dk_at dksX6_carries_0 2 rfl rfl)
theorem dX6_carries_3 : decode cX6_carries 3 = .ok (.aload_n 0, 1) := dk_42 (dk_at dksX6_carries_0 3 rfl rfl)
theorem dX6_carries_4 : decode cX6_carries 4 = .ok (.getfield 128, 3) := dk_180 0 128 (dk_at dksX6_carries_0 4 rfl rfl)
theorem dX6_carries_7 : decode cX6_carries 7 = .ok (.if_icmp .ge 162, 3) := dk_162 0 162 (dk_at dksX6_carries_0 7 rfl rfl)
theorem dX6_carries_10 : decode cX6_carries 10 = .ok (.aload_n 0, 1) := dk_42 (dk_at dksX6_carries_0 10 rfl rfl)
theorem dX6_carries_11 : decode cX6_carries 11 = .ok (.getfield 28, 3) := dk_180 0 28 (dk_at dksX6_carries_0 11 rfl rfl)
theorem dX6_carries_14 : decode cX6_carries 14 = .ok (.iload_n 2, 1) := dk_28 (dk_at dksX6_carries_0 14 rfl rfl)
theorem dX6_carries_15 : decode cX6_carries 15 = .ok (.iaload, 1) := dk_46 (dk_at dksX6_carries_0 15 rfl rfl)
theorem dX6_carries_16 : decode cX6_carries 16 = .ok (.iconst 2, 1) := dk_5 (dk_at dksX6_carries_0 16 rfl rfl)
theorem dX6_carries_17 : decode cX6_carries 17 = .ok (.idiv, 1) := dk_108 (dk_at dksX6_carries_0 17 rfl rfl)
theorem dX6_carries_18 : decode cX6_carries 18 = .ok (.invokestatic 58, 3) := dk_184 0 58 (dk_at dksX6_carries_0 18 rfl rfl)
theorem dX6_carries_21 : decode cX6_carries 21 = .ok (.istore_n 3, 1) := dk_62 (dk_at dksX6_carries_0 21 rfl rfl)
theorem dX6_carries_22 : decode cX6_carries 22 = .ok (.aload_n 0, 1) := dk_42 (dk_at dksX6_carries_0 22 rfl rfl)
theorem dX6_carries_23 : decode cX6_carries 23 = .ok (.getfield 7, 3) := dk_180 0 7 (dk_at dksX6_carries_1 0 rfl rfl)
theorem dX6_carries_26 : decode cX6_carries 26 = .ok (.iload_n 3, 1) := dk_29 (dk_at dksX6_carries_1 3 rfl rfl)
theorem dX6_carries_27 : decode cX6_carries 27 = .ok (.bipush 6, 2) := dk_16 6 (dk_at dksX6_carries_1 4 rfl rfl)
theorem dX6_carries_29 : decode cX6_carries 29 = .ok (.iadd, 1) := dk_96 (dk_at dksX6_carries_1 6 rfl rfl)
theorem dX6_carries_30 : decode cX6_carries 30 = .ok (.iaload, 1) := dk_46 (dk_at dksX6_carries_1 7 rfl rfl)
theorem dX6_carries_31 : decode cX6_carries 31 = .ok (.iload_n 1, 1) := dk_27 (dk_at dksX6_carries_1 8 rfl rfl)
theorem dX6_carries_32 : decode cX6_carries 32 = .ok (.if_icmp .eq 7, 3) := dk_159 0 7 (dk_at dksX6_carries_1 9 rfl rfl)
theorem dX6_carries_35 : decode cX6_carries 35 = .ok (.iconst 1, 1) := dk_4 (dk_at dksX6_carries_1 12 rfl rfl)
theorem dX6_carries_36 : decode cX6_carries 36 = .ok (.goto 4, 3) := dk_167 0 4 (dk_at dksX6_carries_1 13 rfl rfl)
theorem dX6_carries_39 : decode cX6_carries 39 = .ok (.iconst 0, 1) := dk_3 (dk_at dksX6_carries_1 16 rfl rfl)
theorem dX6_carries_40 : decode cX6_carries 40 = .ok (.istore 4, 2) := dk_54 4 (dk_at dksX6_carries_1 17 rfl rfl)
theorem dX6_carries_42 : decode cX6_carries 42 = .ok (.iload 4, 2) := dk_21 4 (dk_at dksX6_carries_1 19 rfl rfl)
theorem dX6_carries_44 : decode cX6_carries 44 = .ok (.ifCond .ne 15, 3) := dk_154 0 15 (dk_at dksX6_carries_1 21 rfl rfl)
theorem dX6_carries_47 : decode cX6_carries 47 = .ok (.aload_n 0, 1) := dk_42 (dk_at dksX6_carries_2 0 rfl rfl)
theorem dX6_carries_48 : decode cX6_carries 48 = .ok (.getfield 7, 3) := dk_180 0 7 (dk_at dksX6_carries_2 1 rfl rfl)
theorem dX6_carries_51 : decode cX6_carries 51 = .ok (.iload_n 3, 1) := dk_29 (dk_at dksX6_carries_2 4 rfl rfl)
theorem dX6_carries_52 : decode cX6_carries 52 = .ok (.bipush 7, 2) := dk_16 7 (dk_at dksX6_carries_2 5 rfl rfl)
theorem dX6_carries_54 : decode cX6_carries 54 = .ok (.iadd, 1) := dk_96 (dk_at dksX6_carries_2 7 rfl rfl)
theorem dX6_carries_55 : decode cX6_carries 55 = .ok (.iaload, 1) := dk_46 (dk_at dksX6_carries_2 8 rfl rfl)
theorem dX6_carries_56 : decode cX6_carries 56 = .ok (.ifCond .ne 71, 3) := dk_154 0 71 (dk_at dksX6_carries_2 9 rfl rfl)
theorem dX6_carries_59 : decode cX6_carries 59 = .ok (.aload_n 0, 1) := dk_42 (dk_at dksX6_carries_2 12 rfl rfl)
theorem dX6_carries_60 : decode cX6_carries 60 = .ok (.getfield 7, 3) := dk_180 0 7 (dk_at dksX6_carries_2 13 rfl rfl)
theorem dX6_carries_63 : decode cX6_carries 63 = .ok (.iconst 5, 1) := dk_8 (dk_at dksX6_carries_2 16 rfl rfl)
theorem dX6_carries_64 : decode cX6_carries 64 = .ok (.dup2, 1) := dk_92 (dk_at dksX6_carries_2 17 rfl rfl)
theorem dX6_carries_65 : decode cX6_carries 65 = .ok (.iaload, 1) := dk_46 (dk_at dksX6_carries_2 18 rfl rfl)
theorem dX6_carries_66 : decode cX6_carries 66 = .ok (.iconst 1, 1) := dk_4 (dk_at dksX6_carries_2 19 rfl rfl)
theorem dX6_carries_67 : decode cX6_carries 67 = .ok (.iadd, 1) := dk_96 (dk_at dksX6_carries_2 20 rfl rfl)
theorem dX6_carries_68 : decode cX6_carries 68 = .ok (.iastore, 1) := dk_79 (dk_at dksX6_carries_2 21 rfl rfl)
theorem dX6_carries_69 : decode cX6_carries 69 = .ok (.aload_n 0, 1) := dk_42 (dk_at dksX6_carries_2 22 rfl rfl)
theorem dX6_carries_70 : decode cX6_carries 70 = .ok (.getfield 7, 3) := dk_180 0 7 (dk_at dksX6_carries_3 0 rfl rfl)
theorem dX6_carries_73 : decode cX6_carries 73 = .ok (.bipush 6, 2) := dk_16 6 (dk_at dksX6_carries_3 3 rfl rfl)
theorem dX6_carries_75 : decode cX6_carries 75 = .ok (.dup2, 1) := dk_92 (dk_at dksX6_carries_3 5 rfl rfl)
theorem dX6_carries_76 : decode cX6_carries 76 = .ok (.iaload, 1) := dk_46 (dk_at dksX6_carries_3 6 rfl rfl)
theorem dX6_carries_77 : decode cX6_carries 77 = .ok (.iload 4, 2) := dk_21 4 (dk_at dksX6_carries_3 7 rfl rfl)
theorem dX6_carries_79 : decode cX6_carries 79 = .ok (.ifCond .eq 20, 3) := dk_153 0 20 (dk_at dksX6_carries_3 9 rfl rfl)
theorem dX6_carries_82 : decode cX6_carries 82 = .ok (.aload_n 0, 1) := dk_42 (dk_at dksX6_carries_3 12 rfl rfl)
theorem dX6_carries_83 : decode cX6_carries 83 = .ok (.getfield 7, 3) := dk_180 0 7 (dk_at dksX6_carries_3 13 rfl rfl)
theorem dX6_carries_86 : decode cX6_carries 86 = .ok (.iload_n 3, 1) := dk_29 (dk_at dksX6_carries_3 16 rfl rfl)
theorem dX6_carries_87 : decode cX6_carries 87 = .ok (.bipush 6, 2) := dk_16 6 (dk_at dksX6_carries_3 17 rfl rfl)
theorem dX6_carries_89 : decode cX6_carries 89 = .ok (.iadd, 1) := dk_96 (dk_at dksX6_carries_3 19 rfl rfl)
theorem dX6_carries_90 : decode cX6_carries 90 = .ok (.iaload, 1) := dk_46 (dk_at dksX6_carries_3 20 rfl rfl)
theorem dX6_carries_91 : decode cX6_carries 91 = .ok (.iconst (-1), 1) := dk_2 (dk_at dksX6_carries_3 21 rfl rfl)
theorem dX6_carries_92 : decode cX6_carries 92 = .ok (.if_icmp .eq 7, 3) := dk_159 0 7 (dk_at dksX6_carries_4 0 rfl rfl)
theorem dX6_carries_95 : decode cX6_carries 95 = .ok (.iconst 1, 1) := dk_4 (dk_at dksX6_carries_4 3 rfl rfl)
theorem dX6_carries_96 : decode cX6_carries 96 = .ok (.goto 4, 3) := dk_167 0 4 (dk_at dksX6_carries_4 4 rfl rfl)
theorem dX6_carries_99 : decode cX6_carries 99 = .ok (.iconst 0, 1) := dk_3 (dk_at dksX6_carries_4 7 rfl rfl)
theorem dX6_carries_100 : decode cX6_carries 100 = .ok (.iadd, 1) := dk_96 (dk_at dksX6_carries_4 8 rfl rfl)
theorem dX6_carries_101 : decode cX6_carries 101 = .ok (.iastore, 1) := dk_79 (dk_at dksX6_carries_4 9 rfl rfl)
theorem dX6_carries_102 : decode cX6_carries 102 = .ok (.aload_n 0, 1) := dk_42 (dk_at dksX6_carries_4 10 rfl rfl)
theorem dX6_carries_103 : decode cX6_carries 103 = .ok (.getfield 7, 3) := dk_180 0 7 (dk_at dksX6_carries_4 11 rfl rfl)
theorem dX6_carries_106 : decode cX6_carries 106 = .ok (.iload_n 3, 1) := dk_29 (dk_at dksX6_carries_4 14 rfl rfl)
theorem dX6_carries_107 : decode cX6_carries 107 = .ok (.bipush 6, 2) := dk_16 6 (dk_at dksX6_carries_4 15 rfl rfl)
theorem dX6_carries_109 : decode cX6_carries 109 = .ok (.iadd, 1) := dk_96 (dk_at dksX6_carries_4 17 rfl rfl)
theorem dX6_carries_110 : decode cX6_carries 110 = .ok (.iload_n 1, 1) := dk_27 (dk_at dksX6_carries_4 18 rfl rfl)
theorem dX6_carries_111 : decode cX6_carries 111 = .ok (.iastore, 1) := dk_79 (dk_at dksX6_carries_4 19 rfl rfl)
theorem dX6_carries_112 : decode cX6_carries 112 = .ok (.aload_n 0, 1) := dk_42 (dk_at dksX6_carries_4 20 rfl rfl)
theorem dX6_carries_113 : decode cX6_carries 113 = .ok (.getfield 7, 3) := dk_180 0 7 (dk_at dksX6_carries_4 21 rfl rfl)
theorem dX6_carries_116 : decode cX6_carries 116 = .ok (.iload_n 3, 1) := dk_29 (dk_at dksX6_carries_5 0 rfl rfl)
theorem dX6_carries_117 : decode cX6_carries 117 = .ok (.bipush 7, 2) := dk_16 7 (dk_at dksX6_carries_5 1 rfl rfl)
theorem dX6_carries_119 : decode cX6_carries 119 = .ok (.iadd, 1) := dk_96 (dk_at dksX6_carries_5 3 rfl rfl)
theorem dX6_carries_120 : decode cX6_carries 120 = .ok (.aload_n 0, 1) := dk_42 (dk_at dksX6_carries_5 4 rfl rfl)
theorem dX6_carries_121 : decode cX6_carries 121 = .ok (.getfield 7, 3) := dk_180 0 7 (dk_at dksX6_carries_5 5 rfl rfl)
theorem dX6_carries_124 : decode cX6_carries 124 = .ok (.iconst 3, 1) := dk_6 (dk_at dksX6_carries_5 8 rfl rfl)
theorem dX6_carries_125 : decode cX6_carries 125 = .ok (.iaload, 1) := dk_46 (dk_at dksX6_carries_5 9 rfl rfl)
theorem dX6_carries_126 : decode cX6_carries 126 = .ok (.iastore, 1) := dk_79 (dk_at dksX6_carries_5 10 rfl rfl)
theorem dX6_carries_127 : decode cX6_carries 127 = .ok (.aload_n 0, 1) := dk_42 (dk_at dksX6_carries_5 11 rfl rfl)
theorem dX6_carries_128 : decode cX6_carries 128 = .ok (.getfield 7, 3) := dk_180 0 7 (dk_at dksX6_carries_5 12 rfl rfl)
theorem dX6_carries_131 : decode cX6_carries 131 = .ok (.iload_n 3, 1) := dk_29 (dk_at dksX6_carries_5 15 rfl rfl)
theorem dX6_carries_132 : decode cX6_carries 132 = .ok (.bipush 7, 2) := dk_16 7 (dk_at dksX6_carries_5 16 rfl rfl)
theorem dX6_carries_134 : decode cX6_carries 134 = .ok (.iadd, 1) := dk_96 (dk_at dksX6_carries_5 18 rfl rfl)
theorem dX6_carries_135 : decode cX6_carries 135 = .ok (.dup2, 1) := dk_92 (dk_at dksX6_carries_5 19 rfl rfl)
theorem dX6_carries_136 : decode cX6_carries 136 = .ok (.iaload, 1) := dk_46 (dk_at dksX6_carries_5 20 rfl rfl)
theorem dX6_carries_137 : decode cX6_carries 137 = .ok (.iconst 1, 1) := dk_4 (dk_at dksX6_carries_5 21 rfl rfl)
theorem dX6_carries_138 : decode cX6_carries 138 = .ok (.isub, 1) := dk_100 (dk_at dksX6_carries_5 22 rfl rfl)
theorem dX6_carries_139 : decode cX6_carries 139 = .ok (.iastore, 1) := dk_79 (dk_at dksX6_carries_5 23 rfl rfl)
theorem dX6_carries_140 : decode cX6_carries 140 = .ok (.aload_n 0, 1) := dk_42 (dk_at dksX6_carries_6 0 rfl rfl)
theorem dX6_carries_141 : decode cX6_carries 141 = .ok (.getfield 7, 3) := dk_180 0 7 (dk_at dksX6_carries_6 1 rfl rfl)
theorem dX6_carries_144 : decode cX6_carries 144 = .ok (.iload_n 3, 1) := dk_29 (dk_at dksX6_carries_6 4 rfl rfl)
theorem dX6_carries_145 : decode cX6_carries 145 = .ok (.bipush 8, 2) := dk_16 8 (dk_at dksX6_carries_6 5 rfl rfl)
theorem dX6_carries_147 : decode cX6_carries 147 = .ok (.iadd, 1) := dk_96 (dk_at dksX6_carries_6 7 rfl rfl)
theorem dX6_carries_148 : decode cX6_carries 148 = .ok (.dup2, 1) := dk_92 (dk_at dksX6_carries_6 8 rfl rfl)
theorem dX6_carries_149 : decode cX6_carries 149 = .ok (.iaload, 1) := dk_46 (dk_at dksX6_carries_6 9 rfl rfl)
theorem dX6_carries_150 : decode cX6_carries 150 = .ok (.iconst 1, 1) := dk_4 (dk_at dksX6_carries_6 10 rfl rfl)
theorem dX6_carries_151 : decode cX6_carries 151 = .ok (.iadd, 1) := dk_96 (dk_at dksX6_carries_6 11 rfl rfl)
theorem dX6_carries_152 : decode cX6_carries 152 = .ok (.iastore, 1) := dk_79 (dk_at dksX6_carries_6 12 rfl rfl)
theorem dX6_carries_153 : decode cX6_carries 153 = .ok (.aload_n 0, 1) := dk_42 (dk_at dksX6_carries_6 13 rfl rfl)
theorem dX6_carries_154 : decode cX6_carries 154 = .ok (.getfield 7, 3) := dk_180 0 7 (dk_at dksX6_carries_6 14 rfl rfl)
theorem dX6_carries_157 : decode cX6_carries 157 = .ok (.iconst 4, 1) := dk_7 (dk_at dksX6_carries_6 17 rfl rfl)
theorem dX6_carries_158 : decode cX6_carries 158 = .ok (.dup2, 1) := dk_92 (dk_at dksX6_carries_6 18 rfl rfl)
theorem dX6_carries_159 : decode cX6_carries 159 = .ok (.iaload, 1) := dk_46 (dk_at dksX6_carries_6 19 rfl rfl)
theorem dX6_carries_160 : decode cX6_carries 160 = .ok (.iconst 1, 1) := dk_4 (dk_at dksX6_carries_6 20 rfl rfl)
theorem dX6_carries_161 : decode cX6_carries 161 = .ok (.iadd, 1) := dk_96 (dk_at dksX6_carries_6 21 rfl rfl)
theorem dX6_carries_162 : decode cX6_carries 162 = .ok (.iastore, 1) := dk_79 (dk_at dksX6_carries_6 22 rfl rfl)
theorem dX6_carries_163 : decode cX6_carries 163 = .ok (.iinc 2 1, 3) := dk_132 2 1 (dk_at dksX6_carries_7 0 rfl rfl)
theorem dX6_carries_166 : decode cX6_carries 166 = .ok (.goto (-164), 3) := dk_167 255 92 (dk_at dksX6_carries_7 3 rfl rfl)
theorem dX6_carries_169 : decode cX6_carries 169 = .ok (.return_, 1) := dk_177 (dk_at dksX6_carries_7 6 rfl rfl)
abbrev cX6_letter : ByteArray := prog_11_method_49_code
def yX6_letter : MethodName := ⟨RX6, "letter", "(II)I"⟩
def dkwX6_letter_2 : List UInt8 := [180, 0, 7, 27, 184, 0, 89, 5, 96, 28, 96, 46, 172]
abbrev dktX6_letter_2 : List UInt8 := dkwX6_letter_2 ++ []
def dkwX6_letter_1 : List UInt8 := [184, 0, 54, 153, 0, 7, 3, 167, 0, 4, 4, 182, 0, 50, 153, 0, 7, 3, 167, 0, 16, 42]
abbrev dktX6_letter_1 : List UInt8 := dkwX6_letter_1 ++ dktX6_letter_2
def dkwX6_letter_0 : List UInt8 := [42, 42, 27, 182, 0, 105, 153, 0, 26, 28, 3, 42, 180, 0, 7, 27, 184, 0, 89, 46, 4, 100]
abbrev dktX6_letter_0 : List UInt8 := dkwX6_letter_0 ++ dktX6_letter_1
theorem dksX6_letter_0 : cX6_letter.data.toList.drop 0 = dktX6_letter_0 := by decide +kernel
theorem dksX6_letter_1 : cX6_letter.data.toList.drop 22 = dktX6_letter_1 := dk_seg dksX6_letter_0 22 rfl rfl
theorem dksX6_letter_2 : cX6_letter.data.toList.drop 44 = dktX6_letter_2 := dk_seg dksX6_letter_1 22 rfl rfl
theorem dX6_letter_0 : decode cX6_letter 0 = .ok (.aload_n 0, 1) := dk_42 (dk_at dksX6_letter_0 0 rfl rfl)
theorem dX6_letter_1 : decode cX6_letter 1 = .ok (.aload_n 0, 1) := dk_42 (dk_at dksX6_letter_0 1 rfl rfl)
theorem dX6_letter_2 : decode cX6_letter 2 = .ok (.iload_n 1, 1) := dk_27 (dk_at dksX6_letter_0 2 rfl rfl)
theorem dX6_letter_3 : decode cX6_letter 3 = .ok (.invokevirtual 105, 3) := dk_182 0 105 (dk_at dksX6_letter_0 3 rfl rfl)
theorem dX6_letter_6 : decode cX6_letter 6 = .ok (.ifCond .eq 26, 3) := dk_153 0 26 (dk_at dksX6_letter_0 6 rfl rfl)
theorem dX6_letter_9 : decode cX6_letter 9 = .ok (.iload_n 2, 1) := dk_28 (dk_at dksX6_letter_0 9 rfl rfl)
theorem dX6_letter_10 : decode cX6_letter 10 = .ok (.iconst 0, 1) := dk_3 (dk_at dksX6_letter_0 10 rfl rfl)
theorem dX6_letter_11 : decode cX6_letter 11 = .ok (.aload_n 0, 1) := dk_42 (dk_at dksX6_letter_0 11 rfl rfl)
theorem dX6_letter_12 : decode cX6_letter 12 = .ok (.getfield 7, 3) := dk_180 0 7 (dk_at dksX6_letter_0 12 rfl rfl)
theorem dX6_letter_15 : decode cX6_letter 15 = .ok (.iload_n 1, 1) := dk_27 (dk_at dksX6_letter_0 15 rfl rfl)
theorem dX6_letter_16 : decode cX6_letter 16 = .ok (.invokestatic 89, 3) := dk_184 0 89 (dk_at dksX6_letter_0 16 rfl rfl)
theorem dX6_letter_19 : decode cX6_letter 19 = .ok (.iaload, 1) := dk_46 (dk_at dksX6_letter_0 19 rfl rfl)
theorem dX6_letter_20 : decode cX6_letter 20 = .ok (.iconst 1, 1) := dk_4 (dk_at dksX6_letter_0 20 rfl rfl)
theorem dX6_letter_21 : decode cX6_letter 21 = .ok (.isub, 1) := dk_100 (dk_at dksX6_letter_0 21 rfl rfl)
theorem dX6_letter_22 : decode cX6_letter 22 = .ok (.invokestatic 54, 3) := dk_184 0 54 (dk_at dksX6_letter_1 0 rfl rfl)
theorem dX6_letter_25 : decode cX6_letter 25 = .ok (.ifCond .eq 7, 3) := dk_153 0 7 (dk_at dksX6_letter_1 3 rfl rfl)
theorem dX6_letter_28 : decode cX6_letter 28 = .ok (.iconst 0, 1) := dk_3 (dk_at dksX6_letter_1 6 rfl rfl)
theorem dX6_letter_29 : decode cX6_letter 29 = .ok (.goto 4, 3) := dk_167 0 4 (dk_at dksX6_letter_1 7 rfl rfl)
theorem dX6_letter_32 : decode cX6_letter 32 = .ok (.iconst 1, 1) := dk_4 (dk_at dksX6_letter_1 10 rfl rfl)
theorem dX6_letter_33 : decode cX6_letter 33 = .ok (.invokevirtual 50, 3) := dk_182 0 50 (dk_at dksX6_letter_1 11 rfl rfl)
theorem dX6_letter_36 : decode cX6_letter 36 = .ok (.ifCond .eq 7, 3) := dk_153 0 7 (dk_at dksX6_letter_1 14 rfl rfl)
theorem dX6_letter_39 : decode cX6_letter 39 = .ok (.iconst 0, 1) := dk_3 (dk_at dksX6_letter_1 17 rfl rfl)
theorem dX6_letter_40 : decode cX6_letter 40 = .ok (.goto 16, 3) := dk_167 0 16 (dk_at dksX6_letter_1 18 rfl rfl)
theorem dX6_letter_43 : decode cX6_letter 43 = .ok (.aload_n 0, 1) := dk_42 (dk_at dksX6_letter_1 21 rfl rfl)
theorem dX6_letter_44 : decode cX6_letter 44 = .ok (.getfield 7, 3) := dk_180 0 7 (dk_at dksX6_letter_2 0 rfl rfl)
theorem dX6_letter_47 : decode cX6_letter 47 = .ok (.iload_n 1, 1) := dk_27 (dk_at dksX6_letter_2 3 rfl rfl)
theorem dX6_letter_48 : decode cX6_letter 48 = .ok (.invokestatic 89, 3) := dk_184 0 89 (dk_at dksX6_letter_2 4 rfl rfl)
theorem dX6_letter_51 : decode cX6_letter 51 = .ok (.iconst 2, 1) := dk_5 (dk_at dksX6_letter_2 7 rfl rfl)
theorem dX6_letter_52 : decode cX6_letter 52 = .ok (.iadd, 1) := dk_96 (dk_at dksX6_letter_2 8 rfl rfl)
theorem dX6_letter_53 : decode cX6_letter 53 = .ok (.iload_n 2, 1) := dk_28 (dk_at dksX6_letter_2 9 rfl rfl)
theorem dX6_letter_54 : decode cX6_letter 54 = .ok (.iadd, 1) := dk_96 (dk_at dksX6_letter_2 10 rfl rfl)
theorem dX6_letter_55 : decode cX6_letter 55 = .ok (.iaload, 1) := dk_46 (dk_at dksX6_letter_2 11 rfl rfl)
theorem dX6_letter_56 : decode cX6_letter 56 = .ok (.ireturn, 1) := dk_172 (dk_at dksX6_letter_2 12 rfl rfl)
abbrev cX6_press : ByteArray := prog_11_method_50_code
def yX6_press : MethodName := ⟨RX6, "press", "(II)I"⟩
def dkwX6_press_2 : List UInt8 := [167, 0, 4, 4, 182, 0, 50, 153, 0, 7, 3, 167, 0, 9, 42, 180, 0, 28, 28, 46, 172]
abbrev dktX6_press_2 : List UInt8 := dkwX6_press_2 ++ []
def dkwX6_press_1 : List UInt8 := [180, 0, 128, 4, 100, 184, 0, 54, 153, 0, 7, 4, 167, 0, 4, 3, 62, 42, 29, 153, 0, 7, 3]
abbrev dktX6_press_1 : List UInt8 := dkwX6_press_1 ++ dktX6_press_2
def dkwX6_press_0 : List UInt8 := [42, 27, 182, 0, 105, 153, 0, 33, 42, 27, 42, 182, 0, 135, 182, 0, 139, 153, 0, 21, 28, 3, 42]
abbrev dktX6_press_0 : List UInt8 := dkwX6_press_0 ++ dktX6_press_1
theorem dksX6_press_0 : cX6_press.data.toList.drop 0 = dktX6_press_0 := by decide +kernel
theorem dksX6_press_1 : cX6_press.data.toList.drop 23 = dktX6_press_1 := dk_seg dksX6_press_0 23 rfl rfl
theorem dksX6_press_2 : cX6_press.data.toList.drop 46 = dktX6_press_2 := dk_seg dksX6_press_1 23 rfl rfl
theorem dX6_press_0 : decode cX6_press 0 = .ok (.aload_n 0, 1) := dk_42 (dk_at dksX6_press_0 0 rfl rfl)
theorem dX6_press_1 : decode cX6_press 1 = .ok (.iload_n 1, 1) := dk_27 (dk_at dksX6_press_0 1 rfl rfl)
theorem dX6_press_2 : decode cX6_press 2 = .ok (.invokevirtual 105, 3) := dk_182 0 105 (dk_at dksX6_press_0 2 rfl rfl)
theorem dX6_press_5 : decode cX6_press 5 = .ok (.ifCond .eq 33, 3) := dk_153 0 33 (dk_at dksX6_press_0 5 rfl rfl)
theorem dX6_press_8 : decode cX6_press 8 = .ok (.aload_n 0, 1) := dk_42 (dk_at dksX6_press_0 8 rfl rfl)
theorem dX6_press_9 : decode cX6_press 9 = .ok (.iload_n 1, 1) := dk_27 (dk_at dksX6_press_0 9 rfl rfl)
theorem dX6_press_10 : decode cX6_press 10 = .ok (.aload_n 0, 1) := dk_42 (dk_at dksX6_press_0 10 rfl rfl)
theorem dX6_press_11 : decode cX6_press 11 = .ok (.invokevirtual 135, 3) := dk_182 0 135 (dk_at dksX6_press_0 11 rfl rfl)
theorem dX6_press_14 : decode cX6_press 14 = .ok (.invokevirtual 139, 3) := dk_182 0 139 (dk_at dksX6_press_0 14 rfl rfl)
theorem dX6_press_17 : decode cX6_press 17 = .ok (.ifCond .eq 21, 3) := dk_153 0 21 (dk_at dksX6_press_0 17 rfl rfl)
theorem dX6_press_20 : decode cX6_press 20 = .ok (.iload_n 2, 1) := dk_28 (dk_at dksX6_press_0 20 rfl rfl)
theorem dX6_press_21 : decode cX6_press 21 = .ok (.iconst 0, 1) := dk_3 (dk_at dksX6_press_0 21 rfl rfl)
theorem dX6_press_22 : decode cX6_press 22 = .ok (.aload_n 0, 1) := dk_42 (dk_at dksX6_press_0 22 rfl rfl)
theorem dX6_press_23 : decode cX6_press 23 = .ok (.getfield 128, 3) := dk_180 0 128 (dk_at dksX6_press_1 0 rfl rfl)
theorem dX6_press_26 : decode cX6_press 26 = .ok (.iconst 1, 1) := dk_4 (dk_at dksX6_press_1 3 rfl rfl)
theorem dX6_press_27 : decode cX6_press 27 = .ok (.isub, 1) := dk_100 (dk_at dksX6_press_1 4 rfl rfl)
theorem dX6_press_28 : decode cX6_press 28 = .ok (.invokestatic 54, 3) := dk_184 0 54 (dk_at dksX6_press_1 5 rfl rfl)
theorem dX6_press_31 : decode cX6_press 31 = .ok (.ifCond .eq 7, 3) := dk_153 0 7 (dk_at dksX6_press_1 8 rfl rfl)
theorem dX6_press_34 : decode cX6_press 34 = .ok (.iconst 1, 1) := dk_4 (dk_at dksX6_press_1 11 rfl rfl)
theorem dX6_press_35 : decode cX6_press 35 = .ok (.goto 4, 3) := dk_167 0 4 (dk_at dksX6_press_1 12 rfl rfl)
theorem dX6_press_38 : decode cX6_press 38 = .ok (.iconst 0, 1) := dk_3 (dk_at dksX6_press_1 15 rfl rfl)
theorem dX6_press_39 : decode cX6_press 39 = .ok (.istore_n 3, 1) := dk_62 (dk_at dksX6_press_1 16 rfl rfl)
theorem dX6_press_40 : decode cX6_press 40 = .ok (.aload_n 0, 1) := dk_42 (dk_at dksX6_press_1 17 rfl rfl)
theorem dX6_press_41 : decode cX6_press 41 = .ok (.iload_n 3, 1) := dk_29 (dk_at dksX6_press_1 18 rfl rfl)
theorem dX6_press_42 : decode cX6_press 42 = .ok (.ifCond .eq 7, 3) := dk_153 0 7 (dk_at dksX6_press_1 19 rfl rfl)
theorem dX6_press_45 : decode cX6_press 45 = .ok (.iconst 0, 1) := dk_3 (dk_at dksX6_press_1 22 rfl rfl)
theorem dX6_press_46 : decode cX6_press 46 = .ok (.goto 4, 3) := dk_167 0 4 (dk_at dksX6_press_2 0 rfl rfl)
theorem dX6_press_49 : decode cX6_press 49 = .ok (.iconst 1, 1) := dk_4 (dk_at dksX6_press_2 3 rfl rfl)
theorem dX6_press_50 : decode cX6_press 50 = .ok (.invokevirtual 50, 3) := dk_182 0 50 (dk_at dksX6_press_2 4 rfl rfl)
theorem dX6_press_53 : decode cX6_press 53 = .ok (.ifCond .eq 7, 3) := dk_153 0 7 (dk_at dksX6_press_2 7 rfl rfl)
theorem dX6_press_56 : decode cX6_press 56 = .ok (.iconst 0, 1) := dk_3 (dk_at dksX6_press_2 10 rfl rfl)
theorem dX6_press_57 : decode cX6_press 57 = .ok (.goto 9, 3) := dk_167 0 9 (dk_at dksX6_press_2 11 rfl rfl)
theorem dX6_press_60 : decode cX6_press 60 = .ok (.aload_n 0, 1) := dk_42 (dk_at dksX6_press_2 14 rfl rfl)
theorem dX6_press_61 : decode cX6_press 61 = .ok (.getfield 28, 3) := dk_180 0 28 (dk_at dksX6_press_2 15 rfl rfl)
theorem dX6_press_64 : decode cX6_press 64 = .ok (.iload_n 2, 1) := dk_28 (dk_at dksX6_press_2 18 rfl rfl)
theorem dX6_press_65 : decode cX6_press 65 = .ok (.iaload, 1) := dk_46 (dk_at dksX6_press_2 19 rfl rfl)
theorem dX6_press_66 : decode cX6_press 66 = .ok (.ireturn, 1) := dk_172 (dk_at dksX6_press_2 20 rfl rfl)
abbrev cX6_write : ByteArray := prog_11_method_51_code
def yX6_write : MethodName := ⟨RX6, "write", "(I)I"⟩
def dkwX6_write_2 : List UInt8 := [184, 0, 89, 4, 96, 46, 182, 0, 157, 42, 180, 0, 128, 172]
abbrev dktX6_write_2 : List UInt8 := dkwX6_write_2 ++ []
def dkwX6_write_1 : List UInt8 := [167, 0, 4, 5, 182, 0, 50, 153, 0, 5, 3, 172, 42, 182, 0, 102, 42, 42, 180, 0, 7, 27]
abbrev dktX6_write_1 : List UInt8 := dkwX6_write_1 ++ dktX6_write_2
def dkwX6_write_0 : List UInt8 := [42, 42, 27, 182, 0, 105, 154, 0, 7, 4, 167, 0, 16, 42, 27, 182, 0, 154, 153, 0, 7, 3]
abbrev dktX6_write_0 : List UInt8 := dkwX6_write_0 ++ dktX6_write_1
theorem dksX6_write_0 : cX6_write.data.toList.drop 0 = dktX6_write_0 := by decide +kernel
theorem dksX6_write_1 : cX6_write.data.toList.drop 22 = dktX6_write_1 := dk_seg dksX6_write_0 22 rfl rfl
theorem dksX6_write_2 : cX6_write.data.toList.drop 44 = dktX6_write_2 := dk_seg dksX6_write_1 22 rfl rfl
theorem dX6_write_0 : decode cX6_write 0 = .ok (.aload_n 0, 1) := dk_42 (dk_at dksX6_write_0 0 rfl rfl)
theorem dX6_write_1 : decode cX6_write 1 = .ok (.aload_n 0, 1) := dk_42 (dk_at dksX6_write_0 1 rfl rfl)
theorem dX6_write_2 : decode cX6_write 2 = .ok (.iload_n 1, 1) := dk_27 (dk_at dksX6_write_0 2 rfl rfl)
theorem dX6_write_3 : decode cX6_write 3 = .ok (.invokevirtual 105, 3) := dk_182 0 105 (dk_at dksX6_write_0 3 rfl rfl)
theorem dX6_write_6 : decode cX6_write 6 = .ok (.ifCond .ne 7, 3) := dk_154 0 7 (dk_at dksX6_write_0 6 rfl rfl)
theorem dX6_write_9 : decode cX6_write 9 = .ok (.iconst 1, 1) := dk_4 (dk_at dksX6_write_0 9 rfl rfl)
theorem dX6_write_10 : decode cX6_write 10 = .ok (.goto 16, 3) := dk_167 0 16 (dk_at dksX6_write_0 10 rfl rfl)
theorem dX6_write_13 : decode cX6_write 13 = .ok (.aload_n 0, 1) := dk_42 (dk_at dksX6_write_0 13 rfl rfl)
theorem dX6_write_14 : decode cX6_write 14 = .ok (.iload_n 1, 1) := dk_27 (dk_at dksX6_write_0 14 rfl rfl)
theorem dX6_write_15 : decode cX6_write 15 = .ok (.invokevirtual 154, 3) := dk_182 0 154 (dk_at dksX6_write_0 15 rfl rfl)
theorem dX6_write_18 : decode cX6_write 18 = .ok (.ifCond .eq 7, 3) := dk_153 0 7 (dk_at dksX6_write_0 18 rfl rfl)
theorem dX6_write_21 : decode cX6_write 21 = .ok (.iconst 0, 1) := dk_3 (dk_at dksX6_write_0 21 rfl rfl)
theorem dX6_write_22 : decode cX6_write 22 = .ok (.goto 4, 3) := dk_167 0 4 (dk_at dksX6_write_1 0 rfl rfl)
theorem dX6_write_25 : decode cX6_write 25 = .ok (.iconst 2, 1) := dk_5 (dk_at dksX6_write_1 3 rfl rfl)
theorem dX6_write_26 : decode cX6_write 26 = .ok (.invokevirtual 50, 3) := dk_182 0 50 (dk_at dksX6_write_1 4 rfl rfl)
theorem dX6_write_29 : decode cX6_write 29 = .ok (.ifCond .eq 5, 3) := dk_153 0 5 (dk_at dksX6_write_1 7 rfl rfl)
theorem dX6_write_32 : decode cX6_write 32 = .ok (.iconst 0, 1) := dk_3 (dk_at dksX6_write_1 10 rfl rfl)
theorem dX6_write_33 : decode cX6_write 33 = .ok (.ireturn, 1) := dk_172 (dk_at dksX6_write_1 11 rfl rfl)
theorem dX6_write_34 : decode cX6_write 34 = .ok (.aload_n 0, 1) := dk_42 (dk_at dksX6_write_1 12 rfl rfl)
theorem dX6_write_35 : decode cX6_write 35 = .ok (.invokevirtual 102, 3) := dk_182 0 102 (dk_at dksX6_write_1 13 rfl rfl)
theorem dX6_write_38 : decode cX6_write 38 = .ok (.aload_n 0, 1) := dk_42 (dk_at dksX6_write_1 16 rfl rfl)
theorem dX6_write_39 : decode cX6_write 39 = .ok (.aload_n 0, 1) := dk_42 (dk_at dksX6_write_1 17 rfl rfl)
theorem dX6_write_40 : decode cX6_write 40 = .ok (.getfield 7, 3) := dk_180 0 7 (dk_at dksX6_write_1 18 rfl rfl)
theorem dX6_write_43 : decode cX6_write 43 = .ok (.iload_n 1, 1) := dk_27 (dk_at dksX6_write_1 21 rfl rfl)
theorem dX6_write_44 : decode cX6_write 44 = .ok (.invokestatic 89, 3) := dk_184 0 89 (dk_at dksX6_write_2 0 rfl rfl)
theorem dX6_write_47 : decode cX6_write 47 = .ok (.iconst 1, 1) := dk_4 (dk_at dksX6_write_2 3 rfl rfl)
theorem dX6_write_48 : decode cX6_write 48 = .ok (.iadd, 1) := dk_96 (dk_at dksX6_write_2 4 rfl rfl)
theorem dX6_write_49 : decode cX6_write 49 = .ok (.iaload, 1) := dk_46 (dk_at dksX6_write_2 5 rfl rfl)
theorem dX6_write_50 : decode cX6_write 50 = .ok (.invokevirtual 157, 3) := dk_182 0 157 (dk_at dksX6_write_2 6 rfl rfl)
theorem dX6_write_53 : decode cX6_write 53 = .ok (.aload_n 0, 1) := dk_42 (dk_at dksX6_write_2 9 rfl rfl)
theorem dX6_write_54 : decode cX6_write 54 = .ok (.getfield 128, 3) := dk_180 0 128 (dk_at dksX6_write_2 10 rfl rfl)
theorem dX6_write_57 : decode cX6_write 57 = .ok (.ireturn, 1) := dk_172 (dk_at dksX6_write_2 13 rfl rfl)
abbrev cX6_writeAll : ByteArray := prog_11_method_52_code
def yX6_writeAll : MethodName := ⟨RX6, "writeAll", "()I"⟩
def dkwX6_writeAll_2 : List UInt8 := [132, 1, 1, 132, 2, 1, 167, 255, 217, 27, 172]
abbrev dktX6_writeAll_2 : List UInt8 := dkwX6_writeAll_2 ++ []
def dkwX6_writeAll_1 : List UInt8 := [28, 182, 0, 154, 153, 0, 21, 42, 42, 180, 0, 7, 28, 184, 0, 89, 4, 96, 46, 182, 0, 157]
abbrev dktX6_writeAll_1 : List UInt8 := dkwX6_writeAll_1 ++ dktX6_writeAll_2
def dkwX6_writeAll_0 : List UInt8 := [42, 3, 181, 0, 43, 42, 182, 0, 102, 3, 60, 3, 61, 28, 42, 180, 0, 7, 4, 46, 162, 0, 35, 42]
abbrev dktX6_writeAll_0 : List UInt8 := dkwX6_writeAll_0 ++ dktX6_writeAll_1
theorem dksX6_writeAll_0 : cX6_writeAll.data.toList.drop 0 = dktX6_writeAll_0 := by decide +kernel
theorem dksX6_writeAll_1 : cX6_writeAll.data.toList.drop 24 = dktX6_writeAll_1 := dk_seg dksX6_writeAll_0 24 rfl rfl
theorem dksX6_writeAll_2 : cX6_writeAll.data.toList.drop 46 = dktX6_writeAll_2 := dk_seg dksX6_writeAll_1 22 rfl rfl
theorem dX6_writeAll_0 : decode cX6_writeAll 0 = .ok (.aload_n 0, 1) := dk_42 (dk_at dksX6_writeAll_0 0 rfl rfl)
theorem dX6_writeAll_1 : decode cX6_writeAll 1 = .ok (.iconst 0, 1) := dk_3 (dk_at dksX6_writeAll_0 1 rfl rfl)
theorem dX6_writeAll_2 : decode cX6_writeAll 2 = .ok (.putfield 43, 3) := dk_181 0 43 (dk_at dksX6_writeAll_0 2 rfl rfl)
theorem dX6_writeAll_5 : decode cX6_writeAll 5 = .ok (.aload_n 0, 1) := dk_42 (dk_at dksX6_writeAll_0 5 rfl rfl)
theorem dX6_writeAll_6 : decode cX6_writeAll 6 = .ok (.invokevirtual 102, 3) := dk_182 0 102 (dk_at dksX6_writeAll_0 6 rfl rfl)
theorem dX6_writeAll_9 : decode cX6_writeAll 9 = .ok (.iconst 0, 1) := dk_3 (dk_at dksX6_writeAll_0 9 rfl rfl)
theorem dX6_writeAll_10 : decode cX6_writeAll 10 = .ok (.istore_n 1, 1) := dk_60 (dk_at dksX6_writeAll_0 10 rfl rfl)
theorem dX6_writeAll_11 : decode cX6_writeAll 11 = .ok (.iconst 0, 1) := dk_3 (dk_at dksX6_writeAll_0 11 rfl rfl)
theorem dX6_writeAll_12 : decode cX6_writeAll 12 = .ok (.istore_n 2, 1) := dk_61 (dk_at dksX6_writeAll_0 12 rfl rfl)
theorem dX6_writeAll_13 : decode cX6_writeAll 13 = .ok (.iload_n 2, 1) := dk_28 (dk_at dksX6_writeAll_0 13 rfl rfl)
theorem dX6_writeAll_14 : decode cX6_writeAll 14 = .ok (.aload_n 0, 1) := dk_42 (dk_at dksX6_writeAll_0 14 rfl rfl)
theorem dX6_writeAll_15 : decode cX6_writeAll 15 = .ok (.getfield 7, 3) := dk_180 0 7 (dk_at dksX6_writeAll_0 15 rfl rfl)
theorem dX6_writeAll_18 : decode cX6_writeAll 18 = .ok (.iconst 1, 1) := dk_4 (dk_at dksX6_writeAll_0 18 rfl rfl)
theorem dX6_writeAll_19 : decode cX6_writeAll 19 = .ok (.iaload, 1) := dk_46 (dk_at dksX6_writeAll_0 19 rfl rfl)
theorem dX6_writeAll_20 : decode cX6_writeAll 20 = .ok (.if_icmp .ge 35, 3) := dk_162 0 35 (dk_at dksX6_writeAll_0 20 rfl rfl)
theorem dX6_writeAll_23 : decode cX6_writeAll 23 = .ok (.aload_n 0, 1) := dk_42 (dk_at dksX6_writeAll_0 23 rfl rfl)
theorem dX6_writeAll_24 : decode cX6_writeAll 24 = .ok (.iload_n 2, 1) := dk_28 (dk_at dksX6_writeAll_1 0 rfl rfl)
theorem dX6_writeAll_25 : decode cX6_writeAll 25 = .ok (.invokevirtual 154, 3) := dk_182 0 154 (dk_at dksX6_writeAll_1 1 rfl rfl)
theorem dX6_writeAll_28 : decode cX6_writeAll 28 = .ok (.ifCond .eq 21, 3) := dk_153 0 21 (dk_at dksX6_writeAll_1 4 rfl rfl)
theorem dX6_writeAll_31 : decode cX6_writeAll 31 = .ok (.aload_n 0, 1) := dk_42 (dk_at dksX6_writeAll_1 7 rfl rfl)
theorem dX6_writeAll_32 : decode cX6_writeAll 32 = .ok (.aload_n 0, 1) := dk_42 (dk_at dksX6_writeAll_1 8 rfl rfl)
theorem dX6_writeAll_33 : decode cX6_writeAll 33 = .ok (.getfield 7, 3) := dk_180 0 7 (dk_at dksX6_writeAll_1 9 rfl rfl)
theorem dX6_writeAll_36 : decode cX6_writeAll 36 = .ok (.iload_n 2, 1) := dk_28 (dk_at dksX6_writeAll_1 12 rfl rfl)
theorem dX6_writeAll_37 : decode cX6_writeAll 37 = .ok (.invokestatic 89, 3) := dk_184 0 89 (dk_at dksX6_writeAll_1 13 rfl rfl)
theorem dX6_writeAll_40 : decode cX6_writeAll 40 = .ok (.iconst 1, 1) := dk_4 (dk_at dksX6_writeAll_1 16 rfl rfl)
theorem dX6_writeAll_41 : decode cX6_writeAll 41 = .ok (.iadd, 1) := dk_96 (dk_at dksX6_writeAll_1 17 rfl rfl)
theorem dX6_writeAll_42 : decode cX6_writeAll 42 = .ok (.iaload, 1) := dk_46 (dk_at dksX6_writeAll_1 18 rfl rfl)
theorem dX6_writeAll_43 : decode cX6_writeAll 43 = .ok (.invokevirtual 157, 3) := dk_182 0 157 (dk_at dksX6_writeAll_1 19 rfl rfl)
theorem dX6_writeAll_46 : decode cX6_writeAll 46 = .ok (.iinc 1 1, 3) := dk_132 1 1 (dk_at dksX6_writeAll_2 0 rfl rfl)
theorem dX6_writeAll_49 : decode cX6_writeAll 49 = .ok (.iinc 2 1, 3) := dk_132 2 1 (dk_at dksX6_writeAll_2 3 rfl rfl)
theorem dX6_writeAll_52 : decode cX6_writeAll 52 = .ok (.goto (-39), 3) := dk_167 255 217 (dk_at dksX6_writeAll_2 6 rfl rfl)
theorem dX6_writeAll_55 : decode cX6_writeAll 55 = .ok (.iload_n 1, 1) := dk_27 (dk_at dksX6_writeAll_2 9 rfl rfl)
theorem dX6_writeAll_56 : decode cX6_writeAll 56 = .ok (.ireturn, 1) := dk_172 (dk_at dksX6_writeAll_2 10 rfl rfl)
abbrev cX6_fewest : ByteArray := prog_11_method_56_code
def yX6_fewest : MethodName := ⟨RX6, "fewest", "()I"⟩
def dkwX6_fewest_0 : List UInt8 := [42, 3, 181, 0, 43, 42, 182, 0, 173, 172]
abbrev dktX6_fewest_0 : List UInt8 := dkwX6_fewest_0 ++ []
theorem dksX6_fewest_0 : cX6_fewest.data.toList.drop 0 = dktX6_fewest_0 := by decide +kernel
theorem dX6_fewest_0 : decode cX6_fewest 0 = .ok (.aload_n 0, 1) := dk_42 (dk_at dksX6_fewest_0 0 rfl rfl)
theorem dX6_fewest_1 : decode cX6_fewest 1 = .ok (.iconst 0, 1) := dk_3 (dk_at dksX6_fewest_0 1 rfl rfl)
theorem dX6_fewest_2 : decode cX6_fewest 2 = .ok (.putfield 43, 3) := dk_181 0 43 (dk_at dksX6_fewest_0 2 rfl rfl)
theorem dX6_fewest_5 : decode cX6_fewest 5 = .ok (.aload_n 0, 1) := dk_42 (dk_at dksX6_fewest_0 5 rfl rfl)
theorem dX6_fewest_6 : decode cX6_fewest 6 = .ok (.invokevirtual 173, 3) := dk_182 0 173 (dk_at dksX6_fewest_0 6 rfl rfl)
theorem dX6_fewest_9 : decode cX6_fewest 9 = .ok (.ireturn, 1) := dk_172 (dk_at dksX6_fewest_0 9 rfl rfl)
abbrev cX6_smallest : ByteArray := prog_11_method_55_code
def yX6_smallest : MethodName := ⟨RX6, "smallest", "()I"⟩
def dkwX6_smallest_3 : List UInt8 := [167, 255, 201, 2, 172]
abbrev dktX6_smallest_3 : List UInt8 := dkwX6_smallest_3 ++ []
def dkwX6_smallest_2 : List UInt8 := [130, 126, 154, 0, 13, 42, 29, 182, 0, 167, 153, 0, 5, 29, 172, 132, 3, 1, 167, 255, 215, 132, 2, 1]
abbrev dktX6_smallest_2 : List UInt8 := dkwX6_smallest_2 ++ dktX6_smallest_3
def dkwX6_smallest_1 : List UInt8 := [62, 29, 4, 42, 180, 0, 7, 3, 46, 120, 162, 0, 35, 29, 184, 0, 170, 28, 160, 0, 21, 29, 27, 2]
abbrev dktX6_smallest_1 : List UInt8 := dkwX6_smallest_1 ++ dktX6_smallest_2
def dkwX6_smallest_0 : List UInt8 := [42, 182, 0, 135, 60, 42, 27, 182, 0, 167, 154, 0, 5, 2, 172, 3, 61, 28, 16, 10, 163, 0, 55, 3]
abbrev dktX6_smallest_0 : List UInt8 := dkwX6_smallest_0 ++ dktX6_smallest_1
theorem dksX6_smallest_0 : cX6_smallest.data.toList.drop 0 = dktX6_smallest_0 := by decide +kernel
theorem dksX6_smallest_1 : cX6_smallest.data.toList.drop 24 = dktX6_smallest_1 := dk_seg dksX6_smallest_0 24 rfl rfl
theorem dksX6_smallest_2 : cX6_smallest.data.toList.drop 48 = dktX6_smallest_2 := dk_seg dksX6_smallest_1 24 rfl rfl
theorem dksX6_smallest_3 : cX6_smallest.data.toList.drop 72 = dktX6_smallest_3 := dk_seg dksX6_smallest_2 24 rfl rfl
theorem dX6_smallest_0 : decode cX6_smallest 0 = .ok (.aload_n 0, 1) := dk_42 (dk_at dksX6_smallest_0 0 rfl rfl)
theorem dX6_smallest_1 : decode cX6_smallest 1 = .ok (.invokevirtual 135, 3) := dk_182 0 135 (dk_at dksX6_smallest_0 1 rfl rfl)
theorem dX6_smallest_4 : decode cX6_smallest 4 = .ok (.istore_n 1, 1) := dk_60 (dk_at dksX6_smallest_0 4 rfl rfl)
theorem dX6_smallest_5 : decode cX6_smallest 5 = .ok (.aload_n 0, 1) := dk_42 (dk_at dksX6_smallest_0 5 rfl rfl)
theorem dX6_smallest_6 : decode cX6_smallest 6 = .ok (.iload_n 1, 1) := dk_27 (dk_at dksX6_smallest_0 6 rfl rfl)
theorem dX6_smallest_7 : decode cX6_smallest 7 = .ok (.invokevirtual 167, 3) := dk_182 0 167 (dk_at dksX6_smallest_0 7 rfl rfl)
theorem dX6_smallest_10 : decode cX6_smallest 10 = .ok (.ifCond .ne 5, 3) := dk_154 0 5 (dk_at dksX6_smallest_0 10 rfl rfl)
theorem dX6_smallest_13 : decode cX6_smallest 13 = .ok (.iconst (-1), 1) := dk_2 (dk_at dksX6_smallest_0 13 rfl rfl)
theorem dX6_smallest_14 : decode cX6_smallest 14 = .ok (.ireturn, 1) := dk_172 (dk_at dksX6_smallest_0 14 rfl rfl)
theorem dX6_smallest_15 : decode cX6_smallest 15 = .ok (.iconst 0, 1) := dk_3 (dk_at dksX6_smallest_0 15 rfl rfl)
theorem dX6_smallest_16 : decode cX6_smallest 16 = .ok (.istore_n 2, 1) := dk_61 (dk_at dksX6_smallest_0 16 rfl rfl)
theorem dX6_smallest_17 : decode cX6_smallest 17 = .ok (.iload_n 2, 1) := dk_28 (dk_at dksX6_smallest_0 17 rfl rfl)
theorem dX6_smallest_18 : decode cX6_smallest 18 = .ok (.bipush 10, 2) := dk_16 10 (dk_at dksX6_smallest_0 18 rfl rfl)
theorem dX6_smallest_20 : decode cX6_smallest 20 = .ok (.if_icmp .gt 55, 3) := dk_163 0 55 (dk_at dksX6_smallest_0 20 rfl rfl)
theorem dX6_smallest_23 : decode cX6_smallest 23 = .ok (.iconst 0, 1) := dk_3 (dk_at dksX6_smallest_0 23 rfl rfl)
theorem dX6_smallest_24 : decode cX6_smallest 24 = .ok (.istore_n 3, 1) := dk_62 (dk_at dksX6_smallest_1 0 rfl rfl)
theorem dX6_smallest_25 : decode cX6_smallest 25 = .ok (.iload_n 3, 1) := dk_29 (dk_at dksX6_smallest_1 1 rfl rfl)
theorem dX6_smallest_26 : decode cX6_smallest 26 = .ok (.iconst 1, 1) := dk_4 (dk_at dksX6_smallest_1 2 rfl rfl)
theorem dX6_smallest_27 : decode cX6_smallest 27 = .ok (.aload_n 0, 1) := dk_42 (dk_at dksX6_smallest_1 3 rfl rfl)
theorem dX6_smallest_28 : decode cX6_smallest 28 = .ok (.getfield 7, 3) := dk_180 0 7 (dk_at dksX6_smallest_1 4 rfl rfl)
theorem dX6_smallest_31 : decode cX6_smallest 31 = .ok (.iconst 0, 1) := dk_3 (dk_at dksX6_smallest_1 7 rfl rfl)
theorem dX6_smallest_32 : decode cX6_smallest 32 = .ok (.iaload, 1) := dk_46 (dk_at dksX6_smallest_1 8 rfl rfl)
theorem dX6_smallest_33 : decode cX6_smallest 33 = .ok (.ishl, 1) := dk_120 (dk_at dksX6_smallest_1 9 rfl rfl)
theorem dX6_smallest_34 : decode cX6_smallest 34 = .ok (.if_icmp .ge 35, 3) := dk_162 0 35 (dk_at dksX6_smallest_1 10 rfl rfl)
theorem dX6_smallest_37 : decode cX6_smallest 37 = .ok (.iload_n 3, 1) := dk_29 (dk_at dksX6_smallest_1 13 rfl rfl)
theorem dX6_smallest_38 : decode cX6_smallest 38 = .ok (.invokestatic 170, 3) := dk_184 0 170 (dk_at dksX6_smallest_1 14 rfl rfl)
theorem dX6_smallest_41 : decode cX6_smallest 41 = .ok (.iload_n 2, 1) := dk_28 (dk_at dksX6_smallest_1 17 rfl rfl)
theorem dX6_smallest_42 : decode cX6_smallest 42 = .ok (.if_icmp .ne 21, 3) := dk_160 0 21 (dk_at dksX6_smallest_1 18 rfl rfl)
theorem dX6_smallest_45 : decode cX6_smallest 45 = .ok (.iload_n 3, 1) := dk_29 (dk_at dksX6_smallest_1 21 rfl rfl)
theorem dX6_smallest_46 : decode cX6_smallest 46 = .ok (.iload_n 1, 1) := dk_27 (dk_at dksX6_smallest_1 22 rfl rfl)
theorem dX6_smallest_47 : decode cX6_smallest 47 = .ok (.iconst (-1), 1) := dk_2 (dk_at dksX6_smallest_1 23 rfl rfl)
theorem dX6_smallest_48 : decode cX6_smallest 48 = .ok (.ixor, 1) := dk_130 (dk_at dksX6_smallest_2 0 rfl rfl)
theorem dX6_smallest_49 : decode cX6_smallest 49 = .ok (.iand, 1) := dk_126 (dk_at dksX6_smallest_2 1 rfl rfl)
theorem dX6_smallest_50 : decode cX6_smallest 50 = .ok (.ifCond .ne 13, 3) := dk_154 0 13 (dk_at dksX6_smallest_2 2 rfl rfl)
theorem dX6_smallest_53 : decode cX6_smallest 53 = .ok (.aload_n 0, 1) := dk_42 (dk_at dksX6_smallest_2 5 rfl rfl)
theorem dX6_smallest_54 : decode cX6_smallest 54 = .ok (.iload_n 3, 1) := dk_29 (dk_at dksX6_smallest_2 6 rfl rfl)
theorem dX6_smallest_55 : decode cX6_smallest 55 = .ok (.invokevirtual 167, 3) := dk_182 0 167 (dk_at dksX6_smallest_2 7 rfl rfl)
theorem dX6_smallest_58 : decode cX6_smallest 58 = .ok (.ifCond .eq 5, 3) := dk_153 0 5 (dk_at dksX6_smallest_2 10 rfl rfl)
theorem dX6_smallest_61 : decode cX6_smallest 61 = .ok (.iload_n 3, 1) := dk_29 (dk_at dksX6_smallest_2 13 rfl rfl)
theorem dX6_smallest_62 : decode cX6_smallest 62 = .ok (.ireturn, 1) := dk_172 (dk_at dksX6_smallest_2 14 rfl rfl)
theorem dX6_smallest_63 : decode cX6_smallest 63 = .ok (.iinc 3 1, 3) := dk_132 3 1 (dk_at dksX6_smallest_2 15 rfl rfl)
theorem dX6_smallest_66 : decode cX6_smallest 66 = .ok (.goto (-41), 3) := dk_167 255 215 (dk_at dksX6_smallest_2 18 rfl rfl)
theorem dX6_smallest_69 : decode cX6_smallest 69 = .ok (.iinc 2 1, 3) := dk_132 2 1 (dk_at dksX6_smallest_2 21 rfl rfl)
theorem dX6_smallest_72 : decode cX6_smallest 72 = .ok (.goto (-55), 3) := dk_167 255 201 (dk_at dksX6_smallest_3 0 rfl rfl)
theorem dX6_smallest_75 : decode cX6_smallest 75 = .ok (.iconst (-1), 1) := dk_2 (dk_at dksX6_smallest_3 3 rfl rfl)
theorem dX6_smallest_76 : decode cX6_smallest 76 = .ok (.ireturn, 1) := dk_172 (dk_at dksX6_smallest_3 4 rfl rfl)
abbrev cX6_allWith : ByteArray := prog_11_method_54_code
def yX6_allWith : MethodName := ⟨RX6, "allWith", "(I)Z"⟩
def dkwX6_allWith_1 : List UInt8 := [2, 159, 0, 7, 4, 167, 0, 4, 3, 61, 132, 3, 1, 167, 255, 223, 28, 172]
abbrev dktX6_allWith_1 : List UInt8 := dkwX6_allWith_1 ++ []
def dkwX6_allWith_0 : List UInt8 := [4, 61, 3, 62, 29, 42, 180, 0, 7, 4, 46, 162, 0, 29, 28, 153, 0, 25, 42, 29, 27, 182, 0, 131]
abbrev dktX6_allWith_0 : List UInt8 := dkwX6_allWith_0 ++ dktX6_allWith_1
theorem dksX6_allWith_0 : cX6_allWith.data.toList.drop 0 = dktX6_allWith_0 := by decide +kernel
theorem dksX6_allWith_1 : cX6_allWith.data.toList.drop 24 = dktX6_allWith_1 := dk_seg dksX6_allWith_0 24 rfl rfl
theorem dX6_allWith_0 : decode cX6_allWith 0 = .ok (.iconst 1, 1) := dk_4 (dk_at dksX6_allWith_0 0 rfl rfl)
theorem dX6_allWith_1 : decode cX6_allWith 1 = .ok (.istore_n 2, 1) := dk_61 (dk_at dksX6_allWith_0 1 rfl rfl)
theorem dX6_allWith_2 : decode cX6_allWith 2 = .ok (.iconst 0, 1) := dk_3 (dk_at dksX6_allWith_0 2 rfl rfl)
theorem dX6_allWith_3 : decode cX6_allWith 3 = .ok (.istore_n 3, 1) := dk_62 (dk_at dksX6_allWith_0 3 rfl rfl)
theorem dX6_allWith_4 : decode cX6_allWith 4 = .ok (.iload_n 3, 1) := dk_29 (dk_at dksX6_allWith_0 4 rfl rfl)
theorem dX6_allWith_5 : decode cX6_allWith 5 = .ok (.aload_n 0, 1) := dk_42 (dk_at dksX6_allWith_0 5 rfl rfl)
theorem dX6_allWith_6 : decode cX6_allWith 6 = .ok (.getfield 7, 3) := dk_180 0 7 (dk_at dksX6_allWith_0 6 rfl rfl)
theorem dX6_allWith_9 : decode cX6_allWith 9 = .ok (.iconst 1, 1) := dk_4 (dk_at dksX6_allWith_0 9 rfl rfl)
theorem dX6_allWith_10 : decode cX6_allWith 10 = .ok (.iaload, 1) := dk_46 (dk_at dksX6_allWith_0 10 rfl rfl)
theorem dX6_allWith_11 : decode cX6_allWith 11 = .ok (.if_icmp .ge 29, 3) := dk_162 0 29 (dk_at dksX6_allWith_0 11 rfl rfl)
theorem dX6_allWith_14 : decode cX6_allWith 14 = .ok (.iload_n 2, 1) := dk_28 (dk_at dksX6_allWith_0 14 rfl rfl)
theorem dX6_allWith_15 : decode cX6_allWith 15 = .ok (.ifCond .eq 25, 3) := dk_153 0 25 (dk_at dksX6_allWith_0 15 rfl rfl)
theorem dX6_allWith_18 : decode cX6_allWith 18 = .ok (.aload_n 0, 1) := dk_42 (dk_at dksX6_allWith_0 18 rfl rfl)
theorem dX6_allWith_19 : decode cX6_allWith 19 = .ok (.iload_n 3, 1) := dk_29 (dk_at dksX6_allWith_0 19 rfl rfl)
theorem dX6_allWith_20 : decode cX6_allWith 20 = .ok (.iload_n 1, 1) := dk_27 (dk_at dksX6_allWith_0 20 rfl rfl)
theorem dX6_allWith_21 : decode cX6_allWith 21 = .ok (.invokevirtual 131, 3) := dk_182 0 131 (dk_at dksX6_allWith_0 21 rfl rfl)
theorem dX6_allWith_24 : decode cX6_allWith 24 = .ok (.iconst (-1), 1) := dk_2 (dk_at dksX6_allWith_1 0 rfl rfl)
theorem dX6_allWith_25 : decode cX6_allWith 25 = .ok (.if_icmp .eq 7, 3) := dk_159 0 7 (dk_at dksX6_allWith_1 1 rfl rfl)
theorem dX6_allWith_28 : decode cX6_allWith 28 = .ok (.iconst 1, 1) := dk_4 (dk_at dksX6_allWith_1 4 rfl rfl)
theorem dX6_allWith_29 : decode cX6_allWith 29 = .ok (.goto 4, 3) := dk_167 0 4 (dk_at dksX6_allWith_1 5 rfl rfl)
theorem dX6_allWith_32 : decode cX6_allWith 32 = .ok (.iconst 0, 1) := dk_3 (dk_at dksX6_allWith_1 8 rfl rfl)
theorem dX6_allWith_33 : decode cX6_allWith 33 = .ok (.istore_n 2, 1) := dk_61 (dk_at dksX6_allWith_1 9 rfl rfl)
theorem dX6_allWith_34 : decode cX6_allWith 34 = .ok (.iinc 3 1, 3) := dk_132 3 1 (dk_at dksX6_allWith_1 10 rfl rfl)
theorem dX6_allWith_37 : decode cX6_allWith 37 = .ok (.goto (-33), 3) := dk_167 255 223 (dk_at dksX6_allWith_1 13 rfl rfl)
theorem dX6_allWith_40 : decode cX6_allWith 40 = .ok (.iload_n 2, 1) := dk_28 (dk_at dksX6_allWith_1 16 rfl rfl)
theorem dX6_allWith_41 : decode cX6_allWith 41 = .ok (.ireturn, 1) := dk_172 (dk_at dksX6_allWith_1 17 rfl rfl)
abbrev cX6_bits : ByteArray := prog_11_method_53_code
def yX6_bits : MethodName := ⟨RX6, "bits", "(I)I"⟩
def dkwX6_bits_0 : List UInt8 := [3, 60, 26, 61, 28, 158, 0, 16, 27, 28, 4, 126, 96, 60, 28, 4, 122, 61, 167, 255, 242, 27, 172]
abbrev dktX6_bits_0 : List UInt8 := dkwX6_bits_0 ++ []
theorem dksX6_bits_0 : cX6_bits.data.toList.drop 0 = dktX6_bits_0 := by decide +kernel
theorem dX6_bits_0 : decode cX6_bits 0 = .ok (.iconst 0, 1) := dk_3 (dk_at dksX6_bits_0 0 rfl rfl)
theorem dX6_bits_1 : decode cX6_bits 1 = .ok (.istore_n 1, 1) := dk_60 (dk_at dksX6_bits_0 1 rfl rfl)
theorem dX6_bits_2 : decode cX6_bits 2 = .ok (.iload_n 0, 1) := dk_26 (dk_at dksX6_bits_0 2 rfl rfl)
theorem dX6_bits_3 : decode cX6_bits 3 = .ok (.istore_n 2, 1) := dk_61 (dk_at dksX6_bits_0 3 rfl rfl)
theorem dX6_bits_4 : decode cX6_bits 4 = .ok (.iload_n 2, 1) := dk_28 (dk_at dksX6_bits_0 4 rfl rfl)
theorem dX6_bits_5 : decode cX6_bits 5 = .ok (.ifCond .le 16, 3) := dk_158 0 16 (dk_at dksX6_bits_0 5 rfl rfl)
theorem dX6_bits_8 : decode cX6_bits 8 = .ok (.iload_n 1, 1) := dk_27 (dk_at dksX6_bits_0 8 rfl rfl)
theorem dX6_bits_9 : decode cX6_bits 9 = .ok (.iload_n 2, 1) := dk_28 (dk_at dksX6_bits_0 9 rfl rfl)
theorem dX6_bits_10 : decode cX6_bits 10 = .ok (.iconst 1, 1) := dk_4 (dk_at dksX6_bits_0 10 rfl rfl)
theorem dX6_bits_11 : decode cX6_bits 11 = .ok (.iand, 1) := dk_126 (dk_at dksX6_bits_0 11 rfl rfl)
theorem dX6_bits_12 : decode cX6_bits 12 = .ok (.iadd, 1) := dk_96 (dk_at dksX6_bits_0 12 rfl rfl)
theorem dX6_bits_13 : decode cX6_bits 13 = .ok (.istore_n 1, 1) := dk_60 (dk_at dksX6_bits_0 13 rfl rfl)
theorem dX6_bits_14 : decode cX6_bits 14 = .ok (.iload_n 2, 1) := dk_28 (dk_at dksX6_bits_0 14 rfl rfl)
theorem dX6_bits_15 : decode cX6_bits 15 = .ok (.iconst 1, 1) := dk_4 (dk_at dksX6_bits_0 15 rfl rfl)
theorem dX6_bits_16 : decode cX6_bits 16 = .ok (.ishr, 1) := dk_122 (dk_at dksX6_bits_0 16 rfl rfl)
theorem dX6_bits_17 : decode cX6_bits 17 = .ok (.istore_n 2, 1) := dk_61 (dk_at dksX6_bits_0 17 rfl rfl)
theorem dX6_bits_18 : decode cX6_bits 18 = .ok (.goto (-14), 3) := dk_167 255 242 (dk_at dksX6_bits_0 18 rfl rfl)
theorem dX6_bits_21 : decode cX6_bits 21 = .ok (.iload_n 1, 1) := dk_27 (dk_at dksX6_bits_0 21 rfl rfl)
theorem dX6_bits_22 : decode cX6_bits 22 = .ok (.ireturn, 1) := dk_172 (dk_at dksX6_bits_0 22 rfl rfl)
abbrev cX6_needed : ByteArray := prog_11_method_57_code
def yX6_needed : MethodName := ⟨RX6, "needed", "(I)I"⟩
def dkwX6_needed_3 : List UInt8 := [167, 0, 4, 3, 96, 61, 132, 3, 1, 167, 255, 203, 28, 172]
abbrev dktX6_needed_3 : List UInt8 := dkwX6_needed_3 ++ []
def dkwX6_needed_2 : List UInt8 := [159, 0, 26, 42, 29, 42, 182, 0, 135, 4, 27, 120, 2, 130, 126, 182, 0, 131, 2, 160, 0, 7, 4]
abbrev dktX6_needed_2 : List UInt8 := dkwX6_needed_2 ++ dktX6_needed_3
def dkwX6_needed_1 : List UInt8 := [3, 62, 29, 42, 180, 0, 7, 4, 46, 162, 0, 49, 28, 42, 29, 42, 182, 0, 135, 182, 0, 131, 2]
abbrev dktX6_needed_1 : List UInt8 := dkwX6_needed_1 ++ dktX6_needed_2
def dkwX6_needed_0 : List UInt8 := [42, 42, 27, 182, 0, 115, 153, 0, 7, 3, 167, 0, 4, 4, 182, 0, 50, 153, 0, 5, 3, 172, 3, 61]
abbrev dktX6_needed_0 : List UInt8 := dkwX6_needed_0 ++ dktX6_needed_1
theorem dksX6_needed_0 : cX6_needed.data.toList.drop 0 = dktX6_needed_0 := by decide +kernel
theorem dksX6_needed_1 : cX6_needed.data.toList.drop 24 = dktX6_needed_1 := dk_seg dksX6_needed_0 24 rfl rfl
theorem dksX6_needed_2 : cX6_needed.data.toList.drop 47 = dktX6_needed_2 := dk_seg dksX6_needed_1 23 rfl rfl
theorem dksX6_needed_3 : cX6_needed.data.toList.drop 70 = dktX6_needed_3 := dk_seg dksX6_needed_2 23 rfl rfl
theorem dX6_needed_0 : decode cX6_needed 0 = .ok (.aload_n 0, 1) := dk_42 (dk_at dksX6_needed_0 0 rfl rfl)
theorem dX6_needed_1 : decode cX6_needed 1 = .ok (.aload_n 0, 1) := dk_42 (dk_at dksX6_needed_0 1 rfl rfl)
theorem dX6_needed_2 : decode cX6_needed 2 = .ok (.iload_n 1, 1) := dk_27 (dk_at dksX6_needed_0 2 rfl rfl)
theorem dX6_needed_3 : decode cX6_needed 3 = .ok (.invokevirtual 115, 3) := dk_182 0 115 (dk_at dksX6_needed_0 3 rfl rfl)
theorem dX6_needed_6 : decode cX6_needed 6 = .ok (.ifCond .eq 7, 3) := dk_153 0 7 (dk_at dksX6_needed_0 6 rfl rfl)
theorem dX6_needed_9 : decode cX6_needed 9 = .ok (.iconst 0, 1) := dk_3 (dk_at dksX6_needed_0 9 rfl rfl)
theorem dX6_needed_10 : decode cX6_needed 10 = .ok (.goto 4, 3) := dk_167 0 4 (dk_at dksX6_needed_0 10 rfl rfl)
theorem dX6_needed_13 : decode cX6_needed 13 = .ok (.iconst 1, 1) := dk_4 (dk_at dksX6_needed_0 13 rfl rfl)
theorem dX6_needed_14 : decode cX6_needed 14 = .ok (.invokevirtual 50, 3) := dk_182 0 50 (dk_at dksX6_needed_0 14 rfl rfl)
theorem dX6_needed_17 : decode cX6_needed 17 = .ok (.ifCond .eq 5, 3) := dk_153 0 5 (dk_at dksX6_needed_0 17 rfl rfl)
theorem dX6_needed_20 : decode cX6_needed 20 = .ok (.iconst 0, 1) := dk_3 (dk_at dksX6_needed_0 20 rfl rfl)
theorem dX6_needed_21 : decode cX6_needed 21 = .ok (.ireturn, 1) := dk_172 (dk_at dksX6_needed_0 21 rfl rfl)
theorem dX6_needed_22 : decode cX6_needed 22 = .ok (.iconst 0, 1) := dk_3 (dk_at dksX6_needed_0 22 rfl rfl)
theorem dX6_needed_23 : decode cX6_needed 23 = .ok (.istore_n 2, 1) := dk_61 (dk_at dksX6_needed_0 23 rfl rfl)
theorem dX6_needed_24 : decode cX6_needed 24 = .ok (.iconst 0, 1) := dk_3 (dk_at dksX6_needed_1 0 rfl rfl)
theorem dX6_needed_25 : decode cX6_needed 25 = .ok (.istore_n 3, 1) := dk_62 (dk_at dksX6_needed_1 1 rfl rfl)
theorem dX6_needed_26 : decode cX6_needed 26 = .ok (.iload_n 3, 1) := dk_29 (dk_at dksX6_needed_1 2 rfl rfl)
theorem dX6_needed_27 : decode cX6_needed 27 = .ok (.aload_n 0, 1) := dk_42 (dk_at dksX6_needed_1 3 rfl rfl)
theorem dX6_needed_28 : decode cX6_needed 28 = .ok (.getfield 7, 3) := dk_180 0 7 (dk_at dksX6_needed_1 4 rfl rfl)
theorem dX6_needed_31 : decode cX6_needed 31 = .ok (.iconst 1, 1) := dk_4 (dk_at dksX6_needed_1 7 rfl rfl)
theorem dX6_needed_32 : decode cX6_needed 32 = .ok (.iaload, 1) := dk_46 (dk_at dksX6_needed_1 8 rfl rfl)
theorem dX6_needed_33 : decode cX6_needed 33 = .ok (.if_icmp .ge 49, 3) := dk_162 0 49 (dk_at dksX6_needed_1 9 rfl rfl)
theorem dX6_needed_36 : decode cX6_needed 36 = .ok (.iload_n 2, 1) := dk_28 (dk_at dksX6_needed_1 12 rfl rfl)
theorem dX6_needed_37 : decode cX6_needed 37 = .ok (.aload_n 0, 1) := dk_42 (dk_at dksX6_needed_1 13 rfl rfl)
theorem dX6_needed_38 : decode cX6_needed 38 = .ok (.iload_n 3, 1) := dk_29 (dk_at dksX6_needed_1 14 rfl rfl)
theorem dX6_needed_39 : decode cX6_needed 39 = .ok (.aload_n 0, 1) := dk_42 (dk_at dksX6_needed_1 15 rfl rfl)
theorem dX6_needed_40 : decode cX6_needed 40 = .ok (.invokevirtual 135, 3) := dk_182 0 135 (dk_at dksX6_needed_1 16 rfl rfl)
theorem dX6_needed_43 : decode cX6_needed 43 = .ok (.invokevirtual 131, 3) := dk_182 0 131 (dk_at dksX6_needed_1 19 rfl rfl)
theorem dX6_needed_46 : decode cX6_needed 46 = .ok (.iconst (-1), 1) := dk_2 (dk_at dksX6_needed_1 22 rfl rfl)
theorem dX6_needed_47 : decode cX6_needed 47 = .ok (.if_icmp .eq 26, 3) := dk_159 0 26 (dk_at dksX6_needed_2 0 rfl rfl)
theorem dX6_needed_50 : decode cX6_needed 50 = .ok (.aload_n 0, 1) := dk_42 (dk_at dksX6_needed_2 3 rfl rfl)
theorem dX6_needed_51 : decode cX6_needed 51 = .ok (.iload_n 3, 1) := dk_29 (dk_at dksX6_needed_2 4 rfl rfl)
theorem dX6_needed_52 : decode cX6_needed 52 = .ok (.aload_n 0, 1) := dk_42 (dk_at dksX6_needed_2 5 rfl rfl)
theorem dX6_needed_53 : decode cX6_needed 53 = .ok (.invokevirtual 135, 3) := dk_182 0 135 (dk_at dksX6_needed_2 6 rfl rfl)
theorem dX6_needed_56 : decode cX6_needed 56 = .ok (.iconst 1, 1) := dk_4 (dk_at dksX6_needed_2 9 rfl rfl)
theorem dX6_needed_57 : decode cX6_needed 57 = .ok (.iload_n 1, 1) := dk_27 (dk_at dksX6_needed_2 10 rfl rfl)
theorem dX6_needed_58 : decode cX6_needed 58 = .ok (.ishl, 1) := dk_120 (dk_at dksX6_needed_2 11 rfl rfl)
theorem dX6_needed_59 : decode cX6_needed 59 = .ok (.iconst (-1), 1) := dk_2 (dk_at dksX6_needed_2 12 rfl rfl)
theorem dX6_needed_60 : decode cX6_needed 60 = .ok (.ixor, 1) := dk_130 (dk_at dksX6_needed_2 13 rfl rfl)
theorem dX6_needed_61 : decode cX6_needed 61 = .ok (.iand, 1) := dk_126 (dk_at dksX6_needed_2 14 rfl rfl)
theorem dX6_needed_62 : decode cX6_needed 62 = .ok (.invokevirtual 131, 3) := dk_182 0 131 (dk_at dksX6_needed_2 15 rfl rfl)
theorem dX6_needed_65 : decode cX6_needed 65 = .ok (.iconst (-1), 1) := dk_2 (dk_at dksX6_needed_2 18 rfl rfl)
theorem dX6_needed_66 : decode cX6_needed 66 = .ok (.if_icmp .ne 7, 3) := dk_160 0 7 (dk_at dksX6_needed_2 19 rfl rfl)
theorem dX6_needed_69 : decode cX6_needed 69 = .ok (.iconst 1, 1) := dk_4 (dk_at dksX6_needed_2 22 rfl rfl)
theorem dX6_needed_70 : decode cX6_needed 70 = .ok (.goto 4, 3) := dk_167 0 4 (dk_at dksX6_needed_3 0 rfl rfl)
theorem dX6_needed_73 : decode cX6_needed 73 = .ok (.iconst 0, 1) := dk_3 (dk_at dksX6_needed_3 3 rfl rfl)
theorem dX6_needed_74 : decode cX6_needed 74 = .ok (.iadd, 1) := dk_96 (dk_at dksX6_needed_3 4 rfl rfl)
theorem dX6_needed_75 : decode cX6_needed 75 = .ok (.istore_n 2, 1) := dk_61 (dk_at dksX6_needed_3 5 rfl rfl)
theorem dX6_needed_76 : decode cX6_needed 76 = .ok (.iinc 3 1, 3) := dk_132 3 1 (dk_at dksX6_needed_3 6 rfl rfl)
theorem dX6_needed_79 : decode cX6_needed 79 = .ok (.goto (-53), 3) := dk_167 255 203 (dk_at dksX6_needed_3 9 rfl rfl)
theorem dX6_needed_82 : decode cX6_needed 82 = .ok (.iload_n 2, 1) := dk_28 (dk_at dksX6_needed_3 12 rfl rfl)
theorem dX6_needed_83 : decode cX6_needed 83 = .ok (.ireturn, 1) := dk_172 (dk_at dksX6_needed_3 13 rfl rfl)
abbrev cX6_order : ByteArray := prog_11_method_62_code
def yX6_order : MethodName := ⟨RX6, "order", "(I)I"⟩
def dkwX6_order_1 : List UInt8 := [5, 182, 0, 50, 153, 0, 5, 3, 172, 42, 180, 0, 37, 27, 46, 172]
abbrev dktX6_order_1 : List UInt8 := dkwX6_order_1 ++ []
def dkwX6_order_0 : List UInt8 := [42, 42, 27, 182, 0, 105, 154, 0, 7, 4, 167, 0, 15, 42, 182, 0, 188, 153, 0, 7, 3, 167, 0, 4]
abbrev dktX6_order_0 : List UInt8 := dkwX6_order_0 ++ dktX6_order_1
theorem dksX6_order_0 : cX6_order.data.toList.drop 0 = dktX6_order_0 := by decide +kernel
theorem dksX6_order_1 : cX6_order.data.toList.drop 24 = dktX6_order_1 := dk_seg dksX6_order_0 24 rfl rfl
theorem dX6_order_0 : decode cX6_order 0 = .ok (.aload_n 0, 1) := dk_42 (dk_at dksX6_order_0 0 rfl rfl)
theorem dX6_order_1 : decode cX6_order 1 = .ok (.aload_n 0, 1) := dk_42 (dk_at dksX6_order_0 1 rfl rfl)
theorem dX6_order_2 : decode cX6_order 2 = .ok (.iload_n 1, 1) := dk_27 (dk_at dksX6_order_0 2 rfl rfl)
theorem dX6_order_3 : decode cX6_order 3 = .ok (.invokevirtual 105, 3) := dk_182 0 105 (dk_at dksX6_order_0 3 rfl rfl)
theorem dX6_order_6 : decode cX6_order 6 = .ok (.ifCond .ne 7, 3) := dk_154 0 7 (dk_at dksX6_order_0 6 rfl rfl)
theorem dX6_order_9 : decode cX6_order 9 = .ok (.iconst 1, 1) := dk_4 (dk_at dksX6_order_0 9 rfl rfl)
theorem dX6_order_10 : decode cX6_order 10 = .ok (.goto 15, 3) := dk_167 0 15 (dk_at dksX6_order_0 10 rfl rfl)
theorem dX6_order_13 : decode cX6_order 13 = .ok (.aload_n 0, 1) := dk_42 (dk_at dksX6_order_0 13 rfl rfl)
theorem dX6_order_14 : decode cX6_order 14 = .ok (.invokevirtual 188, 3) := dk_182 0 188 (dk_at dksX6_order_0 14 rfl rfl)
theorem dX6_order_17 : decode cX6_order 17 = .ok (.ifCond .eq 7, 3) := dk_153 0 7 (dk_at dksX6_order_0 17 rfl rfl)
theorem dX6_order_20 : decode cX6_order 20 = .ok (.iconst 0, 1) := dk_3 (dk_at dksX6_order_0 20 rfl rfl)
theorem dX6_order_21 : decode cX6_order 21 = .ok (.goto 4, 3) := dk_167 0 4 (dk_at dksX6_order_0 21 rfl rfl)
theorem dX6_order_24 : decode cX6_order 24 = .ok (.iconst 2, 1) := dk_5 (dk_at dksX6_order_1 0 rfl rfl)
theorem dX6_order_25 : decode cX6_order 25 = .ok (.invokevirtual 50, 3) := dk_182 0 50 (dk_at dksX6_order_1 1 rfl rfl)
theorem dX6_order_28 : decode cX6_order 28 = .ok (.ifCond .eq 5, 3) := dk_153 0 5 (dk_at dksX6_order_1 4 rfl rfl)
theorem dX6_order_31 : decode cX6_order 31 = .ok (.iconst 0, 1) := dk_3 (dk_at dksX6_order_1 7 rfl rfl)
theorem dX6_order_32 : decode cX6_order 32 = .ok (.ireturn, 1) := dk_172 (dk_at dksX6_order_1 8 rfl rfl)
theorem dX6_order_33 : decode cX6_order 33 = .ok (.aload_n 0, 1) := dk_42 (dk_at dksX6_order_1 9 rfl rfl)
theorem dX6_order_34 : decode cX6_order 34 = .ok (.getfield 37, 3) := dk_180 0 37 (dk_at dksX6_order_1 10 rfl rfl)
theorem dX6_order_37 : decode cX6_order 37 = .ok (.iload_n 1, 1) := dk_27 (dk_at dksX6_order_1 13 rfl rfl)
theorem dX6_order_38 : decode cX6_order 38 = .ok (.iaload, 1) := dk_46 (dk_at dksX6_order_1 14 rfl rfl)
theorem dX6_order_39 : decode cX6_order 39 = .ok (.ireturn, 1) := dk_172 (dk_at dksX6_order_1 15 rfl rfl)
abbrev cX6_orders : ByteArray := prog_11_method_61_code
def yX6_orders : MethodName := ⟨RX6, "orders", "()Z"⟩
def dkwX6_orders_12 : List UInt8 := [159, 0, 7, 4, 167, 0, 4, 3, 172]
abbrev dktX6_orders_12 : List UInt8 := dkwX6_orders_12 ++ []
def dkwX6_orders_11 : List UInt8 := [180, 0, 7, 21, 4, 42, 180, 0, 19, 21, 4, 46, 79, 132, 4, 1, 167, 255, 231, 42, 180, 0, 176, 2]
abbrev dktX6_orders_11 : List UInt8 := dkwX6_orders_11 ++ dktX6_orders_12
def dkwX6_orders_10 : List UInt8 := [132, 3, 1, 42, 29, 182, 0, 179, 167, 255, 82, 3, 54, 4, 21, 4, 17, 0, 195, 162, 0, 23, 42]
abbrev dktX6_orders_10 : List UInt8 := dkwX6_orders_10 ++ dktX6_orders_11
def dkwX6_orders_9 : List UInt8 := [21, 6, 42, 180, 0, 31, 21, 6, 46, 79, 132, 6, 1, 167, 255, 233, 167, 0, 16, 21, 5, 153, 0, 11]
abbrev dktX6_orders_9 : List UInt8 := dkwX6_orders_9 ++ dktX6_orders_10
def dkwX6_orders_8 : List UInt8 := [100, 160, 0, 41, 42, 21, 4, 181, 0, 176, 3, 54, 6, 21, 6, 27, 162, 0, 23, 42, 180, 0, 37]
abbrev dktX6_orders_8 : List UInt8 := dkwX6_orders_8 ++ dktX6_orders_9
def dkwX6_orders_7 : List UInt8 := [21, 4, 42, 180, 0, 176, 162, 0, 7, 4, 167, 0, 4, 3, 54, 5, 21, 5, 153, 0, 48, 29, 27, 4]
abbrev dktX6_orders_7 : List UInt8 := dkwX6_orders_7 ++ dktX6_orders_8
def dkwX6_orders_6 : List UInt8 := [46, 182, 0, 157, 42, 180, 0, 7, 16, 6, 46, 28, 100, 54, 4, 42, 180, 0, 176, 2, 159, 0, 12]
abbrev dktX6_orders_6 : List UInt8 := dkwX6_orders_6 ++ dktX6_orders_7
def dkwX6_orders_5 : List UInt8 := [29, 46, 182, 0, 154, 153, 255, 203, 42, 42, 180, 0, 7, 42, 180, 0, 31, 29, 46, 184, 0, 89, 4, 96]
abbrev dktX6_orders_5 : List UInt8 := dkwX6_orders_5 ++ dktX6_orders_6
def dkwX6_orders_4 : List UInt8 := [46, 27, 160, 0, 9, 132, 3, 255, 167, 255, 224, 42, 29, 182, 0, 185, 154, 255, 216, 42, 42, 180, 0, 31]
abbrev dktX6_orders_4 : List UInt8 := dkwX6_orders_4 ++ dktX6_orders_5
def dkwX6_orders_3 : List UInt8 := [29, 155, 0, 176, 42, 180, 0, 31, 29, 92, 46, 4, 96, 79, 42, 29, 182, 0, 182, 42, 180, 0, 31, 29]
abbrev dktX6_orders_3 : List UInt8 := dkwX6_orders_3 ++ dktX6_orders_4
def dkwX6_orders_2 : List UInt8 := [180, 0, 19, 29, 42, 180, 0, 7, 29, 46, 79, 132, 3, 1, 167, 255, 234, 3, 62, 42, 3, 182, 0, 179]
abbrev dktX6_orders_2 : List UInt8 := dkwX6_orders_2 ++ dktX6_orders_3
def dkwX6_orders_1 : List UInt8 := [2, 181, 0, 176, 27, 154, 0, 5, 4, 172, 42, 182, 0, 92, 3, 62, 29, 17, 0, 195, 162, 0, 21, 42]
abbrev dktX6_orders_1 : List UInt8 := dkwX6_orders_1 ++ dktX6_orders_2
def dkwX6_orders_0 : List UInt8 := [42, 180, 0, 7, 4, 46, 60, 42, 180, 0, 7, 16, 6, 46, 61, 42, 27, 154, 0, 7, 3, 167, 0, 4]
abbrev dktX6_orders_0 : List UInt8 := dkwX6_orders_0 ++ dktX6_orders_1
theorem dksX6_orders_0 : cX6_orders.data.toList.drop 0 = dktX6_orders_0 := by decide +kernel
theorem dksX6_orders_1 : cX6_orders.data.toList.drop 24 = dktX6_orders_1 := dk_seg dksX6_orders_0 24 rfl rfl
theorem dksX6_orders_2 : cX6_orders.data.toList.drop 48 = dktX6_orders_2 := dk_seg dksX6_orders_1 24 rfl rfl
theorem dksX6_orders_3 : cX6_orders.data.toList.drop 72 = dktX6_orders_3 := dk_seg dksX6_orders_2 24 rfl rfl
theorem dksX6_orders_4 : cX6_orders.data.toList.drop 96 = dktX6_orders_4 := dk_seg dksX6_orders_3 24 rfl rfl
theorem dksX6_orders_5 : cX6_orders.data.toList.drop 120 = dktX6_orders_5 := dk_seg dksX6_orders_4 24 rfl rfl
theorem dksX6_orders_6 : cX6_orders.data.toList.drop 144 = dktX6_orders_6 := dk_seg dksX6_orders_5 24 rfl rfl
theorem dksX6_orders_7 : cX6_orders.data.toList.drop 167 = dktX6_orders_7 := dk_seg dksX6_orders_6 23 rfl rfl
theorem dksX6_orders_8 : cX6_orders.data.toList.drop 191 = dktX6_orders_8 := dk_seg dksX6_orders_7 24 rfl rfl
theorem dksX6_orders_9 : cX6_orders.data.toList.drop 214 = dktX6_orders_9 := dk_seg dksX6_orders_8 23 rfl rfl
theorem dksX6_orders_10 : cX6_orders.data.toList.drop 238 = dktX6_orders_10 := dk_seg dksX6_orders_9 24 rfl rfl
theorem dksX6_orders_11 : cX6_orders.data.toList.drop 261 = dktX6_orders_11 := dk_seg dksX6_orders_10 23 rfl rfl
theorem dksX6_orders_12 : cX6_orders.data.toList.drop 285 = dktX6_orders_12 := dk_seg dksX6_orders_11 24 rfl rfl
theorem dX6_orders_0 : decode cX6_orders 0 = .ok (.aload_n 0, 1) := dk_42 (dk_at dksX6_orders_0 0 rfl rfl)
theorem dX6_orders_1 : decode cX6_orders 1 = .ok (.getfield 7, 3) := dk_180 0 7 (dk_at dksX6_orders_0 1 rfl rfl)
theorem dX6_orders_4 : decode cX6_orders 4 = .ok (.iconst 1, 1) := dk_4 (dk_at dksX6_orders_0 4 rfl rfl)
theorem dX6_orders_5 : decode cX6_orders 5 = .ok (.iaload, 1) := dk_46 (dk_at dksX6_orders_0 5 rfl rfl)
theorem dX6_orders_6 : decode cX6_orders 6 = .ok (.istore_n 1, 1) := dk_60 (dk_at dksX6_orders_0 6 rfl rfl)
theorem dX6_orders_7 : decode cX6_orders 7 = .ok (.aload_n 0, 1) := dk_42 (dk_at dksX6_orders_0 7 rfl rfl)
theorem dX6_orders_8 : decode cX6_orders 8 = .ok (.getfield 7, 3) := dk_180 0 7 (dk_at dksX6_orders_0 8 rfl rfl)
theorem dX6_orders_11 : decode cX6_orders 11 = .ok (.bipush 6, 2) := dk_16 6 (dk_at dksX6_orders_0 11 rfl rfl)
theorem dX6_orders_13 : decode cX6_orders 13 = .ok (.iaload, 1) := dk_46 (dk_at dksX6_orders_0 13 rfl rfl)
theorem dX6_orders_14 : decode cX6_orders 14 = .ok (.istore_n 2, 1) := dk_61 (dk_at dksX6_orders_0 14 rfl rfl)
theorem dX6_orders_15 : decode cX6_orders 15 = .ok (.aload_n 0, 1) := dk_42 (dk_at dksX6_orders_0 15 rfl rfl)
theorem dX6_orders_16 : decode cX6_orders 16 = .ok (.iload_n 1, 1) := dk_27 (dk_at dksX6_orders_0 16 rfl rfl)
theorem dX6_orders_17 : decode cX6_orders 17 = .ok (.ifCond .ne 7, 3) := dk_154 0 7 (dk_at dksX6_orders_0 17 rfl rfl)
theorem dX6_orders_20 : decode cX6_orders 20 = .ok (.iconst 0, 1) := dk_3 (dk_at dksX6_orders_0 20 rfl rfl)
theorem dX6_orders_21 : decode cX6_orders 21 = .ok (.goto 4, 3) := dk_167 0 4 (dk_at dksX6_orders_0 21 rfl rfl)
theorem dX6_orders_24 : decode cX6_orders 24 = .ok (.iconst (-1), 1) := dk_2 (dk_at dksX6_orders_1 0 rfl rfl)
theorem dX6_orders_25 : decode cX6_orders 25 = .ok (.putfield 176, 3) := dk_181 0 176 (dk_at dksX6_orders_1 1 rfl rfl)
theorem dX6_orders_28 : decode cX6_orders 28 = .ok (.iload_n 1, 1) := dk_27 (dk_at dksX6_orders_1 4 rfl rfl)
theorem dX6_orders_29 : decode cX6_orders 29 = .ok (.ifCond .ne 5, 3) := dk_154 0 5 (dk_at dksX6_orders_1 5 rfl rfl)
theorem dX6_orders_32 : decode cX6_orders 32 = .ok (.iconst 1, 1) := dk_4 (dk_at dksX6_orders_1 8 rfl rfl)
theorem dX6_orders_33 : decode cX6_orders 33 = .ok (.ireturn, 1) := dk_172 (dk_at dksX6_orders_1 9 rfl rfl)
theorem dX6_orders_34 : decode cX6_orders 34 = .ok (.aload_n 0, 1) := dk_42 (dk_at dksX6_orders_1 10 rfl rfl)
theorem dX6_orders_35 : decode cX6_orders 35 = .ok (.invokevirtual 92, 3) := dk_182 0 92 (dk_at dksX6_orders_1 11 rfl rfl)
theorem dX6_orders_38 : decode cX6_orders 38 = .ok (.iconst 0, 1) := dk_3 (dk_at dksX6_orders_1 14 rfl rfl)
theorem dX6_orders_39 : decode cX6_orders 39 = .ok (.istore_n 3, 1) := dk_62 (dk_at dksX6_orders_1 15 rfl rfl)
theorem dX6_orders_40 : decode cX6_orders 40 = .ok (.iload_n 3, 1) := dk_29 (dk_at dksX6_orders_1 16 rfl rfl)
theorem dX6_orders_41 : decode cX6_orders 41 = .ok (.sipush 195, 3) := dk_17 0 195 (dk_at dksX6_orders_1 17 rfl rfl)
theorem dX6_orders_44 : decode cX6_orders 44 = .ok (.if_icmp .ge 21, 3) := dk_162 0 21 (dk_at dksX6_orders_1 20 rfl rfl)
theorem dX6_orders_47 : decode cX6_orders 47 = .ok (.aload_n 0, 1) := dk_42 (dk_at dksX6_orders_1 23 rfl rfl)
theorem dX6_orders_48 : decode cX6_orders 48 = .ok (.getfield 19, 3) := dk_180 0 19 (dk_at dksX6_orders_2 0 rfl rfl)
theorem dX6_orders_51 : decode cX6_orders 51 = .ok (.iload_n 3, 1) := dk_29 (dk_at dksX6_orders_2 3 rfl rfl)
theorem dX6_orders_52 : decode cX6_orders 52 = .ok (.aload_n 0, 1) := dk_42 (dk_at dksX6_orders_2 4 rfl rfl)
theorem dX6_orders_53 : decode cX6_orders 53 = .ok (.getfield 7, 3) := dk_180 0 7 (dk_at dksX6_orders_2 5 rfl rfl)
theorem dX6_orders_56 : decode cX6_orders 56 = .ok (.iload_n 3, 1) := dk_29 (dk_at dksX6_orders_2 8 rfl rfl)
theorem dX6_orders_57 : decode cX6_orders 57 = .ok (.iaload, 1) := dk_46 (dk_at dksX6_orders_2 9 rfl rfl)
theorem dX6_orders_58 : decode cX6_orders 58 = .ok (.iastore, 1) := dk_79 (dk_at dksX6_orders_2 10 rfl rfl)
theorem dX6_orders_59 : decode cX6_orders 59 = .ok (.iinc 3 1, 3) := dk_132 3 1 (dk_at dksX6_orders_2 11 rfl rfl)
theorem dX6_orders_62 : decode cX6_orders 62 = .ok (.goto (-22), 3) := dk_167 255 234 (dk_at dksX6_orders_2 14 rfl rfl)
theorem dX6_orders_65 : decode cX6_orders 65 = .ok (.iconst 0, 1) := dk_3 (dk_at dksX6_orders_2 17 rfl rfl)
theorem dX6_orders_66 : decode cX6_orders 66 = .ok (.istore_n 3, 1) := dk_62 (dk_at dksX6_orders_2 18 rfl rfl)
theorem dX6_orders_67 : decode cX6_orders 67 = .ok (.aload_n 0, 1) := dk_42 (dk_at dksX6_orders_2 19 rfl rfl)
theorem dX6_orders_68 : decode cX6_orders 68 = .ok (.iconst 0, 1) := dk_3 (dk_at dksX6_orders_2 20 rfl rfl)
theorem dX6_orders_69 : decode cX6_orders 69 = .ok (.invokevirtual 179, 3) := dk_182 0 179 (dk_at dksX6_orders_2 21 rfl rfl)
theorem dX6_orders_72 : decode cX6_orders 72 = .ok (.iload_n 3, 1) := dk_29 (dk_at dksX6_orders_3 0 rfl rfl)
theorem dX6_orders_73 : decode cX6_orders 73 = .ok (.ifCond .lt 176, 3) := dk_155 0 176 (dk_at dksX6_orders_3 1 rfl rfl)
theorem dX6_orders_76 : decode cX6_orders 76 = .ok (.aload_n 0, 1) := dk_42 (dk_at dksX6_orders_3 4 rfl rfl)
theorem dX6_orders_77 : decode cX6_orders 77 = .ok (.getfield 31, 3) := dk_180 0 31 (dk_at dksX6_orders_3 5 rfl rfl)
theorem dX6_orders_80 : decode cX6_orders 80 = .ok (.iload_n 3, 1) := dk_29 (dk_at dksX6_orders_3 8 rfl rfl)
theorem dX6_orders_81 : decode cX6_orders 81 = .ok (.dup2, 1) := dk_92 (dk_at dksX6_orders_3 9 rfl rfl)
theorem dX6_orders_82 : decode cX6_orders 82 = .ok (.iaload, 1) := dk_46 (dk_at dksX6_orders_3 10 rfl rfl)
theorem dX6_orders_83 : decode cX6_orders 83 = .ok (.iconst 1, 1) := dk_4 (dk_at dksX6_orders_3 11 rfl rfl)
theorem dX6_orders_84 : decode cX6_orders 84 = .ok (.iadd, 1) := dk_96 (dk_at dksX6_orders_3 12 rfl rfl)
theorem dX6_orders_85 : decode cX6_orders 85 = .ok (.iastore, 1) := dk_79 (dk_at dksX6_orders_3 13 rfl rfl)
theorem dX6_orders_86 : decode cX6_orders 86 = .ok (.aload_n 0, 1) := dk_42 (dk_at dksX6_orders_3 14 rfl rfl)
theorem dX6_orders_87 : decode cX6_orders 87 = .ok (.iload_n 3, 1) := dk_29 (dk_at dksX6_orders_3 15 rfl rfl)
theorem dX6_orders_88 : decode cX6_orders 88 = .ok (.invokevirtual 182, 3) := dk_182 0 182 (dk_at dksX6_orders_3 16 rfl rfl)
theorem dX6_orders_91 : decode cX6_orders 91 = .ok (.aload_n 0, 1) := dk_42 (dk_at dksX6_orders_3 19 rfl rfl)
theorem dX6_orders_92 : decode cX6_orders 92 = .ok (.getfield 31, 3) := dk_180 0 31 (dk_at dksX6_orders_3 20 rfl rfl)
theorem dX6_orders_95 : decode cX6_orders 95 = .ok (.iload_n 3, 1) := dk_29 (dk_at dksX6_orders_3 23 rfl rfl)
theorem dX6_orders_96 : decode cX6_orders 96 = .ok (.iaload, 1) := dk_46 (dk_at dksX6_orders_4 0 rfl rfl)
theorem dX6_orders_97 : decode cX6_orders 97 = .ok (.iload_n 1, 1) := dk_27 (dk_at dksX6_orders_4 1 rfl rfl)
theorem dX6_orders_98 : decode cX6_orders 98 = .ok (.if_icmp .ne 9, 3) := dk_160 0 9 (dk_at dksX6_orders_4 2 rfl rfl)
theorem dX6_orders_101 : decode cX6_orders 101 = .ok (.iinc 3 (-1), 3) := dk_132 3 255 (dk_at dksX6_orders_4 5 rfl rfl)
theorem dX6_orders_104 : decode cX6_orders 104 = .ok (.goto (-32), 3) := dk_167 255 224 (dk_at dksX6_orders_4 8 rfl rfl)
theorem dX6_orders_107 : decode cX6_orders 107 = .ok (.aload_n 0, 1) := dk_42 (dk_at dksX6_orders_4 11 rfl rfl)
theorem dX6_orders_108 : decode cX6_orders 108 = .ok (.iload_n 3, 1) := dk_29 (dk_at dksX6_orders_4 12 rfl rfl)
theorem dX6_orders_109 : decode cX6_orders 109 = .ok (.invokevirtual 185, 3) := dk_182 0 185 (dk_at dksX6_orders_4 13 rfl rfl)
theorem dX6_orders_112 : decode cX6_orders 112 = .ok (.ifCond .ne (-40), 3) := dk_154 255 216 (dk_at dksX6_orders_4 16 rfl rfl)
theorem dX6_orders_115 : decode cX6_orders 115 = .ok (.aload_n 0, 1) := dk_42 (dk_at dksX6_orders_4 19 rfl rfl)
theorem dX6_orders_116 : decode cX6_orders 116 = .ok (.aload_n 0, 1) := dk_42 (dk_at dksX6_orders_4 20 rfl rfl)
theorem dX6_orders_117 : decode cX6_orders 117 = .ok (.getfield 31, 3) := dk_180 0 31 (dk_at dksX6_orders_4 21 rfl rfl)
theorem dX6_orders_120 : decode cX6_orders 120 = .ok (.iload_n 3, 1) := dk_29 (dk_at dksX6_orders_5 0 rfl rfl)
theorem dX6_orders_121 : decode cX6_orders 121 = .ok (.iaload, 1) := dk_46 (dk_at dksX6_orders_5 1 rfl rfl)
theorem dX6_orders_122 : decode cX6_orders 122 = .ok (.invokevirtual 154, 3) := dk_182 0 154 (dk_at dksX6_orders_5 2 rfl rfl)
theorem dX6_orders_125 : decode cX6_orders 125 = .ok (.ifCond .eq (-53), 3) := dk_153 255 203 (dk_at dksX6_orders_5 5 rfl rfl)
theorem dX6_orders_128 : decode cX6_orders 128 = .ok (.aload_n 0, 1) := dk_42 (dk_at dksX6_orders_5 8 rfl rfl)
theorem dX6_orders_129 : decode cX6_orders 129 = .ok (.aload_n 0, 1) := dk_42 (dk_at dksX6_orders_5 9 rfl rfl)
theorem dX6_orders_130 : decode cX6_orders 130 = .ok (.getfield 7, 3) := dk_180 0 7 (dk_at dksX6_orders_5 10 rfl rfl)
theorem dX6_orders_133 : decode cX6_orders 133 = .ok (.aload_n 0, 1) := dk_42 (dk_at dksX6_orders_5 13 rfl rfl)
theorem dX6_orders_134 : decode cX6_orders 134 = .ok (.getfield 31, 3) := dk_180 0 31 (dk_at dksX6_orders_5 14 rfl rfl)
theorem dX6_orders_137 : decode cX6_orders 137 = .ok (.iload_n 3, 1) := dk_29 (dk_at dksX6_orders_5 17 rfl rfl)
theorem dX6_orders_138 : decode cX6_orders 138 = .ok (.iaload, 1) := dk_46 (dk_at dksX6_orders_5 18 rfl rfl)
theorem dX6_orders_139 : decode cX6_orders 139 = .ok (.invokestatic 89, 3) := dk_184 0 89 (dk_at dksX6_orders_5 19 rfl rfl)
theorem dX6_orders_142 : decode cX6_orders 142 = .ok (.iconst 1, 1) := dk_4 (dk_at dksX6_orders_5 22 rfl rfl)
theorem dX6_orders_143 : decode cX6_orders 143 = .ok (.iadd, 1) := dk_96 (dk_at dksX6_orders_5 23 rfl rfl)
theorem dX6_orders_144 : decode cX6_orders 144 = .ok (.iaload, 1) := dk_46 (dk_at dksX6_orders_6 0 rfl rfl)
theorem dX6_orders_145 : decode cX6_orders 145 = .ok (.invokevirtual 157, 3) := dk_182 0 157 (dk_at dksX6_orders_6 1 rfl rfl)
theorem dX6_orders_148 : decode cX6_orders 148 = .ok (.aload_n 0, 1) := dk_42 (dk_at dksX6_orders_6 4 rfl rfl)
theorem dX6_orders_149 : decode cX6_orders 149 = .ok (.getfield 7, 3) := dk_180 0 7 (dk_at dksX6_orders_6 5 rfl rfl)
theorem dX6_orders_152 : decode cX6_orders 152 = .ok (.bipush 6, 2) := dk_16 6 (dk_at dksX6_orders_6 8 rfl rfl)
theorem dX6_orders_154 : decode cX6_orders 154 = .ok (.iaload, 1) := dk_46 (dk_at dksX6_orders_6 10 rfl rfl)
theorem dX6_orders_155 : decode cX6_orders 155 = .ok (.iload_n 2, 1) := dk_28 (dk_at dksX6_orders_6 11 rfl rfl)
theorem dX6_orders_156 : decode cX6_orders 156 = .ok (.isub, 1) := dk_100 (dk_at dksX6_orders_6 12 rfl rfl)
theorem dX6_orders_157 : decode cX6_orders 157 = .ok (.istore 4, 2) := dk_54 4 (dk_at dksX6_orders_6 13 rfl rfl)
theorem dX6_orders_159 : decode cX6_orders 159 = .ok (.aload_n 0, 1) := dk_42 (dk_at dksX6_orders_6 15 rfl rfl)
theorem dX6_orders_160 : decode cX6_orders 160 = .ok (.getfield 176, 3) := dk_180 0 176 (dk_at dksX6_orders_6 16 rfl rfl)
theorem dX6_orders_163 : decode cX6_orders 163 = .ok (.iconst (-1), 1) := dk_2 (dk_at dksX6_orders_6 19 rfl rfl)
theorem dX6_orders_164 : decode cX6_orders 164 = .ok (.if_icmp .eq 12, 3) := dk_159 0 12 (dk_at dksX6_orders_6 20 rfl rfl)
theorem dX6_orders_167 : decode cX6_orders 167 = .ok (.iload 4, 2) := dk_21 4 (dk_at dksX6_orders_7 0 rfl rfl)
theorem dX6_orders_169 : decode cX6_orders 169 = .ok (.aload_n 0, 1) := dk_42 (dk_at dksX6_orders_7 2 rfl rfl)
theorem dX6_orders_170 : decode cX6_orders 170 = .ok (.getfield 176, 3) := dk_180 0 176 (dk_at dksX6_orders_7 3 rfl rfl)
theorem dX6_orders_173 : decode cX6_orders 173 = .ok (.if_icmp .ge 7, 3) := dk_162 0 7 (dk_at dksX6_orders_7 6 rfl rfl)
theorem dX6_orders_176 : decode cX6_orders 176 = .ok (.iconst 1, 1) := dk_4 (dk_at dksX6_orders_7 9 rfl rfl)
theorem dX6_orders_177 : decode cX6_orders 177 = .ok (.goto 4, 3) := dk_167 0 4 (dk_at dksX6_orders_7 10 rfl rfl)
theorem dX6_orders_180 : decode cX6_orders 180 = .ok (.iconst 0, 1) := dk_3 (dk_at dksX6_orders_7 13 rfl rfl)
theorem dX6_orders_181 : decode cX6_orders 181 = .ok (.istore 5, 2) := dk_54 5 (dk_at dksX6_orders_7 14 rfl rfl)
theorem dX6_orders_183 : decode cX6_orders 183 = .ok (.iload 5, 2) := dk_21 5 (dk_at dksX6_orders_7 16 rfl rfl)
theorem dX6_orders_185 : decode cX6_orders 185 = .ok (.ifCond .eq 48, 3) := dk_153 0 48 (dk_at dksX6_orders_7 18 rfl rfl)
theorem dX6_orders_188 : decode cX6_orders 188 = .ok (.iload_n 3, 1) := dk_29 (dk_at dksX6_orders_7 21 rfl rfl)
theorem dX6_orders_189 : decode cX6_orders 189 = .ok (.iload_n 1, 1) := dk_27 (dk_at dksX6_orders_7 22 rfl rfl)
theorem dX6_orders_190 : decode cX6_orders 190 = .ok (.iconst 1, 1) := dk_4 (dk_at dksX6_orders_7 23 rfl rfl)
theorem dX6_orders_191 : decode cX6_orders 191 = .ok (.isub, 1) := dk_100 (dk_at dksX6_orders_8 0 rfl rfl)
theorem dX6_orders_192 : decode cX6_orders 192 = .ok (.if_icmp .ne 41, 3) := dk_160 0 41 (dk_at dksX6_orders_8 1 rfl rfl)
theorem dX6_orders_195 : decode cX6_orders 195 = .ok (.aload_n 0, 1) := dk_42 (dk_at dksX6_orders_8 4 rfl rfl)
theorem dX6_orders_196 : decode cX6_orders 196 = .ok (.iload 4, 2) := dk_21 4 (dk_at dksX6_orders_8 5 rfl rfl)
theorem dX6_orders_198 : decode cX6_orders 198 = .ok (.putfield 176, 3) := dk_181 0 176 (dk_at dksX6_orders_8 7 rfl rfl)
theorem dX6_orders_201 : decode cX6_orders 201 = .ok (.iconst 0, 1) := dk_3 (dk_at dksX6_orders_8 10 rfl rfl)
theorem dX6_orders_202 : decode cX6_orders 202 = .ok (.istore 6, 2) := dk_54 6 (dk_at dksX6_orders_8 11 rfl rfl)
theorem dX6_orders_204 : decode cX6_orders 204 = .ok (.iload 6, 2) := dk_21 6 (dk_at dksX6_orders_8 13 rfl rfl)
theorem dX6_orders_206 : decode cX6_orders 206 = .ok (.iload_n 1, 1) := dk_27 (dk_at dksX6_orders_8 15 rfl rfl)
theorem dX6_orders_207 : decode cX6_orders 207 = .ok (.if_icmp .ge 23, 3) := dk_162 0 23 (dk_at dksX6_orders_8 16 rfl rfl)
theorem dX6_orders_210 : decode cX6_orders 210 = .ok (.aload_n 0, 1) := dk_42 (dk_at dksX6_orders_8 19 rfl rfl)
theorem dX6_orders_211 : decode cX6_orders 211 = .ok (.getfield 37, 3) := dk_180 0 37 (dk_at dksX6_orders_8 20 rfl rfl)
theorem dX6_orders_214 : decode cX6_orders 214 = .ok (.iload 6, 2) := dk_21 6 (dk_at dksX6_orders_9 0 rfl rfl)
theorem dX6_orders_216 : decode cX6_orders 216 = .ok (.aload_n 0, 1) := dk_42 (dk_at dksX6_orders_9 2 rfl rfl)
theorem dX6_orders_217 : decode cX6_orders 217 = .ok (.getfield 31, 3) := dk_180 0 31 (dk_at dksX6_orders_9 3 rfl rfl)
theorem dX6_orders_220 : decode cX6_orders 220 = .ok (.iload 6, 2) := dk_21 6 (dk_at dksX6_orders_9 6 rfl rfl)
theorem dX6_orders_222 : decode cX6_orders 222 = .ok (.iaload, 1) := dk_46 (dk_at dksX6_orders_9 8 rfl rfl)
theorem dX6_orders_223 : decode cX6_orders 223 = .ok (.iastore, 1) := dk_79 (dk_at dksX6_orders_9 9 rfl rfl)
theorem dX6_orders_224 : decode cX6_orders 224 = .ok (.iinc 6 1, 3) := dk_132 6 1 (dk_at dksX6_orders_9 10 rfl rfl)
theorem dX6_orders_227 : decode cX6_orders 227 = .ok (.goto (-23), 3) := dk_167 255 233 (dk_at dksX6_orders_9 13 rfl rfl)
theorem dX6_orders_230 : decode cX6_orders 230 = .ok (.goto 16, 3) := dk_167 0 16 (dk_at dksX6_orders_9 16 rfl rfl)
theorem dX6_orders_233 : decode cX6_orders 233 = .ok (.iload 5, 2) := dk_21 5 (dk_at dksX6_orders_9 19 rfl rfl)
theorem dX6_orders_235 : decode cX6_orders 235 = .ok (.ifCond .eq 11, 3) := dk_153 0 11 (dk_at dksX6_orders_9 21 rfl rfl)
theorem dX6_orders_238 : decode cX6_orders 238 = .ok (.iinc 3 1, 3) := dk_132 3 1 (dk_at dksX6_orders_10 0 rfl rfl)
theorem dX6_orders_241 : decode cX6_orders 241 = .ok (.aload_n 0, 1) := dk_42 (dk_at dksX6_orders_10 3 rfl rfl)
theorem dX6_orders_242 : decode cX6_orders 242 = .ok (.iload_n 3, 1) := dk_29 (dk_at dksX6_orders_10 4 rfl rfl)
theorem dX6_orders_243 : decode cX6_orders 243 = .ok (.invokevirtual 179, 3) := dk_182 0 179 (dk_at dksX6_orders_10 5 rfl rfl)
theorem dX6_orders_246 : decode cX6_orders 246 = .ok (.goto (-174), 3) := dk_167 255 82 (dk_at dksX6_orders_10 8 rfl rfl)
theorem dX6_orders_249 : decode cX6_orders 249 = .ok (.iconst 0, 1) := dk_3 (dk_at dksX6_orders_10 11 rfl rfl)
theorem dX6_orders_250 : decode cX6_orders 250 = .ok (.istore 4, 2) := dk_54 4 (dk_at dksX6_orders_10 12 rfl rfl)
theorem dX6_orders_252 : decode cX6_orders 252 = .ok (.iload 4, 2) := dk_21 4 (dk_at dksX6_orders_10 14 rfl rfl)
theorem dX6_orders_254 : decode cX6_orders 254 = .ok (.sipush 195, 3) := dk_17 0 195 (dk_at dksX6_orders_10 16 rfl rfl)
theorem dX6_orders_257 : decode cX6_orders 257 = .ok (.if_icmp .ge 23, 3) := dk_162 0 23 (dk_at dksX6_orders_10 19 rfl rfl)
theorem dX6_orders_260 : decode cX6_orders 260 = .ok (.aload_n 0, 1) := dk_42 (dk_at dksX6_orders_10 22 rfl rfl)
theorem dX6_orders_261 : decode cX6_orders 261 = .ok (.getfield 7, 3) := dk_180 0 7 (dk_at dksX6_orders_11 0 rfl rfl)
theorem dX6_orders_264 : decode cX6_orders 264 = .ok (.iload 4, 2) := dk_21 4 (dk_at dksX6_orders_11 3 rfl rfl)
theorem dX6_orders_266 : decode cX6_orders 266 = .ok (.aload_n 0, 1) := dk_42 (dk_at dksX6_orders_11 5 rfl rfl)
theorem dX6_orders_267 : decode cX6_orders 267 = .ok (.getfield 19, 3) := dk_180 0 19 (dk_at dksX6_orders_11 6 rfl rfl)
theorem dX6_orders_270 : decode cX6_orders 270 = .ok (.iload 4, 2) := dk_21 4 (dk_at dksX6_orders_11 9 rfl rfl)
theorem dX6_orders_272 : decode cX6_orders 272 = .ok (.iaload, 1) := dk_46 (dk_at dksX6_orders_11 11 rfl rfl)
theorem dX6_orders_273 : decode cX6_orders 273 = .ok (.iastore, 1) := dk_79 (dk_at dksX6_orders_11 12 rfl rfl)
theorem dX6_orders_274 : decode cX6_orders 274 = .ok (.iinc 4 1, 3) := dk_132 4 1 (dk_at dksX6_orders_11 13 rfl rfl)
theorem dX6_orders_277 : decode cX6_orders 277 = .ok (.goto (-25), 3) := dk_167 255 231 (dk_at dksX6_orders_11 16 rfl rfl)
theorem dX6_orders_280 : decode cX6_orders 280 = .ok (.aload_n 0, 1) := dk_42 (dk_at dksX6_orders_11 19 rfl rfl)
theorem dX6_orders_281 : decode cX6_orders 281 = .ok (.getfield 176, 3) := dk_180 0 176 (dk_at dksX6_orders_11 20 rfl rfl)
theorem dX6_orders_284 : decode cX6_orders 284 = .ok (.iconst (-1), 1) := dk_2 (dk_at dksX6_orders_11 23 rfl rfl)
theorem dX6_orders_285 : decode cX6_orders 285 = .ok (.if_icmp .eq 7, 3) := dk_159 0 7 (dk_at dksX6_orders_12 0 rfl rfl)
theorem dX6_orders_288 : decode cX6_orders 288 = .ok (.iconst 1, 1) := dk_4 (dk_at dksX6_orders_12 3 rfl rfl)
theorem dX6_orders_289 : decode cX6_orders 289 = .ok (.goto 4, 3) := dk_167 0 4 (dk_at dksX6_orders_12 4 rfl rfl)
theorem dX6_orders_292 : decode cX6_orders 292 = .ok (.iconst 0, 1) := dk_3 (dk_at dksX6_orders_12 7 rfl rfl)
theorem dX6_orders_293 : decode cX6_orders 293 = .ok (.ireturn, 1) := dk_172 (dk_at dksX6_orders_12 8 rfl rfl)
abbrev cX6_lays : ByteArray := prog_11_method_58_code
def yX6_lays : MethodName := ⟨RX6, "lays", "(I)V"⟩
def dkwX6_lays_1 : List UInt8 := [28, 46, 79, 132, 2, 1, 167, 255, 228, 42, 180, 0, 31, 27, 2, 79, 177]
abbrev dktX6_lays_1 : List UInt8 := dkwX6_lays_1 ++ []
def dkwX6_lays_0 : List UInt8 := [3, 61, 28, 17, 0, 195, 162, 0, 27, 42, 180, 0, 34, 17, 0, 195, 27, 104, 28, 96, 42, 180, 0, 7]
abbrev dktX6_lays_0 : List UInt8 := dkwX6_lays_0 ++ dktX6_lays_1
theorem dksX6_lays_0 : cX6_lays.data.toList.drop 0 = dktX6_lays_0 := by decide +kernel
theorem dksX6_lays_1 : cX6_lays.data.toList.drop 24 = dktX6_lays_1 := dk_seg dksX6_lays_0 24 rfl rfl
theorem dX6_lays_0 : decode cX6_lays 0 = .ok (.iconst 0, 1) := dk_3 (dk_at dksX6_lays_0 0 rfl rfl)
theorem dX6_lays_1 : decode cX6_lays 1 = .ok (.istore_n 2, 1) := dk_61 (dk_at dksX6_lays_0 1 rfl rfl)
theorem dX6_lays_2 : decode cX6_lays 2 = .ok (.iload_n 2, 1) := dk_28 (dk_at dksX6_lays_0 2 rfl rfl)
theorem dX6_lays_3 : decode cX6_lays 3 = .ok (.sipush 195, 3) := dk_17 0 195 (dk_at dksX6_lays_0 3 rfl rfl)
theorem dX6_lays_6 : decode cX6_lays 6 = .ok (.if_icmp .ge 27, 3) := dk_162 0 27 (dk_at dksX6_lays_0 6 rfl rfl)
theorem dX6_lays_9 : decode cX6_lays 9 = .ok (.aload_n 0, 1) := dk_42 (dk_at dksX6_lays_0 9 rfl rfl)
theorem dX6_lays_10 : decode cX6_lays 10 = .ok (.getfield 34, 3) := dk_180 0 34 (dk_at dksX6_lays_0 10 rfl rfl)
theorem dX6_lays_13 : decode cX6_lays 13 = .ok (.sipush 195, 3) := dk_17 0 195 (dk_at dksX6_lays_0 13 rfl rfl)
theorem dX6_lays_16 : decode cX6_lays 16 = .ok (.iload_n 1, 1) := dk_27 (dk_at dksX6_lays_0 16 rfl rfl)
theorem dX6_lays_17 : decode cX6_lays 17 = .ok (.imul, 1) := dk_104 (dk_at dksX6_lays_0 17 rfl rfl)
theorem dX6_lays_18 : decode cX6_lays 18 = .ok (.iload_n 2, 1) := dk_28 (dk_at dksX6_lays_0 18 rfl rfl)
theorem dX6_lays_19 : decode cX6_lays 19 = .ok (.iadd, 1) := dk_96 (dk_at dksX6_lays_0 19 rfl rfl)
theorem dX6_lays_20 : decode cX6_lays 20 = .ok (.aload_n 0, 1) := dk_42 (dk_at dksX6_lays_0 20 rfl rfl)
theorem dX6_lays_21 : decode cX6_lays 21 = .ok (.getfield 7, 3) := dk_180 0 7 (dk_at dksX6_lays_0 21 rfl rfl)
theorem dX6_lays_24 : decode cX6_lays 24 = .ok (.iload_n 2, 1) := dk_28 (dk_at dksX6_lays_1 0 rfl rfl)
theorem dX6_lays_25 : decode cX6_lays 25 = .ok (.iaload, 1) := dk_46 (dk_at dksX6_lays_1 1 rfl rfl)
theorem dX6_lays_26 : decode cX6_lays 26 = .ok (.iastore, 1) := dk_79 (dk_at dksX6_lays_1 2 rfl rfl)
theorem dX6_lays_27 : decode cX6_lays 27 = .ok (.iinc 2 1, 3) := dk_132 2 1 (dk_at dksX6_lays_1 3 rfl rfl)
theorem dX6_lays_30 : decode cX6_lays 30 = .ok (.goto (-28), 3) := dk_167 255 228 (dk_at dksX6_lays_1 6 rfl rfl)
theorem dX6_lays_33 : decode cX6_lays 33 = .ok (.aload_n 0, 1) := dk_42 (dk_at dksX6_lays_1 9 rfl rfl)
theorem dX6_lays_34 : decode cX6_lays 34 = .ok (.getfield 31, 3) := dk_180 0 31 (dk_at dksX6_lays_1 10 rfl rfl)
theorem dX6_lays_37 : decode cX6_lays 37 = .ok (.iload_n 1, 1) := dk_27 (dk_at dksX6_lays_1 13 rfl rfl)
theorem dX6_lays_38 : decode cX6_lays 38 = .ok (.iconst (-1), 1) := dk_2 (dk_at dksX6_lays_1 14 rfl rfl)
theorem dX6_lays_39 : decode cX6_lays 39 = .ok (.iastore, 1) := dk_79 (dk_at dksX6_lays_1 15 rfl rfl)
theorem dX6_lays_40 : decode cX6_lays 40 = .ok (.return_, 1) := dk_177 (dk_at dksX6_lays_1 16 rfl rfl)
abbrev cX6_picks : ByteArray := prog_11_method_59_code
def yX6_picks : MethodName := ⟨RX6, "picks", "(I)V"⟩
def dkwX6_picks_1 : List UInt8 := [96, 46, 79, 132, 2, 1, 167, 255, 228, 177]
abbrev dktX6_picks_1 : List UInt8 := dkwX6_picks_1 ++ []
def dkwX6_picks_0 : List UInt8 := [3, 61, 28, 17, 0, 195, 162, 0, 27, 42, 180, 0, 7, 28, 42, 180, 0, 34, 17, 0, 195, 27, 104, 28]
abbrev dktX6_picks_0 : List UInt8 := dkwX6_picks_0 ++ dktX6_picks_1
theorem dksX6_picks_0 : cX6_picks.data.toList.drop 0 = dktX6_picks_0 := by decide +kernel
theorem dksX6_picks_1 : cX6_picks.data.toList.drop 24 = dktX6_picks_1 := dk_seg dksX6_picks_0 24 rfl rfl
theorem dX6_picks_0 : decode cX6_picks 0 = .ok (.iconst 0, 1) := dk_3 (dk_at dksX6_picks_0 0 rfl rfl)
theorem dX6_picks_1 : decode cX6_picks 1 = .ok (.istore_n 2, 1) := dk_61 (dk_at dksX6_picks_0 1 rfl rfl)
theorem dX6_picks_2 : decode cX6_picks 2 = .ok (.iload_n 2, 1) := dk_28 (dk_at dksX6_picks_0 2 rfl rfl)
theorem dX6_picks_3 : decode cX6_picks 3 = .ok (.sipush 195, 3) := dk_17 0 195 (dk_at dksX6_picks_0 3 rfl rfl)
theorem dX6_picks_6 : decode cX6_picks 6 = .ok (.if_icmp .ge 27, 3) := dk_162 0 27 (dk_at dksX6_picks_0 6 rfl rfl)
theorem dX6_picks_9 : decode cX6_picks 9 = .ok (.aload_n 0, 1) := dk_42 (dk_at dksX6_picks_0 9 rfl rfl)
theorem dX6_picks_10 : decode cX6_picks 10 = .ok (.getfield 7, 3) := dk_180 0 7 (dk_at dksX6_picks_0 10 rfl rfl)
theorem dX6_picks_13 : decode cX6_picks 13 = .ok (.iload_n 2, 1) := dk_28 (dk_at dksX6_picks_0 13 rfl rfl)
theorem dX6_picks_14 : decode cX6_picks 14 = .ok (.aload_n 0, 1) := dk_42 (dk_at dksX6_picks_0 14 rfl rfl)
theorem dX6_picks_15 : decode cX6_picks 15 = .ok (.getfield 34, 3) := dk_180 0 34 (dk_at dksX6_picks_0 15 rfl rfl)
theorem dX6_picks_18 : decode cX6_picks 18 = .ok (.sipush 195, 3) := dk_17 0 195 (dk_at dksX6_picks_0 18 rfl rfl)
theorem dX6_picks_21 : decode cX6_picks 21 = .ok (.iload_n 1, 1) := dk_27 (dk_at dksX6_picks_0 21 rfl rfl)
theorem dX6_picks_22 : decode cX6_picks 22 = .ok (.imul, 1) := dk_104 (dk_at dksX6_picks_0 22 rfl rfl)
theorem dX6_picks_23 : decode cX6_picks 23 = .ok (.iload_n 2, 1) := dk_28 (dk_at dksX6_picks_0 23 rfl rfl)
theorem dX6_picks_24 : decode cX6_picks 24 = .ok (.iadd, 1) := dk_96 (dk_at dksX6_picks_1 0 rfl rfl)
theorem dX6_picks_25 : decode cX6_picks 25 = .ok (.iaload, 1) := dk_46 (dk_at dksX6_picks_1 1 rfl rfl)
theorem dX6_picks_26 : decode cX6_picks 26 = .ok (.iastore, 1) := dk_79 (dk_at dksX6_picks_1 2 rfl rfl)
theorem dX6_picks_27 : decode cX6_picks 27 = .ok (.iinc 2 1, 3) := dk_132 2 1 (dk_at dksX6_picks_1 3 rfl rfl)
theorem dX6_picks_30 : decode cX6_picks 30 = .ok (.goto (-28), 3) := dk_167 255 228 (dk_at dksX6_picks_1 6 rfl rfl)
theorem dX6_picks_33 : decode cX6_picks 33 = .ok (.return_, 1) := dk_177 (dk_at dksX6_picks_1 9 rfl rfl)
abbrev cX6_isUsed : ByteArray := prog_11_method_60_code
def yX6_isUsed : MethodName := ⟨RX6, "isUsed", "(I)Z"⟩
def dkwX6_isUsed_1 : List UInt8 := [46, 160, 0, 7, 4, 167, 0, 4, 3, 61, 132, 3, 1, 167, 255, 223, 28, 172]
abbrev dktX6_isUsed_1 : List UInt8 := dkwX6_isUsed_1 ++ []
def dkwX6_isUsed_0 : List UInt8 := [3, 61, 3, 62, 29, 27, 162, 0, 34, 28, 154, 0, 18, 42, 180, 0, 31, 29, 46, 42, 180, 0, 31, 27]
abbrev dktX6_isUsed_0 : List UInt8 := dkwX6_isUsed_0 ++ dktX6_isUsed_1
theorem dksX6_isUsed_0 : cX6_isUsed.data.toList.drop 0 = dktX6_isUsed_0 := by decide +kernel
theorem dksX6_isUsed_1 : cX6_isUsed.data.toList.drop 24 = dktX6_isUsed_1 := dk_seg dksX6_isUsed_0 24 rfl rfl
theorem dX6_isUsed_0 : decode cX6_isUsed 0 = .ok (.iconst 0, 1) := dk_3 (dk_at dksX6_isUsed_0 0 rfl rfl)
theorem dX6_isUsed_1 : decode cX6_isUsed 1 = .ok (.istore_n 2, 1) := dk_61 (dk_at dksX6_isUsed_0 1 rfl rfl)
theorem dX6_isUsed_2 : decode cX6_isUsed 2 = .ok (.iconst 0, 1) := dk_3 (dk_at dksX6_isUsed_0 2 rfl rfl)
theorem dX6_isUsed_3 : decode cX6_isUsed 3 = .ok (.istore_n 3, 1) := dk_62 (dk_at dksX6_isUsed_0 3 rfl rfl)
theorem dX6_isUsed_4 : decode cX6_isUsed 4 = .ok (.iload_n 3, 1) := dk_29 (dk_at dksX6_isUsed_0 4 rfl rfl)
theorem dX6_isUsed_5 : decode cX6_isUsed 5 = .ok (.iload_n 1, 1) := dk_27 (dk_at dksX6_isUsed_0 5 rfl rfl)
theorem dX6_isUsed_6 : decode cX6_isUsed 6 = .ok (.if_icmp .ge 34, 3) := dk_162 0 34 (dk_at dksX6_isUsed_0 6 rfl rfl)
theorem dX6_isUsed_9 : decode cX6_isUsed 9 = .ok (.iload_n 2, 1) := dk_28 (dk_at dksX6_isUsed_0 9 rfl rfl)
theorem dX6_isUsed_10 : decode cX6_isUsed 10 = .ok (.ifCond .ne 18, 3) := dk_154 0 18 (dk_at dksX6_isUsed_0 10 rfl rfl)
theorem dX6_isUsed_13 : decode cX6_isUsed 13 = .ok (.aload_n 0, 1) := dk_42 (dk_at dksX6_isUsed_0 13 rfl rfl)
theorem dX6_isUsed_14 : decode cX6_isUsed 14 = .ok (.getfield 31, 3) := dk_180 0 31 (dk_at dksX6_isUsed_0 14 rfl rfl)
theorem dX6_isUsed_17 : decode cX6_isUsed 17 = .ok (.iload_n 3, 1) := dk_29 (dk_at dksX6_isUsed_0 17 rfl rfl)
theorem dX6_isUsed_18 : decode cX6_isUsed 18 = .ok (.iaload, 1) := dk_46 (dk_at dksX6_isUsed_0 18 rfl rfl)
theorem dX6_isUsed_19 : decode cX6_isUsed 19 = .ok (.aload_n 0, 1) := dk_42 (dk_at dksX6_isUsed_0 19 rfl rfl)
theorem dX6_isUsed_20 : decode cX6_isUsed 20 = .ok (.getfield 31, 3) := dk_180 0 31 (dk_at dksX6_isUsed_0 20 rfl rfl)
theorem dX6_isUsed_23 : decode cX6_isUsed 23 = .ok (.iload_n 1, 1) := dk_27 (dk_at dksX6_isUsed_0 23 rfl rfl)
theorem dX6_isUsed_24 : decode cX6_isUsed 24 = .ok (.iaload, 1) := dk_46 (dk_at dksX6_isUsed_1 0 rfl rfl)
theorem dX6_isUsed_25 : decode cX6_isUsed 25 = .ok (.if_icmp .ne 7, 3) := dk_160 0 7 (dk_at dksX6_isUsed_1 1 rfl rfl)
theorem dX6_isUsed_28 : decode cX6_isUsed 28 = .ok (.iconst 1, 1) := dk_4 (dk_at dksX6_isUsed_1 4 rfl rfl)
theorem dX6_isUsed_29 : decode cX6_isUsed 29 = .ok (.goto 4, 3) := dk_167 0 4 (dk_at dksX6_isUsed_1 5 rfl rfl)
theorem dX6_isUsed_32 : decode cX6_isUsed 32 = .ok (.iconst 0, 1) := dk_3 (dk_at dksX6_isUsed_1 8 rfl rfl)
theorem dX6_isUsed_33 : decode cX6_isUsed 33 = .ok (.istore_n 2, 1) := dk_61 (dk_at dksX6_isUsed_1 9 rfl rfl)
theorem dX6_isUsed_34 : decode cX6_isUsed 34 = .ok (.iinc 3 1, 3) := dk_132 3 1 (dk_at dksX6_isUsed_1 10 rfl rfl)
theorem dX6_isUsed_37 : decode cX6_isUsed 37 = .ok (.goto (-33), 3) := dk_167 255 223 (dk_at dksX6_isUsed_1 13 rfl rfl)
theorem dX6_isUsed_40 : decode cX6_isUsed 40 = .ok (.iload_n 2, 1) := dk_28 (dk_at dksX6_isUsed_1 16 rfl rfl)
theorem dX6_isUsed_41 : decode cX6_isUsed 41 = .ok (.ireturn, 1) := dk_172 (dk_at dksX6_isUsed_1 17 rfl rfl)
abbrev cX6_leastCleanings : ByteArray := prog_11_method_63_code
def yX6_leastCleanings : MethodName := ⟨RX6, "leastCleanings", "()I"⟩
def dkwX6_leastCleanings_0 : List UInt8 := [42, 3, 181, 0, 43, 42, 182, 0, 188, 153, 0, 10, 42, 180, 0, 176, 167, 0, 4, 2, 172]
abbrev dktX6_leastCleanings_0 : List UInt8 := dkwX6_leastCleanings_0 ++ []
theorem dksX6_leastCleanings_0 : cX6_leastCleanings.data.toList.drop 0 = dktX6_leastCleanings_0 := by decide +kernel
theorem dX6_leastCleanings_0 : decode cX6_leastCleanings 0 = .ok (.aload_n 0, 1) := dk_42 (dk_at dksX6_leastCleanings_0 0 rfl rfl)
theorem dX6_leastCleanings_1 : decode cX6_leastCleanings 1 = .ok (.iconst 0, 1) := dk_3 (dk_at dksX6_leastCleanings_0 1 rfl rfl)
theorem dX6_leastCleanings_2 : decode cX6_leastCleanings 2 = .ok (.putfield 43, 3) := dk_181 0 43 (dk_at dksX6_leastCleanings_0 2 rfl rfl)
theorem dX6_leastCleanings_5 : decode cX6_leastCleanings 5 = .ok (.aload_n 0, 1) := dk_42 (dk_at dksX6_leastCleanings_0 5 rfl rfl)
theorem dX6_leastCleanings_6 : decode cX6_leastCleanings 6 = .ok (.invokevirtual 188, 3) := dk_182 0 188 (dk_at dksX6_leastCleanings_0 6 rfl rfl)
theorem dX6_leastCleanings_9 : decode cX6_leastCleanings 9 = .ok (.ifCond .eq 10, 3) := dk_153 0 10 (dk_at dksX6_leastCleanings_0 9 rfl rfl)
theorem dX6_leastCleanings_12 : decode cX6_leastCleanings 12 = .ok (.aload_n 0, 1) := dk_42 (dk_at dksX6_leastCleanings_0 12 rfl rfl)
theorem dX6_leastCleanings_13 : decode cX6_leastCleanings 13 = .ok (.getfield 176, 3) := dk_180 0 176 (dk_at dksX6_leastCleanings_0 13 rfl rfl)
theorem dX6_leastCleanings_16 : decode cX6_leastCleanings 16 = .ok (.goto 4, 3) := dk_167 0 4 (dk_at dksX6_leastCleanings_0 16 rfl rfl)
theorem dX6_leastCleanings_19 : decode cX6_leastCleanings 19 = .ok (.iconst (-1), 1) := dk_2 (dk_at dksX6_leastCleanings_0 19 rfl rfl)
theorem dX6_leastCleanings_20 : decode cX6_leastCleanings 20 = .ok (.ireturn, 1) := dk_172 (dk_at dksX6_leastCleanings_0 20 rfl rfl)
abbrev cX6_bestCut : ByteArray := prog_11_method_66_code
def yX6_bestCut : MethodName := ⟨RX6, "bestCut", "(II)I"⟩
def dkwX6_bestCut_1 : List UInt8 := [182, 0, 50, 153, 0, 7, 3, 167, 0, 9, 42, 27, 28, 182, 0, 194, 172]
abbrev dktX6_bestCut_1 : List UInt8 := dkwX6_bestCut_1 ++ []
def dkwX6_bestCut_0 : List UInt8 := [42, 27, 3, 6, 184, 0, 54, 153, 0, 16, 28, 4, 8, 184, 0, 54, 153, 0, 7, 3, 167, 0, 4, 4]
abbrev dktX6_bestCut_0 : List UInt8 := dkwX6_bestCut_0 ++ dktX6_bestCut_1
theorem dksX6_bestCut_0 : cX6_bestCut.data.toList.drop 0 = dktX6_bestCut_0 := by decide +kernel
theorem dksX6_bestCut_1 : cX6_bestCut.data.toList.drop 24 = dktX6_bestCut_1 := dk_seg dksX6_bestCut_0 24 rfl rfl
theorem dX6_bestCut_0 : decode cX6_bestCut 0 = .ok (.aload_n 0, 1) := dk_42 (dk_at dksX6_bestCut_0 0 rfl rfl)
theorem dX6_bestCut_1 : decode cX6_bestCut 1 = .ok (.iload_n 1, 1) := dk_27 (dk_at dksX6_bestCut_0 1 rfl rfl)
theorem dX6_bestCut_2 : decode cX6_bestCut 2 = .ok (.iconst 0, 1) := dk_3 (dk_at dksX6_bestCut_0 2 rfl rfl)
theorem dX6_bestCut_3 : decode cX6_bestCut 3 = .ok (.iconst 3, 1) := dk_6 (dk_at dksX6_bestCut_0 3 rfl rfl)
theorem dX6_bestCut_4 : decode cX6_bestCut 4 = .ok (.invokestatic 54, 3) := dk_184 0 54 (dk_at dksX6_bestCut_0 4 rfl rfl)
theorem dX6_bestCut_7 : decode cX6_bestCut 7 = .ok (.ifCond .eq 16, 3) := dk_153 0 16 (dk_at dksX6_bestCut_0 7 rfl rfl)
theorem dX6_bestCut_10 : decode cX6_bestCut 10 = .ok (.iload_n 2, 1) := dk_28 (dk_at dksX6_bestCut_0 10 rfl rfl)
theorem dX6_bestCut_11 : decode cX6_bestCut 11 = .ok (.iconst 1, 1) := dk_4 (dk_at dksX6_bestCut_0 11 rfl rfl)
theorem dX6_bestCut_12 : decode cX6_bestCut 12 = .ok (.iconst 5, 1) := dk_8 (dk_at dksX6_bestCut_0 12 rfl rfl)
theorem dX6_bestCut_13 : decode cX6_bestCut 13 = .ok (.invokestatic 54, 3) := dk_184 0 54 (dk_at dksX6_bestCut_0 13 rfl rfl)
theorem dX6_bestCut_16 : decode cX6_bestCut 16 = .ok (.ifCond .eq 7, 3) := dk_153 0 7 (dk_at dksX6_bestCut_0 16 rfl rfl)
theorem dX6_bestCut_19 : decode cX6_bestCut 19 = .ok (.iconst 0, 1) := dk_3 (dk_at dksX6_bestCut_0 19 rfl rfl)
theorem dX6_bestCut_20 : decode cX6_bestCut 20 = .ok (.goto 4, 3) := dk_167 0 4 (dk_at dksX6_bestCut_0 20 rfl rfl)
theorem dX6_bestCut_23 : decode cX6_bestCut 23 = .ok (.iconst 1, 1) := dk_4 (dk_at dksX6_bestCut_0 23 rfl rfl)
theorem dX6_bestCut_24 : decode cX6_bestCut 24 = .ok (.invokevirtual 50, 3) := dk_182 0 50 (dk_at dksX6_bestCut_1 0 rfl rfl)
theorem dX6_bestCut_27 : decode cX6_bestCut 27 = .ok (.ifCond .eq 7, 3) := dk_153 0 7 (dk_at dksX6_bestCut_1 3 rfl rfl)
theorem dX6_bestCut_30 : decode cX6_bestCut 30 = .ok (.iconst 0, 1) := dk_3 (dk_at dksX6_bestCut_1 6 rfl rfl)
theorem dX6_bestCut_31 : decode cX6_bestCut 31 = .ok (.goto 9, 3) := dk_167 0 9 (dk_at dksX6_bestCut_1 7 rfl rfl)
theorem dX6_bestCut_34 : decode cX6_bestCut 34 = .ok (.aload_n 0, 1) := dk_42 (dk_at dksX6_bestCut_1 10 rfl rfl)
theorem dX6_bestCut_35 : decode cX6_bestCut 35 = .ok (.iload_n 1, 1) := dk_27 (dk_at dksX6_bestCut_1 11 rfl rfl)
theorem dX6_bestCut_36 : decode cX6_bestCut 36 = .ok (.iload_n 2, 1) := dk_28 (dk_at dksX6_bestCut_1 12 rfl rfl)
theorem dX6_bestCut_37 : decode cX6_bestCut 37 = .ok (.invokevirtual 194, 3) := dk_182 0 194 (dk_at dksX6_bestCut_1 13 rfl rfl)
theorem dX6_bestCut_40 : decode cX6_bestCut 40 = .ok (.ireturn, 1) := dk_172 (dk_at dksX6_bestCut_1 16 rfl rfl)
abbrev cX6_part : ByteArray := prog_11_method_65_code
def yX6_part : MethodName := ⟨RX6, "part", "(II)I"⟩
def dkwX6_part_7 : List UInt8 := [132, 5, 1, 167, 255, 143, 132, 4, 1, 167, 255, 123, 42, 180, 0, 40, 27, 46, 172]
abbrev dktX6_part_7 : List UInt8 := dkwX6_part_7 ++ []
def dkwX6_part_6 : List UInt8 := [42, 180, 0, 40, 5, 21, 6, 79, 42, 180, 0, 40, 6, 21, 8, 79, 132, 6, 1, 167, 255, 167]
abbrev dktX6_part_6 : List UInt8 := dkwX6_part_6 ++ dktX6_part_7
def dkwX6_part_5 : List UInt8 := [180, 0, 40, 6, 46, 164, 0, 35, 42, 180, 0, 40, 3, 21, 4, 79, 42, 180, 0, 40, 4, 21, 5, 79]
abbrev dktX6_part_5 : List UInt8 := dkwX6_part_5 ++ dktX6_part_6
def dkwX6_part_4 : List UInt8 := [21, 5, 21, 6, 182, 0, 111, 54, 7, 29, 42, 182, 0, 191, 100, 54, 8, 42, 182, 0, 99, 21, 8, 42]
abbrev dktX6_part_4 : List UInt8 := dkwX6_part_4 ++ dktX6_part_5
def dkwX6_part_3 : List UInt8 := [54, 6, 21, 6, 28, 163, 0, 89, 42, 21, 4, 21, 5, 21, 6, 182, 0, 108, 153, 0, 76, 42, 21, 4]
abbrev dktX6_part_3 : List UInt8 := dkwX6_part_3 ++ dktX6_part_4
def dkwX6_part_2 : List UInt8 := [4, 46, 162, 0, 128, 3, 54, 5, 21, 5, 42, 180, 0, 7, 21, 4, 184, 0, 89, 46, 162, 0, 104, 4]
abbrev dktX6_part_2 : List UInt8 := dkwX6_part_2 ++ dktX6_part_3
def dkwX6_part_1 : List UInt8 := [182, 0, 92, 42, 182, 0, 191, 62, 42, 180, 0, 40, 6, 2, 79, 3, 54, 4, 21, 4, 42, 180, 0, 7]
abbrev dktX6_part_1 : List UInt8 := dkwX6_part_1 ++ dktX6_part_2
def dkwX6_part_0 : List UInt8 := [42, 180, 0, 7, 4, 46, 153, 0, 14, 42, 180, 0, 7, 3, 46, 16, 10, 160, 0, 5, 2, 172, 42]
abbrev dktX6_part_0 : List UInt8 := dkwX6_part_0 ++ dktX6_part_1
theorem dksX6_part_0 : cX6_part.data.toList.drop 0 = dktX6_part_0 := by decide +kernel
theorem dksX6_part_1 : cX6_part.data.toList.drop 23 = dktX6_part_1 := dk_seg dksX6_part_0 23 rfl rfl
theorem dksX6_part_2 : cX6_part.data.toList.drop 47 = dktX6_part_2 := dk_seg dksX6_part_1 24 rfl rfl
theorem dksX6_part_3 : cX6_part.data.toList.drop 71 = dktX6_part_3 := dk_seg dksX6_part_2 24 rfl rfl
theorem dksX6_part_4 : cX6_part.data.toList.drop 95 = dktX6_part_4 := dk_seg dksX6_part_3 24 rfl rfl
theorem dksX6_part_5 : cX6_part.data.toList.drop 119 = dktX6_part_5 := dk_seg dksX6_part_4 24 rfl rfl
theorem dksX6_part_6 : cX6_part.data.toList.drop 143 = dktX6_part_6 := dk_seg dksX6_part_5 24 rfl rfl
theorem dksX6_part_7 : cX6_part.data.toList.drop 165 = dktX6_part_7 := dk_seg dksX6_part_6 22 rfl rfl
theorem dX6_part_0 : decode cX6_part 0 = .ok (.aload_n 0, 1) := dk_42 (dk_at dksX6_part_0 0 rfl rfl)
theorem dX6_part_1 : decode cX6_part 1 = .ok (.getfield 7, 3) := dk_180 0 7 (dk_at dksX6_part_0 1 rfl rfl)
theorem dX6_part_4 : decode cX6_part 4 = .ok (.iconst 1, 1) := dk_4 (dk_at dksX6_part_0 4 rfl rfl)
theorem dX6_part_5 : decode cX6_part 5 = .ok (.iaload, 1) := dk_46 (dk_at dksX6_part_0 5 rfl rfl)
theorem dX6_part_6 : decode cX6_part 6 = .ok (.ifCond .eq 14, 3) := dk_153 0 14 (dk_at dksX6_part_0 6 rfl rfl)
theorem dX6_part_9 : decode cX6_part 9 = .ok (.aload_n 0, 1) := dk_42 (dk_at dksX6_part_0 9 rfl rfl)
theorem dX6_part_10 : decode cX6_part 10 = .ok (.getfield 7, 3) := dk_180 0 7 (dk_at dksX6_part_0 10 rfl rfl)
theorem dX6_part_13 : decode cX6_part 13 = .ok (.iconst 0, 1) := dk_3 (dk_at dksX6_part_0 13 rfl rfl)
theorem dX6_part_14 : decode cX6_part 14 = .ok (.iaload, 1) := dk_46 (dk_at dksX6_part_0 14 rfl rfl)
theorem dX6_part_15 : decode cX6_part 15 = .ok (.bipush 10, 2) := dk_16 10 (dk_at dksX6_part_0 15 rfl rfl)
theorem dX6_part_17 : decode cX6_part 17 = .ok (.if_icmp .ne 5, 3) := dk_160 0 5 (dk_at dksX6_part_0 17 rfl rfl)
theorem dX6_part_20 : decode cX6_part 20 = .ok (.iconst (-1), 1) := dk_2 (dk_at dksX6_part_0 20 rfl rfl)
theorem dX6_part_21 : decode cX6_part 21 = .ok (.ireturn, 1) := dk_172 (dk_at dksX6_part_0 21 rfl rfl)
theorem dX6_part_22 : decode cX6_part 22 = .ok (.aload_n 0, 1) := dk_42 (dk_at dksX6_part_0 22 rfl rfl)
theorem dX6_part_23 : decode cX6_part 23 = .ok (.invokevirtual 92, 3) := dk_182 0 92 (dk_at dksX6_part_1 0 rfl rfl)
theorem dX6_part_26 : decode cX6_part 26 = .ok (.aload_n 0, 1) := dk_42 (dk_at dksX6_part_1 3 rfl rfl)
theorem dX6_part_27 : decode cX6_part 27 = .ok (.invokevirtual 191, 3) := dk_182 0 191 (dk_at dksX6_part_1 4 rfl rfl)
theorem dX6_part_30 : decode cX6_part 30 = .ok (.istore_n 3, 1) := dk_62 (dk_at dksX6_part_1 7 rfl rfl)
theorem dX6_part_31 : decode cX6_part 31 = .ok (.aload_n 0, 1) := dk_42 (dk_at dksX6_part_1 8 rfl rfl)
theorem dX6_part_32 : decode cX6_part 32 = .ok (.getfield 40, 3) := dk_180 0 40 (dk_at dksX6_part_1 9 rfl rfl)
theorem dX6_part_35 : decode cX6_part 35 = .ok (.iconst 3, 1) := dk_6 (dk_at dksX6_part_1 12 rfl rfl)
theorem dX6_part_36 : decode cX6_part 36 = .ok (.iconst (-1), 1) := dk_2 (dk_at dksX6_part_1 13 rfl rfl)
theorem dX6_part_37 : decode cX6_part 37 = .ok (.iastore, 1) := dk_79 (dk_at dksX6_part_1 14 rfl rfl)
theorem dX6_part_38 : decode cX6_part 38 = .ok (.iconst 0, 1) := dk_3 (dk_at dksX6_part_1 15 rfl rfl)
theorem dX6_part_39 : decode cX6_part 39 = .ok (.istore 4, 2) := dk_54 4 (dk_at dksX6_part_1 16 rfl rfl)
theorem dX6_part_41 : decode cX6_part 41 = .ok (.iload 4, 2) := dk_21 4 (dk_at dksX6_part_1 18 rfl rfl)
theorem dX6_part_43 : decode cX6_part 43 = .ok (.aload_n 0, 1) := dk_42 (dk_at dksX6_part_1 20 rfl rfl)
theorem dX6_part_44 : decode cX6_part 44 = .ok (.getfield 7, 3) := dk_180 0 7 (dk_at dksX6_part_1 21 rfl rfl)
theorem dX6_part_47 : decode cX6_part 47 = .ok (.iconst 1, 1) := dk_4 (dk_at dksX6_part_2 0 rfl rfl)
theorem dX6_part_48 : decode cX6_part 48 = .ok (.iaload, 1) := dk_46 (dk_at dksX6_part_2 1 rfl rfl)
theorem dX6_part_49 : decode cX6_part 49 = .ok (.if_icmp .ge 128, 3) := dk_162 0 128 (dk_at dksX6_part_2 2 rfl rfl)
theorem dX6_part_52 : decode cX6_part 52 = .ok (.iconst 0, 1) := dk_3 (dk_at dksX6_part_2 5 rfl rfl)
theorem dX6_part_53 : decode cX6_part 53 = .ok (.istore 5, 2) := dk_54 5 (dk_at dksX6_part_2 6 rfl rfl)
theorem dX6_part_55 : decode cX6_part 55 = .ok (.iload 5, 2) := dk_21 5 (dk_at dksX6_part_2 8 rfl rfl)
theorem dX6_part_57 : decode cX6_part 57 = .ok (.aload_n 0, 1) := dk_42 (dk_at dksX6_part_2 10 rfl rfl)
theorem dX6_part_58 : decode cX6_part 58 = .ok (.getfield 7, 3) := dk_180 0 7 (dk_at dksX6_part_2 11 rfl rfl)
theorem dX6_part_61 : decode cX6_part 61 = .ok (.iload 4, 2) := dk_21 4 (dk_at dksX6_part_2 14 rfl rfl)
theorem dX6_part_63 : decode cX6_part 63 = .ok (.invokestatic 89, 3) := dk_184 0 89 (dk_at dksX6_part_2 16 rfl rfl)
theorem dX6_part_66 : decode cX6_part 66 = .ok (.iaload, 1) := dk_46 (dk_at dksX6_part_2 19 rfl rfl)
theorem dX6_part_67 : decode cX6_part 67 = .ok (.if_icmp .ge 104, 3) := dk_162 0 104 (dk_at dksX6_part_2 20 rfl rfl)
theorem dX6_part_70 : decode cX6_part 70 = .ok (.iconst 1, 1) := dk_4 (dk_at dksX6_part_2 23 rfl rfl)
theorem dX6_part_71 : decode cX6_part 71 = .ok (.istore 6, 2) := dk_54 6 (dk_at dksX6_part_3 0 rfl rfl)
theorem dX6_part_73 : decode cX6_part 73 = .ok (.iload 6, 2) := dk_21 6 (dk_at dksX6_part_3 2 rfl rfl)
theorem dX6_part_75 : decode cX6_part 75 = .ok (.iload_n 2, 1) := dk_28 (dk_at dksX6_part_3 4 rfl rfl)
theorem dX6_part_76 : decode cX6_part 76 = .ok (.if_icmp .gt 89, 3) := dk_163 0 89 (dk_at dksX6_part_3 5 rfl rfl)
theorem dX6_part_79 : decode cX6_part 79 = .ok (.aload_n 0, 1) := dk_42 (dk_at dksX6_part_3 8 rfl rfl)
theorem dX6_part_80 : decode cX6_part 80 = .ok (.iload 4, 2) := dk_21 4 (dk_at dksX6_part_3 9 rfl rfl)
theorem dX6_part_82 : decode cX6_part 82 = .ok (.iload 5, 2) := dk_21 5 (dk_at dksX6_part_3 11 rfl rfl)
theorem dX6_part_84 : decode cX6_part 84 = .ok (.iload 6, 2) := dk_21 6 (dk_at dksX6_part_3 13 rfl rfl)
theorem dX6_part_86 : decode cX6_part 86 = .ok (.invokevirtual 108, 3) := dk_182 0 108 (dk_at dksX6_part_3 15 rfl rfl)
theorem dX6_part_89 : decode cX6_part 89 = .ok (.ifCond .eq 76, 3) := dk_153 0 76 (dk_at dksX6_part_3 18 rfl rfl)
theorem dX6_part_92 : decode cX6_part 92 = .ok (.aload_n 0, 1) := dk_42 (dk_at dksX6_part_3 21 rfl rfl)
theorem dX6_part_93 : decode cX6_part 93 = .ok (.iload 4, 2) := dk_21 4 (dk_at dksX6_part_3 22 rfl rfl)
theorem dX6_part_95 : decode cX6_part 95 = .ok (.iload 5, 2) := dk_21 5 (dk_at dksX6_part_4 0 rfl rfl)
theorem dX6_part_97 : decode cX6_part 97 = .ok (.iload 6, 2) := dk_21 6 (dk_at dksX6_part_4 2 rfl rfl)
theorem dX6_part_99 : decode cX6_part 99 = .ok (.invokevirtual 111, 3) := dk_182 0 111 (dk_at dksX6_part_4 4 rfl rfl)
theorem dX6_part_102 : decode cX6_part 102 = .ok (.istore 7, 2) := dk_54 7 (dk_at dksX6_part_4 7 rfl rfl)
theorem dX6_part_104 : decode cX6_part 104 = .ok (.iload_n 3, 1) := dk_29 (dk_at dksX6_part_4 9 rfl rfl)
theorem dX6_part_105 : decode cX6_part 105 = .ok (.aload_n 0, 1) := dk_42 (dk_at dksX6_part_4 10 rfl rfl)
theorem dX6_part_106 : decode cX6_part 106 = .ok (.invokevirtual 191, 3) := dk_182 0 191 (dk_at dksX6_part_4 11 rfl rfl)
theorem dX6_part_109 : decode cX6_part 109 = .ok (.isub, 1) := dk_100 (dk_at dksX6_part_4 14 rfl rfl)
theorem dX6_part_110 : decode cX6_part 110 = .ok (.istore 8, 2) := dk_54 8 (dk_at dksX6_part_4 15 rfl rfl)
theorem dX6_part_112 : decode cX6_part 112 = .ok (.aload_n 0, 1) := dk_42 (dk_at dksX6_part_4 17 rfl rfl)
theorem dX6_part_113 : decode cX6_part 113 = .ok (.invokevirtual 99, 3) := dk_182 0 99 (dk_at dksX6_part_4 18 rfl rfl)
theorem dX6_part_116 : decode cX6_part 116 = .ok (.iload 8, 2) := dk_21 8 (dk_at dksX6_part_4 21 rfl rfl)
theorem dX6_part_118 : decode cX6_part 118 = .ok (.aload_n 0, 1) := dk_42 (dk_at dksX6_part_4 23 rfl rfl)
theorem dX6_part_119 : decode cX6_part 119 = .ok (.getfield 40, 3) := dk_180 0 40 (dk_at dksX6_part_5 0 rfl rfl)
theorem dX6_part_122 : decode cX6_part 122 = .ok (.iconst 3, 1) := dk_6 (dk_at dksX6_part_5 3 rfl rfl)
theorem dX6_part_123 : decode cX6_part 123 = .ok (.iaload, 1) := dk_46 (dk_at dksX6_part_5 4 rfl rfl)
theorem dX6_part_124 : decode cX6_part 124 = .ok (.if_icmp .le 35, 3) := dk_164 0 35 (dk_at dksX6_part_5 5 rfl rfl)
theorem dX6_part_127 : decode cX6_part 127 = .ok (.aload_n 0, 1) := dk_42 (dk_at dksX6_part_5 8 rfl rfl)
theorem dX6_part_128 : decode cX6_part 128 = .ok (.getfield 40, 3) := dk_180 0 40 (dk_at dksX6_part_5 9 rfl rfl)
theorem dX6_part_131 : decode cX6_part 131 = .ok (.iconst 0, 1) := dk_3 (dk_at dksX6_part_5 12 rfl rfl)
theorem dX6_part_132 : decode cX6_part 132 = .ok (.iload 4, 2) := dk_21 4 (dk_at dksX6_part_5 13 rfl rfl)
theorem dX6_part_134 : decode cX6_part 134 = .ok (.iastore, 1) := dk_79 (dk_at dksX6_part_5 15 rfl rfl)
theorem dX6_part_135 : decode cX6_part 135 = .ok (.aload_n 0, 1) := dk_42 (dk_at dksX6_part_5 16 rfl rfl)
theorem dX6_part_136 : decode cX6_part 136 = .ok (.getfield 40, 3) := dk_180 0 40 (dk_at dksX6_part_5 17 rfl rfl)
theorem dX6_part_139 : decode cX6_part 139 = .ok (.iconst 1, 1) := dk_4 (dk_at dksX6_part_5 20 rfl rfl)
theorem dX6_part_140 : decode cX6_part 140 = .ok (.iload 5, 2) := dk_21 5 (dk_at dksX6_part_5 21 rfl rfl)
theorem dX6_part_142 : decode cX6_part 142 = .ok (.iastore, 1) := dk_79 (dk_at dksX6_part_5 23 rfl rfl)
theorem dX6_part_143 : decode cX6_part 143 = .ok (.aload_n 0, 1) := dk_42 (dk_at dksX6_part_6 0 rfl rfl)
theorem dX6_part_144 : decode cX6_part 144 = .ok (.getfield 40, 3) := dk_180 0 40 (dk_at dksX6_part_6 1 rfl rfl)
theorem dX6_part_147 : decode cX6_part 147 = .ok (.iconst 2, 1) := dk_5 (dk_at dksX6_part_6 4 rfl rfl)
theorem dX6_part_148 : decode cX6_part 148 = .ok (.iload 6, 2) := dk_21 6 (dk_at dksX6_part_6 5 rfl rfl)
theorem dX6_part_150 : decode cX6_part 150 = .ok (.iastore, 1) := dk_79 (dk_at dksX6_part_6 7 rfl rfl)
theorem dX6_part_151 : decode cX6_part 151 = .ok (.aload_n 0, 1) := dk_42 (dk_at dksX6_part_6 8 rfl rfl)
theorem dX6_part_152 : decode cX6_part 152 = .ok (.getfield 40, 3) := dk_180 0 40 (dk_at dksX6_part_6 9 rfl rfl)
theorem dX6_part_155 : decode cX6_part 155 = .ok (.iconst 3, 1) := dk_6 (dk_at dksX6_part_6 12 rfl rfl)
theorem dX6_part_156 : decode cX6_part 156 = .ok (.iload 8, 2) := dk_21 8 (dk_at dksX6_part_6 13 rfl rfl)
theorem dX6_part_158 : decode cX6_part 158 = .ok (.iastore, 1) := dk_79 (dk_at dksX6_part_6 15 rfl rfl)
theorem dX6_part_159 : decode cX6_part 159 = .ok (.iinc 6 1, 3) := dk_132 6 1 (dk_at dksX6_part_6 16 rfl rfl)
theorem dX6_part_162 : decode cX6_part 162 = .ok (.goto (-89), 3) := dk_167 255 167 (dk_at dksX6_part_6 19 rfl rfl)
theorem dX6_part_165 : decode cX6_part 165 = .ok (.iinc 5 1, 3) := dk_132 5 1 (dk_at dksX6_part_7 0 rfl rfl)
theorem dX6_part_168 : decode cX6_part 168 = .ok (.goto (-113), 3) := dk_167 255 143 (dk_at dksX6_part_7 3 rfl rfl)
theorem dX6_part_171 : decode cX6_part 171 = .ok (.iinc 4 1, 3) := dk_132 4 1 (dk_at dksX6_part_7 6 rfl rfl)
theorem dX6_part_174 : decode cX6_part 174 = .ok (.goto (-133), 3) := dk_167 255 123 (dk_at dksX6_part_7 9 rfl rfl)
theorem dX6_part_177 : decode cX6_part 177 = .ok (.aload_n 0, 1) := dk_42 (dk_at dksX6_part_7 12 rfl rfl)
theorem dX6_part_178 : decode cX6_part 178 = .ok (.getfield 40, 3) := dk_180 0 40 (dk_at dksX6_part_7 13 rfl rfl)
theorem dX6_part_181 : decode cX6_part 181 = .ok (.iload_n 1, 1) := dk_27 (dk_at dksX6_part_7 16 rfl rfl)
theorem dX6_part_182 : decode cX6_part 182 = .ok (.iaload, 1) := dk_46 (dk_at dksX6_part_7 17 rfl rfl)
theorem dX6_part_183 : decode cX6_part 183 = .ok (.ireturn, 1) := dk_172 (dk_at dksX6_part_7 18 rfl rfl)
abbrev cX6_allPresses : ByteArray := prog_11_method_64_code
def yX6_allPresses : MethodName := ⟨RX6, "allPresses", "()I"⟩
def dkwX6_allPresses_1 : List UInt8 := [27, 29, 2, 160, 0, 8, 16, 100, 167, 0, 4, 29, 96, 60, 132, 2, 1, 167, 255, 219, 27, 172]
abbrev dktX6_allPresses_1 : List UInt8 := dkwX6_allPresses_1 ++ []
def dkwX6_allPresses_0 : List UInt8 := [3, 60, 3, 61, 28, 42, 180, 0, 7, 4, 46, 162, 0, 33, 42, 28, 42, 182, 0, 135, 182, 0, 131, 62]
abbrev dktX6_allPresses_0 : List UInt8 := dkwX6_allPresses_0 ++ dktX6_allPresses_1
theorem dksX6_allPresses_0 : cX6_allPresses.data.toList.drop 0 = dktX6_allPresses_0 := by decide +kernel
theorem dksX6_allPresses_1 : cX6_allPresses.data.toList.drop 24 = dktX6_allPresses_1 := dk_seg dksX6_allPresses_0 24 rfl rfl
theorem dX6_allPresses_0 : decode cX6_allPresses 0 = .ok (.iconst 0, 1) := dk_3 (dk_at dksX6_allPresses_0 0 rfl rfl)
theorem dX6_allPresses_1 : decode cX6_allPresses 1 = .ok (.istore_n 1, 1) := dk_60 (dk_at dksX6_allPresses_0 1 rfl rfl)
theorem dX6_allPresses_2 : decode cX6_allPresses 2 = .ok (.iconst 0, 1) := dk_3 (dk_at dksX6_allPresses_0 2 rfl rfl)
theorem dX6_allPresses_3 : decode cX6_allPresses 3 = .ok (.istore_n 2, 1) := dk_61 (dk_at dksX6_allPresses_0 3 rfl rfl)
theorem dX6_allPresses_4 : decode cX6_allPresses 4 = .ok (.iload_n 2, 1) := dk_28 (dk_at dksX6_allPresses_0 4 rfl rfl)
theorem dX6_allPresses_5 : decode cX6_allPresses 5 = .ok (.aload_n 0, 1) := dk_42 (dk_at dksX6_allPresses_0 5 rfl rfl)
theorem dX6_allPresses_6 : decode cX6_allPresses 6 = .ok (.getfield 7, 3) := dk_180 0 7 (dk_at dksX6_allPresses_0 6 rfl rfl)
theorem dX6_allPresses_9 : decode cX6_allPresses 9 = .ok (.iconst 1, 1) := dk_4 (dk_at dksX6_allPresses_0 9 rfl rfl)
theorem dX6_allPresses_10 : decode cX6_allPresses 10 = .ok (.iaload, 1) := dk_46 (dk_at dksX6_allPresses_0 10 rfl rfl)
theorem dX6_allPresses_11 : decode cX6_allPresses 11 = .ok (.if_icmp .ge 33, 3) := dk_162 0 33 (dk_at dksX6_allPresses_0 11 rfl rfl)
theorem dX6_allPresses_14 : decode cX6_allPresses 14 = .ok (.aload_n 0, 1) := dk_42 (dk_at dksX6_allPresses_0 14 rfl rfl)
theorem dX6_allPresses_15 : decode cX6_allPresses 15 = .ok (.iload_n 2, 1) := dk_28 (dk_at dksX6_allPresses_0 15 rfl rfl)
theorem dX6_allPresses_16 : decode cX6_allPresses 16 = .ok (.aload_n 0, 1) := dk_42 (dk_at dksX6_allPresses_0 16 rfl rfl)
theorem dX6_allPresses_17 : decode cX6_allPresses 17 = .ok (.invokevirtual 135, 3) := dk_182 0 135 (dk_at dksX6_allPresses_0 17 rfl rfl)
theorem dX6_allPresses_20 : decode cX6_allPresses 20 = .ok (.invokevirtual 131, 3) := dk_182 0 131 (dk_at dksX6_allPresses_0 20 rfl rfl)
theorem dX6_allPresses_23 : decode cX6_allPresses 23 = .ok (.istore_n 3, 1) := dk_62 (dk_at dksX6_allPresses_0 23 rfl rfl)
theorem dX6_allPresses_24 : decode cX6_allPresses 24 = .ok (.iload_n 1, 1) := dk_27 (dk_at dksX6_allPresses_1 0 rfl rfl)
theorem dX6_allPresses_25 : decode cX6_allPresses 25 = .ok (.iload_n 3, 1) := dk_29 (dk_at dksX6_allPresses_1 1 rfl rfl)
theorem dX6_allPresses_26 : decode cX6_allPresses 26 = .ok (.iconst (-1), 1) := dk_2 (dk_at dksX6_allPresses_1 2 rfl rfl)
theorem dX6_allPresses_27 : decode cX6_allPresses 27 = .ok (.if_icmp .ne 8, 3) := dk_160 0 8 (dk_at dksX6_allPresses_1 3 rfl rfl)
theorem dX6_allPresses_30 : decode cX6_allPresses 30 = .ok (.bipush 100, 2) := dk_16 100 (dk_at dksX6_allPresses_1 6 rfl rfl)
theorem dX6_allPresses_32 : decode cX6_allPresses 32 = .ok (.goto 4, 3) := dk_167 0 4 (dk_at dksX6_allPresses_1 8 rfl rfl)
theorem dX6_allPresses_35 : decode cX6_allPresses 35 = .ok (.iload_n 3, 1) := dk_29 (dk_at dksX6_allPresses_1 11 rfl rfl)
theorem dX6_allPresses_36 : decode cX6_allPresses 36 = .ok (.iadd, 1) := dk_96 (dk_at dksX6_allPresses_1 12 rfl rfl)
theorem dX6_allPresses_37 : decode cX6_allPresses 37 = .ok (.istore_n 1, 1) := dk_60 (dk_at dksX6_allPresses_1 13 rfl rfl)
theorem dX6_allPresses_38 : decode cX6_allPresses 38 = .ok (.iinc 2 1, 3) := dk_132 2 1 (dk_at dksX6_allPresses_1 14 rfl rfl)
theorem dX6_allPresses_41 : decode cX6_allPresses 41 = .ok (.goto (-37), 3) := dk_167 255 219 (dk_at dksX6_allPresses_1 17 rfl rfl)
theorem dX6_allPresses_44 : decode cX6_allPresses 44 = .ok (.iload_n 1, 1) := dk_27 (dk_at dksX6_allPresses_1 20 rfl rfl)
theorem dX6_allPresses_45 : decode cX6_allPresses 45 = .ok (.ireturn, 1) := dk_172 (dk_at dksX6_allPresses_1 21 rfl rfl)
abbrev cX6_lettersPerPress : ByteArray := prog_11_method_67_code
def yX6_lettersPerPress : MethodName := ⟨RX6, "lettersPerPress", "()D"⟩
def dkwX6_lettersPerPress_3 : List UInt8 := [167, 255, 195, 28, 154, 0, 7, 14, 167, 0, 8, 27, 135, 28, 135, 111, 175]
abbrev dktX6_lettersPerPress_3 : List UInt8 := dkwX6_lettersPerPress_3 ++ []
def dkwX6_lettersPerPress_2 : List UInt8 := [184, 0, 89, 46, 96, 60, 28, 21, 4, 2, 160, 0, 7, 3, 167, 0, 5, 21, 4, 96, 61, 132, 3, 1]
abbrev dktX6_lettersPerPress_2 : List UInt8 := dkwX6_lettersPerPress_2 ++ dktX6_lettersPerPress_3
def dkwX6_lettersPerPress_1 : List UInt8 := [182, 0, 135, 182, 0, 131, 54, 4, 27, 21, 4, 2, 160, 0, 7, 3, 167, 0, 12, 42, 180, 0, 7, 29]
abbrev dktX6_lettersPerPress_1 : List UInt8 := dkwX6_lettersPerPress_1 ++ dktX6_lettersPerPress_2
def dkwX6_lettersPerPress_0 : List UInt8 := [42, 3, 181, 0, 43, 3, 60, 3, 61, 3, 62, 29, 42, 180, 0, 7, 4, 46, 162, 0, 57, 42, 29, 42]
abbrev dktX6_lettersPerPress_0 : List UInt8 := dkwX6_lettersPerPress_0 ++ dktX6_lettersPerPress_1
theorem dksX6_lettersPerPress_0 : cX6_lettersPerPress.data.toList.drop 0 = dktX6_lettersPerPress_0 := by decide +kernel
theorem dksX6_lettersPerPress_1 : cX6_lettersPerPress.data.toList.drop 24 = dktX6_lettersPerPress_1 := dk_seg dksX6_lettersPerPress_0 24 rfl rfl
theorem dksX6_lettersPerPress_2 : cX6_lettersPerPress.data.toList.drop 48 = dktX6_lettersPerPress_2 := dk_seg dksX6_lettersPerPress_1 24 rfl rfl
theorem dksX6_lettersPerPress_3 : cX6_lettersPerPress.data.toList.drop 72 = dktX6_lettersPerPress_3 := dk_seg dksX6_lettersPerPress_2 24 rfl rfl
theorem dX6_lettersPerPress_0 : decode cX6_lettersPerPress 0 = .ok (.aload_n 0, 1) := dk_42 (dk_at dksX6_lettersPerPress_0 0 rfl rfl)
theorem dX6_lettersPerPress_1 : decode cX6_lettersPerPress 1 = .ok (.iconst 0, 1) := dk_3 (dk_at dksX6_lettersPerPress_0 1 rfl rfl)
theorem dX6_lettersPerPress_2 : decode cX6_lettersPerPress 2 = .ok (.putfield 43, 3) := dk_181 0 43 (dk_at dksX6_lettersPerPress_0 2 rfl rfl)
theorem dX6_lettersPerPress_5 : decode cX6_lettersPerPress 5 = .ok (.iconst 0, 1) := dk_3 (dk_at dksX6_lettersPerPress_0 5 rfl rfl)
theorem dX6_lettersPerPress_6 : decode cX6_lettersPerPress 6 = .ok (.istore_n 1, 1) := dk_60 (dk_at dksX6_lettersPerPress_0 6 rfl rfl)
theorem dX6_lettersPerPress_7 : decode cX6_lettersPerPress 7 = .ok (.iconst 0, 1) := dk_3 (dk_at dksX6_lettersPerPress_0 7 rfl rfl)
theorem dX6_lettersPerPress_8 : decode cX6_lettersPerPress 8 = .ok (.istore_n 2, 1) := dk_61 (dk_at dksX6_lettersPerPress_0 8 rfl rfl)
theorem dX6_lettersPerPress_9 : decode cX6_lettersPerPress 9 = .ok (.iconst 0, 1) := dk_3 (dk_at dksX6_lettersPerPress_0 9 rfl rfl)
theorem dX6_lettersPerPress_10 : decode cX6_lettersPerPress 10 = .ok (.istore_n 3, 1) := dk_62 (dk_at dksX6_lettersPerPress_0 10 rfl rfl)
theorem dX6_lettersPerPress_11 : decode cX6_lettersPerPress 11 = .ok (.iload_n 3, 1) := dk_29 (dk_at dksX6_lettersPerPress_0 11 rfl rfl)
theorem dX6_lettersPerPress_12 : decode cX6_lettersPerPress 12 = .ok (.aload_n 0, 1) := dk_42 (dk_at dksX6_lettersPerPress_0 12 rfl rfl)
theorem dX6_lettersPerPress_13 : decode cX6_lettersPerPress 13 = .ok (.getfield 7, 3) := dk_180 0 7 (dk_at dksX6_lettersPerPress_0 13 rfl rfl)
theorem dX6_lettersPerPress_16 : decode cX6_lettersPerPress 16 = .ok (.iconst 1, 1) := dk_4 (dk_at dksX6_lettersPerPress_0 16 rfl rfl)
theorem dX6_lettersPerPress_17 : decode cX6_lettersPerPress 17 = .ok (.iaload, 1) := dk_46 (dk_at dksX6_lettersPerPress_0 17 rfl rfl)
theorem dX6_lettersPerPress_18 : decode cX6_lettersPerPress 18 = .ok (.if_icmp .ge 57, 3) := dk_162 0 57 (dk_at dksX6_lettersPerPress_0 18 rfl rfl)
theorem dX6_lettersPerPress_21 : decode cX6_lettersPerPress 21 = .ok (.aload_n 0, 1) := dk_42 (dk_at dksX6_lettersPerPress_0 21 rfl rfl)
theorem dX6_lettersPerPress_22 : decode cX6_lettersPerPress 22 = .ok (.iload_n 3, 1) := dk_29 (dk_at dksX6_lettersPerPress_0 22 rfl rfl)
theorem dX6_lettersPerPress_23 : decode cX6_lettersPerPress 23 = .ok (.aload_n 0, 1) := dk_42 (dk_at dksX6_lettersPerPress_0 23 rfl rfl)
theorem dX6_lettersPerPress_24 : decode cX6_lettersPerPress 24 = .ok (.invokevirtual 135, 3) := dk_182 0 135 (dk_at dksX6_lettersPerPress_1 0 rfl rfl)
theorem dX6_lettersPerPress_27 : decode cX6_lettersPerPress 27 = .ok (.invokevirtual 131, 3) := dk_182 0 131 (dk_at dksX6_lettersPerPress_1 3 rfl rfl)
theorem dX6_lettersPerPress_30 : decode cX6_lettersPerPress 30 = .ok (.istore 4, 2) := dk_54 4 (dk_at dksX6_lettersPerPress_1 6 rfl rfl)
theorem dX6_lettersPerPress_32 : decode cX6_lettersPerPress 32 = .ok (.iload_n 1, 1) := dk_27 (dk_at dksX6_lettersPerPress_1 8 rfl rfl)
theorem dX6_lettersPerPress_33 : decode cX6_lettersPerPress 33 = .ok (.iload 4, 2) := dk_21 4 (dk_at dksX6_lettersPerPress_1 9 rfl rfl)
theorem dX6_lettersPerPress_35 : decode cX6_lettersPerPress 35 = .ok (.iconst (-1), 1) := dk_2 (dk_at dksX6_lettersPerPress_1 11 rfl rfl)
theorem dX6_lettersPerPress_36 : decode cX6_lettersPerPress 36 = .ok (.if_icmp .ne 7, 3) := dk_160 0 7 (dk_at dksX6_lettersPerPress_1 12 rfl rfl)
theorem dX6_lettersPerPress_39 : decode cX6_lettersPerPress 39 = .ok (.iconst 0, 1) := dk_3 (dk_at dksX6_lettersPerPress_1 15 rfl rfl)
theorem dX6_lettersPerPress_40 : decode cX6_lettersPerPress 40 = .ok (.goto 12, 3) := dk_167 0 12 (dk_at dksX6_lettersPerPress_1 16 rfl rfl)
theorem dX6_lettersPerPress_43 : decode cX6_lettersPerPress 43 = .ok (.aload_n 0, 1) := dk_42 (dk_at dksX6_lettersPerPress_1 19 rfl rfl)
theorem dX6_lettersPerPress_44 : decode cX6_lettersPerPress 44 = .ok (.getfield 7, 3) := dk_180 0 7 (dk_at dksX6_lettersPerPress_1 20 rfl rfl)
theorem dX6_lettersPerPress_47 : decode cX6_lettersPerPress 47 = .ok (.iload_n 3, 1) := dk_29 (dk_at dksX6_lettersPerPress_1 23 rfl rfl)
theorem dX6_lettersPerPress_48 : decode cX6_lettersPerPress 48 = .ok (.invokestatic 89, 3) := dk_184 0 89 (dk_at dksX6_lettersPerPress_2 0 rfl rfl)
theorem dX6_lettersPerPress_51 : decode cX6_lettersPerPress 51 = .ok (.iaload, 1) := dk_46 (dk_at dksX6_lettersPerPress_2 3 rfl rfl)
theorem dX6_lettersPerPress_52 : decode cX6_lettersPerPress 52 = .ok (.iadd, 1) := dk_96 (dk_at dksX6_lettersPerPress_2 4 rfl rfl)
theorem dX6_lettersPerPress_53 : decode cX6_lettersPerPress 53 = .ok (.istore_n 1, 1) := dk_60 (dk_at dksX6_lettersPerPress_2 5 rfl rfl)
theorem dX6_lettersPerPress_54 : decode cX6_lettersPerPress 54 = .ok (.iload_n 2, 1) := dk_28 (dk_at dksX6_lettersPerPress_2 6 rfl rfl)
theorem dX6_lettersPerPress_55 : decode cX6_lettersPerPress 55 = .ok (.iload 4, 2) := dk_21 4 (dk_at dksX6_lettersPerPress_2 7 rfl rfl)
theorem dX6_lettersPerPress_57 : decode cX6_lettersPerPress 57 = .ok (.iconst (-1), 1) := dk_2 (dk_at dksX6_lettersPerPress_2 9 rfl rfl)
theorem dX6_lettersPerPress_58 : decode cX6_lettersPerPress 58 = .ok (.if_icmp .ne 7, 3) := dk_160 0 7 (dk_at dksX6_lettersPerPress_2 10 rfl rfl)
theorem dX6_lettersPerPress_61 : decode cX6_lettersPerPress 61 = .ok (.iconst 0, 1) := dk_3 (dk_at dksX6_lettersPerPress_2 13 rfl rfl)
theorem dX6_lettersPerPress_62 : decode cX6_lettersPerPress 62 = .ok (.goto 5, 3) := dk_167 0 5 (dk_at dksX6_lettersPerPress_2 14 rfl rfl)
theorem dX6_lettersPerPress_65 : decode cX6_lettersPerPress 65 = .ok (.iload 4, 2) := dk_21 4 (dk_at dksX6_lettersPerPress_2 17 rfl rfl)
theorem dX6_lettersPerPress_67 : decode cX6_lettersPerPress 67 = .ok (.iadd, 1) := dk_96 (dk_at dksX6_lettersPerPress_2 19 rfl rfl)
theorem dX6_lettersPerPress_68 : decode cX6_lettersPerPress 68 = .ok (.istore_n 2, 1) := dk_61 (dk_at dksX6_lettersPerPress_2 20 rfl rfl)
theorem dX6_lettersPerPress_69 : decode cX6_lettersPerPress 69 = .ok (.iinc 3 1, 3) := dk_132 3 1 (dk_at dksX6_lettersPerPress_2 21 rfl rfl)
theorem dX6_lettersPerPress_72 : decode cX6_lettersPerPress 72 = .ok (.goto (-61), 3) := dk_167 255 195 (dk_at dksX6_lettersPerPress_3 0 rfl rfl)
theorem dX6_lettersPerPress_75 : decode cX6_lettersPerPress 75 = .ok (.iload_n 2, 1) := dk_28 (dk_at dksX6_lettersPerPress_3 3 rfl rfl)
theorem dX6_lettersPerPress_76 : decode cX6_lettersPerPress 76 = .ok (.ifCond .ne 7, 3) := dk_154 0 7 (dk_at dksX6_lettersPerPress_3 4 rfl rfl)
theorem dX6_lettersPerPress_79 : decode cX6_lettersPerPress 79 = .ok (.dconst 0, 1) := dk_14 (dk_at dksX6_lettersPerPress_3 7 rfl rfl)
theorem dX6_lettersPerPress_80 : decode cX6_lettersPerPress 80 = .ok (.goto 8, 3) := dk_167 0 8 (dk_at dksX6_lettersPerPress_3 8 rfl rfl)
theorem dX6_lettersPerPress_83 : decode cX6_lettersPerPress 83 = .ok (.iload_n 1, 1) := dk_27 (dk_at dksX6_lettersPerPress_3 11 rfl rfl)
theorem dX6_lettersPerPress_84 : decode cX6_lettersPerPress 84 = .ok (.i2d, 1) := dk_135 (dk_at dksX6_lettersPerPress_3 12 rfl rfl)
theorem dX6_lettersPerPress_85 : decode cX6_lettersPerPress 85 = .ok (.iload_n 2, 1) := dk_28 (dk_at dksX6_lettersPerPress_3 13 rfl rfl)
theorem dX6_lettersPerPress_86 : decode cX6_lettersPerPress 86 = .ok (.i2d, 1) := dk_135 (dk_at dksX6_lettersPerPress_3 14 rfl rfl)
theorem dX6_lettersPerPress_87 : decode cX6_lettersPerPress 87 = .ok (.ddiv, 1) := dk_111 (dk_at dksX6_lettersPerPress_3 15 rfl rfl)
theorem dX6_lettersPerPress_88 : decode cX6_lettersPerPress 88 = .ok (.dreturn, 1) := dk_175 (dk_at dksX6_lettersPerPress_3 16 rfl rfl)
abbrev cX6_digest : ByteArray := prog_11_method_70_code
def yX6_digest : MethodName := ⟨RX6, "digest", "()J"⟩
def dkwX6_digest_7 : List UInt8 := [180, 0, 199, 173]
abbrev dktX6_digest_7 : List UInt8 := dkwX6_digest_7 ++ []
def dkwX6_digest_6 : List UInt8 := [132, 1, 1, 167, 255, 238, 42, 42, 182, 0, 173, 182, 0, 203, 42, 42, 180, 0, 47, 182, 0, 203, 42]
abbrev dktX6_digest_6 : List UInt8 := dkwX6_digest_6 ++ dktX6_digest_7
def dkwX6_digest_5 : List UInt8 := [132, 1, 1, 167, 255, 181, 3, 60, 27, 42, 180, 0, 7, 4, 46, 162, 0, 14, 42, 27, 182, 0, 208]
abbrev dktX6_digest_5 : List UInt8 := dkwX6_digest_5 ++ dktX6_digest_6
def dkwX6_digest_4 : List UInt8 := [42, 42, 180, 0, 7, 27, 184, 0, 58, 4, 96, 28, 96, 46, 182, 0, 203, 132, 2, 1, 167, 255, 223]
abbrev dktX6_digest_4 : List UInt8 := dkwX6_digest_4 ++ dktX6_digest_5
def dkwX6_digest_3 : List UInt8 := [182, 0, 203, 132, 2, 1, 167, 255, 237, 3, 61, 28, 42, 180, 0, 7, 27, 184, 0, 58, 46, 162, 0, 26]
abbrev dktX6_digest_3 : List UInt8 := dkwX6_digest_3 ++ dktX6_digest_4
def dkwX6_digest_2 : List UInt8 := [180, 0, 7, 3, 46, 162, 0, 71, 3, 61, 28, 16, 6, 162, 0, 19, 42, 42, 27, 28, 182, 0, 151]
abbrev dktX6_digest_2 : List UInt8 := dkwX6_digest_2 ++ dktX6_digest_3
def dkwX6_digest_1 : List UInt8 := [16, 9, 162, 0, 18, 42, 42, 27, 182, 0, 148, 182, 0, 203, 132, 1, 1, 167, 255, 238, 3, 60, 27, 42]
abbrev dktX6_digest_1 : List UInt8 := dkwX6_digest_1 ++ dktX6_digest_2
def dkwX6_digest_0 : List UInt8 := [42, 3, 181, 0, 43, 42, 20, 0, 206, 181, 0, 199, 42, 42, 180, 0, 72, 182, 0, 203, 3, 60, 27]
abbrev dktX6_digest_0 : List UInt8 := dkwX6_digest_0 ++ dktX6_digest_1
theorem dksX6_digest_0 : cX6_digest.data.toList.drop 0 = dktX6_digest_0 := by decide +kernel
theorem dksX6_digest_1 : cX6_digest.data.toList.drop 23 = dktX6_digest_1 := dk_seg dksX6_digest_0 23 rfl rfl
theorem dksX6_digest_2 : cX6_digest.data.toList.drop 47 = dktX6_digest_2 := dk_seg dksX6_digest_1 24 rfl rfl
theorem dksX6_digest_3 : cX6_digest.data.toList.drop 70 = dktX6_digest_3 := dk_seg dksX6_digest_2 23 rfl rfl
theorem dksX6_digest_4 : cX6_digest.data.toList.drop 94 = dktX6_digest_4 := dk_seg dksX6_digest_3 24 rfl rfl
theorem dksX6_digest_5 : cX6_digest.data.toList.drop 117 = dktX6_digest_5 := dk_seg dksX6_digest_4 23 rfl rfl
theorem dksX6_digest_6 : cX6_digest.data.toList.drop 140 = dktX6_digest_6 := dk_seg dksX6_digest_5 23 rfl rfl
theorem dksX6_digest_7 : cX6_digest.data.toList.drop 163 = dktX6_digest_7 := dk_seg dksX6_digest_6 23 rfl rfl
theorem dX6_digest_0 : decode cX6_digest 0 = .ok (.aload_n 0, 1) := dk_42 (dk_at dksX6_digest_0 0 rfl rfl)
theorem dX6_digest_1 : decode cX6_digest 1 = .ok (.iconst 0, 1) := dk_3 (dk_at dksX6_digest_0 1 rfl rfl)
theorem dX6_digest_2 : decode cX6_digest 2 = .ok (.putfield 43, 3) := dk_181 0 43 (dk_at dksX6_digest_0 2 rfl rfl)
theorem dX6_digest_5 : decode cX6_digest 5 = .ok (.aload_n 0, 1) := dk_42 (dk_at dksX6_digest_0 5 rfl rfl)
theorem dX6_digest_6 : decode cX6_digest 6 = .ok (.ldc2_w 206, 3) := dk_20 0 206 (dk_at dksX6_digest_0 6 rfl rfl)
theorem dX6_digest_9 : decode cX6_digest 9 = .ok (.putfield 199, 3) := dk_181 0 199 (dk_at dksX6_digest_0 9 rfl rfl)
theorem dX6_digest_12 : decode cX6_digest 12 = .ok (.aload_n 0, 1) := dk_42 (dk_at dksX6_digest_0 12 rfl rfl)
theorem dX6_digest_13 : decode cX6_digest 13 = .ok (.aload_n 0, 1) := dk_42 (dk_at dksX6_digest_0 13 rfl rfl)
theorem dX6_digest_14 : decode cX6_digest 14 = .ok (.getfield 72, 3) := dk_180 0 72 (dk_at dksX6_digest_0 14 rfl rfl)
theorem dX6_digest_17 : decode cX6_digest 17 = .ok (.invokevirtual 203, 3) := dk_182 0 203 (dk_at dksX6_digest_0 17 rfl rfl)
theorem dX6_digest_20 : decode cX6_digest 20 = .ok (.iconst 0, 1) := dk_3 (dk_at dksX6_digest_0 20 rfl rfl)
theorem dX6_digest_21 : decode cX6_digest 21 = .ok (.istore_n 1, 1) := dk_60 (dk_at dksX6_digest_0 21 rfl rfl)
theorem dX6_digest_22 : decode cX6_digest 22 = .ok (.iload_n 1, 1) := dk_27 (dk_at dksX6_digest_0 22 rfl rfl)
theorem dX6_digest_23 : decode cX6_digest 23 = .ok (.bipush 9, 2) := dk_16 9 (dk_at dksX6_digest_1 0 rfl rfl)
theorem dX6_digest_25 : decode cX6_digest 25 = .ok (.if_icmp .ge 18, 3) := dk_162 0 18 (dk_at dksX6_digest_1 2 rfl rfl)
theorem dX6_digest_28 : decode cX6_digest 28 = .ok (.aload_n 0, 1) := dk_42 (dk_at dksX6_digest_1 5 rfl rfl)
theorem dX6_digest_29 : decode cX6_digest 29 = .ok (.aload_n 0, 1) := dk_42 (dk_at dksX6_digest_1 6 rfl rfl)
theorem dX6_digest_30 : decode cX6_digest 30 = .ok (.iload_n 1, 1) := dk_27 (dk_at dksX6_digest_1 7 rfl rfl)
theorem dX6_digest_31 : decode cX6_digest 31 = .ok (.invokevirtual 148, 3) := dk_182 0 148 (dk_at dksX6_digest_1 8 rfl rfl)
theorem dX6_digest_34 : decode cX6_digest 34 = .ok (.invokevirtual 203, 3) := dk_182 0 203 (dk_at dksX6_digest_1 11 rfl rfl)
theorem dX6_digest_37 : decode cX6_digest 37 = .ok (.iinc 1 1, 3) := dk_132 1 1 (dk_at dksX6_digest_1 14 rfl rfl)
theorem dX6_digest_40 : decode cX6_digest 40 = .ok (.goto (-18), 3) := dk_167 255 238 (dk_at dksX6_digest_1 17 rfl rfl)
theorem dX6_digest_43 : decode cX6_digest 43 = .ok (.iconst 0, 1) := dk_3 (dk_at dksX6_digest_1 20 rfl rfl)
theorem dX6_digest_44 : decode cX6_digest 44 = .ok (.istore_n 1, 1) := dk_60 (dk_at dksX6_digest_1 21 rfl rfl)
theorem dX6_digest_45 : decode cX6_digest 45 = .ok (.iload_n 1, 1) := dk_27 (dk_at dksX6_digest_1 22 rfl rfl)
theorem dX6_digest_46 : decode cX6_digest 46 = .ok (.aload_n 0, 1) := dk_42 (dk_at dksX6_digest_1 23 rfl rfl)
theorem dX6_digest_47 : decode cX6_digest 47 = .ok (.getfield 7, 3) := dk_180 0 7 (dk_at dksX6_digest_2 0 rfl rfl)
theorem dX6_digest_50 : decode cX6_digest 50 = .ok (.iconst 0, 1) := dk_3 (dk_at dksX6_digest_2 3 rfl rfl)
theorem dX6_digest_51 : decode cX6_digest 51 = .ok (.iaload, 1) := dk_46 (dk_at dksX6_digest_2 4 rfl rfl)
theorem dX6_digest_52 : decode cX6_digest 52 = .ok (.if_icmp .ge 71, 3) := dk_162 0 71 (dk_at dksX6_digest_2 5 rfl rfl)
theorem dX6_digest_55 : decode cX6_digest 55 = .ok (.iconst 0, 1) := dk_3 (dk_at dksX6_digest_2 8 rfl rfl)
theorem dX6_digest_56 : decode cX6_digest 56 = .ok (.istore_n 2, 1) := dk_61 (dk_at dksX6_digest_2 9 rfl rfl)
theorem dX6_digest_57 : decode cX6_digest 57 = .ok (.iload_n 2, 1) := dk_28 (dk_at dksX6_digest_2 10 rfl rfl)
theorem dX6_digest_58 : decode cX6_digest 58 = .ok (.bipush 6, 2) := dk_16 6 (dk_at dksX6_digest_2 11 rfl rfl)
theorem dX6_digest_60 : decode cX6_digest 60 = .ok (.if_icmp .ge 19, 3) := dk_162 0 19 (dk_at dksX6_digest_2 13 rfl rfl)
theorem dX6_digest_63 : decode cX6_digest 63 = .ok (.aload_n 0, 1) := dk_42 (dk_at dksX6_digest_2 16 rfl rfl)
theorem dX6_digest_64 : decode cX6_digest 64 = .ok (.aload_n 0, 1) := dk_42 (dk_at dksX6_digest_2 17 rfl rfl)
theorem dX6_digest_65 : decode cX6_digest 65 = .ok (.iload_n 1, 1) := dk_27 (dk_at dksX6_digest_2 18 rfl rfl)
theorem dX6_digest_66 : decode cX6_digest 66 = .ok (.iload_n 2, 1) := dk_28 (dk_at dksX6_digest_2 19 rfl rfl)
theorem dX6_digest_67 : decode cX6_digest 67 = .ok (.invokevirtual 151, 3) := dk_182 0 151 (dk_at dksX6_digest_2 20 rfl rfl)
theorem dX6_digest_70 : decode cX6_digest 70 = .ok (.invokevirtual 203, 3) := dk_182 0 203 (dk_at dksX6_digest_3 0 rfl rfl)
theorem dX6_digest_73 : decode cX6_digest 73 = .ok (.iinc 2 1, 3) := dk_132 2 1 (dk_at dksX6_digest_3 3 rfl rfl)
theorem dX6_digest_76 : decode cX6_digest 76 = .ok (.goto (-19), 3) := dk_167 255 237 (dk_at dksX6_digest_3 6 rfl rfl)
theorem dX6_digest_79 : decode cX6_digest 79 = .ok (.iconst 0, 1) := dk_3 (dk_at dksX6_digest_3 9 rfl rfl)
theorem dX6_digest_80 : decode cX6_digest 80 = .ok (.istore_n 2, 1) := dk_61 (dk_at dksX6_digest_3 10 rfl rfl)
theorem dX6_digest_81 : decode cX6_digest 81 = .ok (.iload_n 2, 1) := dk_28 (dk_at dksX6_digest_3 11 rfl rfl)
theorem dX6_digest_82 : decode cX6_digest 82 = .ok (.aload_n 0, 1) := dk_42 (dk_at dksX6_digest_3 12 rfl rfl)
theorem dX6_digest_83 : decode cX6_digest 83 = .ok (.getfield 7, 3) := dk_180 0 7 (dk_at dksX6_digest_3 13 rfl rfl)
theorem dX6_digest_86 : decode cX6_digest 86 = .ok (.iload_n 1, 1) := dk_27 (dk_at dksX6_digest_3 16 rfl rfl)
theorem dX6_digest_87 : decode cX6_digest 87 = .ok (.invokestatic 58, 3) := dk_184 0 58 (dk_at dksX6_digest_3 17 rfl rfl)
theorem dX6_digest_90 : decode cX6_digest 90 = .ok (.iaload, 1) := dk_46 (dk_at dksX6_digest_3 20 rfl rfl)
theorem dX6_digest_91 : decode cX6_digest 91 = .ok (.if_icmp .ge 26, 3) := dk_162 0 26 (dk_at dksX6_digest_3 21 rfl rfl)
theorem dX6_digest_94 : decode cX6_digest 94 = .ok (.aload_n 0, 1) := dk_42 (dk_at dksX6_digest_4 0 rfl rfl)
theorem dX6_digest_95 : decode cX6_digest 95 = .ok (.aload_n 0, 1) := dk_42 (dk_at dksX6_digest_4 1 rfl rfl)
theorem dX6_digest_96 : decode cX6_digest 96 = .ok (.getfield 7, 3) := dk_180 0 7 (dk_at dksX6_digest_4 2 rfl rfl)
theorem dX6_digest_99 : decode cX6_digest 99 = .ok (.iload_n 1, 1) := dk_27 (dk_at dksX6_digest_4 5 rfl rfl)
theorem dX6_digest_100 : decode cX6_digest 100 = .ok (.invokestatic 58, 3) := dk_184 0 58 (dk_at dksX6_digest_4 6 rfl rfl)
theorem dX6_digest_103 : decode cX6_digest 103 = .ok (.iconst 1, 1) := dk_4 (dk_at dksX6_digest_4 9 rfl rfl)
theorem dX6_digest_104 : decode cX6_digest 104 = .ok (.iadd, 1) := dk_96 (dk_at dksX6_digest_4 10 rfl rfl)
theorem dX6_digest_105 : decode cX6_digest 105 = .ok (.iload_n 2, 1) := dk_28 (dk_at dksX6_digest_4 11 rfl rfl)
theorem dX6_digest_106 : decode cX6_digest 106 = .ok (.iadd, 1) := dk_96 (dk_at dksX6_digest_4 12 rfl rfl)
theorem dX6_digest_107 : decode cX6_digest 107 = .ok (.iaload, 1) := dk_46 (dk_at dksX6_digest_4 13 rfl rfl)
theorem dX6_digest_108 : decode cX6_digest 108 = .ok (.invokevirtual 203, 3) := dk_182 0 203 (dk_at dksX6_digest_4 14 rfl rfl)
theorem dX6_digest_111 : decode cX6_digest 111 = .ok (.iinc 2 1, 3) := dk_132 2 1 (dk_at dksX6_digest_4 17 rfl rfl)
theorem dX6_digest_114 : decode cX6_digest 114 = .ok (.goto (-33), 3) := dk_167 255 223 (dk_at dksX6_digest_4 20 rfl rfl)
theorem dX6_digest_117 : decode cX6_digest 117 = .ok (.iinc 1 1, 3) := dk_132 1 1 (dk_at dksX6_digest_5 0 rfl rfl)
theorem dX6_digest_120 : decode cX6_digest 120 = .ok (.goto (-75), 3) := dk_167 255 181 (dk_at dksX6_digest_5 3 rfl rfl)
theorem dX6_digest_123 : decode cX6_digest 123 = .ok (.iconst 0, 1) := dk_3 (dk_at dksX6_digest_5 6 rfl rfl)
theorem dX6_digest_124 : decode cX6_digest 124 = .ok (.istore_n 1, 1) := dk_60 (dk_at dksX6_digest_5 7 rfl rfl)
theorem dX6_digest_125 : decode cX6_digest 125 = .ok (.iload_n 1, 1) := dk_27 (dk_at dksX6_digest_5 8 rfl rfl)
theorem dX6_digest_126 : decode cX6_digest 126 = .ok (.aload_n 0, 1) := dk_42 (dk_at dksX6_digest_5 9 rfl rfl)
theorem dX6_digest_127 : decode cX6_digest 127 = .ok (.getfield 7, 3) := dk_180 0 7 (dk_at dksX6_digest_5 10 rfl rfl)
theorem dX6_digest_130 : decode cX6_digest 130 = .ok (.iconst 1, 1) := dk_4 (dk_at dksX6_digest_5 13 rfl rfl)
theorem dX6_digest_131 : decode cX6_digest 131 = .ok (.iaload, 1) := dk_46 (dk_at dksX6_digest_5 14 rfl rfl)
theorem dX6_digest_132 : decode cX6_digest 132 = .ok (.if_icmp .ge 14, 3) := dk_162 0 14 (dk_at dksX6_digest_5 15 rfl rfl)
theorem dX6_digest_135 : decode cX6_digest 135 = .ok (.aload_n 0, 1) := dk_42 (dk_at dksX6_digest_5 18 rfl rfl)
theorem dX6_digest_136 : decode cX6_digest 136 = .ok (.iload_n 1, 1) := dk_27 (dk_at dksX6_digest_5 19 rfl rfl)
theorem dX6_digest_137 : decode cX6_digest 137 = .ok (.invokevirtual 208, 3) := dk_182 0 208 (dk_at dksX6_digest_5 20 rfl rfl)
theorem dX6_digest_140 : decode cX6_digest 140 = .ok (.iinc 1 1, 3) := dk_132 1 1 (dk_at dksX6_digest_6 0 rfl rfl)
theorem dX6_digest_143 : decode cX6_digest 143 = .ok (.goto (-18), 3) := dk_167 255 238 (dk_at dksX6_digest_6 3 rfl rfl)
theorem dX6_digest_146 : decode cX6_digest 146 = .ok (.aload_n 0, 1) := dk_42 (dk_at dksX6_digest_6 6 rfl rfl)
theorem dX6_digest_147 : decode cX6_digest 147 = .ok (.aload_n 0, 1) := dk_42 (dk_at dksX6_digest_6 7 rfl rfl)
theorem dX6_digest_148 : decode cX6_digest 148 = .ok (.invokevirtual 173, 3) := dk_182 0 173 (dk_at dksX6_digest_6 8 rfl rfl)
theorem dX6_digest_151 : decode cX6_digest 151 = .ok (.invokevirtual 203, 3) := dk_182 0 203 (dk_at dksX6_digest_6 11 rfl rfl)
theorem dX6_digest_154 : decode cX6_digest 154 = .ok (.aload_n 0, 1) := dk_42 (dk_at dksX6_digest_6 14 rfl rfl)
theorem dX6_digest_155 : decode cX6_digest 155 = .ok (.aload_n 0, 1) := dk_42 (dk_at dksX6_digest_6 15 rfl rfl)
theorem dX6_digest_156 : decode cX6_digest 156 = .ok (.getfield 47, 3) := dk_180 0 47 (dk_at dksX6_digest_6 16 rfl rfl)
theorem dX6_digest_159 : decode cX6_digest 159 = .ok (.invokevirtual 203, 3) := dk_182 0 203 (dk_at dksX6_digest_6 19 rfl rfl)
theorem dX6_digest_162 : decode cX6_digest 162 = .ok (.aload_n 0, 1) := dk_42 (dk_at dksX6_digest_6 22 rfl rfl)
theorem dX6_digest_163 : decode cX6_digest 163 = .ok (.getfield 199, 3) := dk_180 0 199 (dk_at dksX6_digest_7 0 rfl rfl)
theorem dX6_digest_166 : decode cX6_digest 166 = .ok (.lreturn, 1) := dk_173 (dk_at dksX6_digest_7 3 rfl rfl)
abbrev cX6_mix : ByteArray := prog_11_method_68_code
def yX6_mix : MethodName := ⟨RX6, "mix", "(I)V"⟩
def dkwX6_mix_0 : List UInt8 := [42, 20, 0, 197, 42, 180, 0, 199, 105, 27, 133, 97, 181, 0, 199, 177]
abbrev dktX6_mix_0 : List UInt8 := dkwX6_mix_0 ++ []
theorem dksX6_mix_0 : cX6_mix.data.toList.drop 0 = dktX6_mix_0 := by decide +kernel
theorem dX6_mix_0 : decode cX6_mix 0 = .ok (.aload_n 0, 1) := dk_42 (dk_at dksX6_mix_0 0 rfl rfl)
theorem dX6_mix_1 : decode cX6_mix 1 = .ok (.ldc2_w 197, 3) := dk_20 0 197 (dk_at dksX6_mix_0 1 rfl rfl)
theorem dX6_mix_4 : decode cX6_mix 4 = .ok (.aload_n 0, 1) := dk_42 (dk_at dksX6_mix_0 4 rfl rfl)
theorem dX6_mix_5 : decode cX6_mix 5 = .ok (.getfield 199, 3) := dk_180 0 199 (dk_at dksX6_mix_0 5 rfl rfl)
theorem dX6_mix_8 : decode cX6_mix 8 = .ok (.lmul, 1) := dk_105 (dk_at dksX6_mix_0 8 rfl rfl)
theorem dX6_mix_9 : decode cX6_mix 9 = .ok (.iload_n 1, 1) := dk_27 (dk_at dksX6_mix_0 9 rfl rfl)
theorem dX6_mix_10 : decode cX6_mix 10 = .ok (.i2l, 1) := dk_133 (dk_at dksX6_mix_0 10 rfl rfl)
theorem dX6_mix_11 : decode cX6_mix 11 = .ok (.ladd, 1) := dk_97 (dk_at dksX6_mix_0 11 rfl rfl)
theorem dX6_mix_12 : decode cX6_mix 12 = .ok (.putfield 199, 3) := dk_181 0 199 (dk_at dksX6_mix_0 12 rfl rfl)
theorem dX6_mix_15 : decode cX6_mix 15 = .ok (.return_, 1) := dk_177 (dk_at dksX6_mix_0 15 rfl rfl)
abbrev cX6_mixWord : ByteArray := prog_11_method_69_code
def yX6_mixWord : MethodName := ⟨RX6, "mixWord", "(I)V"⟩
def dkwX6_mixWord_4 : List UInt8 := [167, 255, 235, 177]
abbrev dktX6_mixWord_4 : List UInt8 := dkwX6_mixWord_4 ++ []
def dkwX6_mixWord_3 : List UInt8 := [3, 62, 29, 42, 180, 0, 128, 162, 0, 19, 42, 42, 180, 0, 28, 29, 46, 182, 0, 203, 132, 3, 1]
abbrev dktX6_mixWord_3 : List UInt8 := dkwX6_mixWord_3 ++ dktX6_mixWord_4
def dkwX6_mixWord_2 : List UInt8 := [5, 96, 28, 96, 46, 182, 0, 203, 132, 2, 1, 167, 255, 223, 42, 27, 42, 182, 0, 135, 182, 0, 139, 61]
abbrev dktX6_mixWord_2 : List UInt8 := dkwX6_mixWord_2 ++ dktX6_mixWord_3
def dkwX6_mixWord_1 : List UInt8 := [3, 61, 28, 42, 180, 0, 7, 27, 184, 0, 89, 46, 162, 0, 26, 42, 42, 180, 0, 7, 27, 184, 0, 89]
abbrev dktX6_mixWord_1 : List UInt8 := dkwX6_mixWord_1 ++ dktX6_mixWord_2
def dkwX6_mixWord_0 : List UInt8 := [3, 61, 28, 16, 6, 162, 0, 19, 42, 42, 27, 28, 182, 0, 164, 182, 0, 203, 132, 2, 1, 167, 255, 237]
abbrev dktX6_mixWord_0 : List UInt8 := dkwX6_mixWord_0 ++ dktX6_mixWord_1
theorem dksX6_mixWord_0 : cX6_mixWord.data.toList.drop 0 = dktX6_mixWord_0 := by decide +kernel
theorem dksX6_mixWord_1 : cX6_mixWord.data.toList.drop 24 = dktX6_mixWord_1 := dk_seg dksX6_mixWord_0 24 rfl rfl
theorem dksX6_mixWord_2 : cX6_mixWord.data.toList.drop 48 = dktX6_mixWord_2 := dk_seg dksX6_mixWord_1 24 rfl rfl
theorem dksX6_mixWord_3 : cX6_mixWord.data.toList.drop 72 = dktX6_mixWord_3 := dk_seg dksX6_mixWord_2 24 rfl rfl
theorem dksX6_mixWord_4 : cX6_mixWord.data.toList.drop 95 = dktX6_mixWord_4 := dk_seg dksX6_mixWord_3 23 rfl rfl
theorem dX6_mixWord_0 : decode cX6_mixWord 0 = .ok (.iconst 0, 1) := dk_3 (dk_at dksX6_mixWord_0 0 rfl rfl)
theorem dX6_mixWord_1 : decode cX6_mixWord 1 = .ok (.istore_n 2, 1) := dk_61 (dk_at dksX6_mixWord_0 1 rfl rfl)
theorem dX6_mixWord_2 : decode cX6_mixWord 2 = .ok (.iload_n 2, 1) := dk_28 (dk_at dksX6_mixWord_0 2 rfl rfl)
theorem dX6_mixWord_3 : decode cX6_mixWord 3 = .ok (.bipush 6, 2) := dk_16 6 (dk_at dksX6_mixWord_0 3 rfl rfl)
theorem dX6_mixWord_5 : decode cX6_mixWord 5 = .ok (.if_icmp .ge 19, 3) := dk_162 0 19 (dk_at dksX6_mixWord_0 5 rfl rfl)
theorem dX6_mixWord_8 : decode cX6_mixWord 8 = .ok (.aload_n 0, 1) := dk_42 (dk_at dksX6_mixWord_0 8 rfl rfl)
theorem dX6_mixWord_9 : decode cX6_mixWord 9 = .ok (.aload_n 0, 1) := dk_42 (dk_at dksX6_mixWord_0 9 rfl rfl)
theorem dX6_mixWord_10 : decode cX6_mixWord 10 = .ok (.iload_n 1, 1) := dk_27 (dk_at dksX6_mixWord_0 10 rfl rfl)
theorem dX6_mixWord_11 : decode cX6_mixWord 11 = .ok (.iload_n 2, 1) := dk_28 (dk_at dksX6_mixWord_0 11 rfl rfl)
theorem dX6_mixWord_12 : decode cX6_mixWord 12 = .ok (.invokevirtual 164, 3) := dk_182 0 164 (dk_at dksX6_mixWord_0 12 rfl rfl)
theorem dX6_mixWord_15 : decode cX6_mixWord 15 = .ok (.invokevirtual 203, 3) := dk_182 0 203 (dk_at dksX6_mixWord_0 15 rfl rfl)
theorem dX6_mixWord_18 : decode cX6_mixWord 18 = .ok (.iinc 2 1, 3) := dk_132 2 1 (dk_at dksX6_mixWord_0 18 rfl rfl)
theorem dX6_mixWord_21 : decode cX6_mixWord 21 = .ok (.goto (-19), 3) := dk_167 255 237 (dk_at dksX6_mixWord_0 21 rfl rfl)
theorem dX6_mixWord_24 : decode cX6_mixWord 24 = .ok (.iconst 0, 1) := dk_3 (dk_at dksX6_mixWord_1 0 rfl rfl)
theorem dX6_mixWord_25 : decode cX6_mixWord 25 = .ok (.istore_n 2, 1) := dk_61 (dk_at dksX6_mixWord_1 1 rfl rfl)
theorem dX6_mixWord_26 : decode cX6_mixWord 26 = .ok (.iload_n 2, 1) := dk_28 (dk_at dksX6_mixWord_1 2 rfl rfl)
theorem dX6_mixWord_27 : decode cX6_mixWord 27 = .ok (.aload_n 0, 1) := dk_42 (dk_at dksX6_mixWord_1 3 rfl rfl)
theorem dX6_mixWord_28 : decode cX6_mixWord 28 = .ok (.getfield 7, 3) := dk_180 0 7 (dk_at dksX6_mixWord_1 4 rfl rfl)
theorem dX6_mixWord_31 : decode cX6_mixWord 31 = .ok (.iload_n 1, 1) := dk_27 (dk_at dksX6_mixWord_1 7 rfl rfl)
theorem dX6_mixWord_32 : decode cX6_mixWord 32 = .ok (.invokestatic 89, 3) := dk_184 0 89 (dk_at dksX6_mixWord_1 8 rfl rfl)
theorem dX6_mixWord_35 : decode cX6_mixWord 35 = .ok (.iaload, 1) := dk_46 (dk_at dksX6_mixWord_1 11 rfl rfl)
theorem dX6_mixWord_36 : decode cX6_mixWord 36 = .ok (.if_icmp .ge 26, 3) := dk_162 0 26 (dk_at dksX6_mixWord_1 12 rfl rfl)
theorem dX6_mixWord_39 : decode cX6_mixWord 39 = .ok (.aload_n 0, 1) := dk_42 (dk_at dksX6_mixWord_1 15 rfl rfl)
theorem dX6_mixWord_40 : decode cX6_mixWord 40 = .ok (.aload_n 0, 1) := dk_42 (dk_at dksX6_mixWord_1 16 rfl rfl)
theorem dX6_mixWord_41 : decode cX6_mixWord 41 = .ok (.getfield 7, 3) := dk_180 0 7 (dk_at dksX6_mixWord_1 17 rfl rfl)
theorem dX6_mixWord_44 : decode cX6_mixWord 44 = .ok (.iload_n 1, 1) := dk_27 (dk_at dksX6_mixWord_1 20 rfl rfl)
theorem dX6_mixWord_45 : decode cX6_mixWord 45 = .ok (.invokestatic 89, 3) := dk_184 0 89 (dk_at dksX6_mixWord_1 21 rfl rfl)
theorem dX6_mixWord_48 : decode cX6_mixWord 48 = .ok (.iconst 2, 1) := dk_5 (dk_at dksX6_mixWord_2 0 rfl rfl)
theorem dX6_mixWord_49 : decode cX6_mixWord 49 = .ok (.iadd, 1) := dk_96 (dk_at dksX6_mixWord_2 1 rfl rfl)
theorem dX6_mixWord_50 : decode cX6_mixWord 50 = .ok (.iload_n 2, 1) := dk_28 (dk_at dksX6_mixWord_2 2 rfl rfl)
theorem dX6_mixWord_51 : decode cX6_mixWord 51 = .ok (.iadd, 1) := dk_96 (dk_at dksX6_mixWord_2 3 rfl rfl)
theorem dX6_mixWord_52 : decode cX6_mixWord 52 = .ok (.iaload, 1) := dk_46 (dk_at dksX6_mixWord_2 4 rfl rfl)
theorem dX6_mixWord_53 : decode cX6_mixWord 53 = .ok (.invokevirtual 203, 3) := dk_182 0 203 (dk_at dksX6_mixWord_2 5 rfl rfl)
theorem dX6_mixWord_56 : decode cX6_mixWord 56 = .ok (.iinc 2 1, 3) := dk_132 2 1 (dk_at dksX6_mixWord_2 8 rfl rfl)
theorem dX6_mixWord_59 : decode cX6_mixWord 59 = .ok (.goto (-33), 3) := dk_167 255 223 (dk_at dksX6_mixWord_2 11 rfl rfl)
theorem dX6_mixWord_62 : decode cX6_mixWord 62 = .ok (.aload_n 0, 1) := dk_42 (dk_at dksX6_mixWord_2 14 rfl rfl)
theorem dX6_mixWord_63 : decode cX6_mixWord 63 = .ok (.iload_n 1, 1) := dk_27 (dk_at dksX6_mixWord_2 15 rfl rfl)
theorem dX6_mixWord_64 : decode cX6_mixWord 64 = .ok (.aload_n 0, 1) := dk_42 (dk_at dksX6_mixWord_2 16 rfl rfl)
theorem dX6_mixWord_65 : decode cX6_mixWord 65 = .ok (.invokevirtual 135, 3) := dk_182 0 135 (dk_at dksX6_mixWord_2 17 rfl rfl)
theorem dX6_mixWord_68 : decode cX6_mixWord 68 = .ok (.invokevirtual 139, 3) := dk_182 0 139 (dk_at dksX6_mixWord_2 20 rfl rfl)
theorem dX6_mixWord_71 : decode cX6_mixWord 71 = .ok (.istore_n 2, 1) := dk_61 (dk_at dksX6_mixWord_2 23 rfl rfl)
theorem dX6_mixWord_72 : decode cX6_mixWord 72 = .ok (.iconst 0, 1) := dk_3 (dk_at dksX6_mixWord_3 0 rfl rfl)
theorem dX6_mixWord_73 : decode cX6_mixWord 73 = .ok (.istore_n 3, 1) := dk_62 (dk_at dksX6_mixWord_3 1 rfl rfl)
theorem dX6_mixWord_74 : decode cX6_mixWord 74 = .ok (.iload_n 3, 1) := dk_29 (dk_at dksX6_mixWord_3 2 rfl rfl)
theorem dX6_mixWord_75 : decode cX6_mixWord 75 = .ok (.aload_n 0, 1) := dk_42 (dk_at dksX6_mixWord_3 3 rfl rfl)
theorem dX6_mixWord_76 : decode cX6_mixWord 76 = .ok (.getfield 128, 3) := dk_180 0 128 (dk_at dksX6_mixWord_3 4 rfl rfl)
theorem dX6_mixWord_79 : decode cX6_mixWord 79 = .ok (.if_icmp .ge 19, 3) := dk_162 0 19 (dk_at dksX6_mixWord_3 7 rfl rfl)
theorem dX6_mixWord_82 : decode cX6_mixWord 82 = .ok (.aload_n 0, 1) := dk_42 (dk_at dksX6_mixWord_3 10 rfl rfl)
theorem dX6_mixWord_83 : decode cX6_mixWord 83 = .ok (.aload_n 0, 1) := dk_42 (dk_at dksX6_mixWord_3 11 rfl rfl)
theorem dX6_mixWord_84 : decode cX6_mixWord 84 = .ok (.getfield 28, 3) := dk_180 0 28 (dk_at dksX6_mixWord_3 12 rfl rfl)
theorem dX6_mixWord_87 : decode cX6_mixWord 87 = .ok (.iload_n 3, 1) := dk_29 (dk_at dksX6_mixWord_3 15 rfl rfl)
theorem dX6_mixWord_88 : decode cX6_mixWord 88 = .ok (.iaload, 1) := dk_46 (dk_at dksX6_mixWord_3 16 rfl rfl)
theorem dX6_mixWord_89 : decode cX6_mixWord 89 = .ok (.invokevirtual 203, 3) := dk_182 0 203 (dk_at dksX6_mixWord_3 17 rfl rfl)
theorem dX6_mixWord_92 : decode cX6_mixWord 92 = .ok (.iinc 3 1, 3) := dk_132 3 1 (dk_at dksX6_mixWord_3 20 rfl rfl)
theorem dX6_mixWord_95 : decode cX6_mixWord 95 = .ok (.goto (-21), 3) := dk_167 255 235 (dk_at dksX6_mixWord_4 0 rfl rfl)
theorem dX6_mixWord_98 : decode cX6_mixWord 98 = .ok (.return_, 1) := dk_177 (dk_at dksX6_mixWord_4 3 rfl rfl)
theorem q72 : (Jvm.Cond.initialized "RubberStampsModel") ∈ lw_all := lw_g (lw_at lw_m1 11 rfl) rfl
theorem q791 : (Jvm.Cond.selects "RubberStampsModel" ({ cls := "java/lang/Object", name := "getClass", desc := "()Ljava/lang/Class;" } : Jvm.MethodName) ({ cls := "java/lang/Object", name := "getClass", desc := "()Ljava/lang/Class;" } : Jvm.MethodName)) ∈ lw_all := lw_g (lw_at lw_m4 10 rfl) rfl
theorem q1452 : (Jvm.Cond.instantiable "RubberStampsModel" (18 : Nat)) ∈ lw_all := lw_g (lw_at lw_m6 191 rfl) rfl
theorem q1454 : (Jvm.Cond.instanceMethod ({ cls := "RubberStampsModel", name := "<init>", desc := "()V" } : Jvm.MethodName)) ∈ lw_all := lw_g (lw_at lw_m6 193 rfl) rfl
theorem q1455 : (Jvm.Cond.code ({ cls := "RubberStampsModel", name := "<init>", desc := "()V" } : Jvm.MethodName) prog_11_method_1_code (1 : Nat) (Option.none : Option Jvm.ClassFile.FieldType)) ∈ lw_all := lw_g (lw_at lw_m6 194 rfl) rfl
theorem q1456 : (Jvm.Cond.methodLink "RubberStampsModel" (1 : Nat) ({ cls := "java/lang/Object", name := "<init>", desc := "()V" } : Jvm.MethodName)) ∈ lw_all := lw_g (lw_at lw_m6 195 rfl) rfl
theorem q1457 : (Jvm.Cond.fieldLink "RubberStampsModel" (7 : Nat) "RubberStampsModel" "now" "[I") ∈ lw_all := lw_g (lw_at lw_m6 196 rfl) rfl
theorem q1458 : (Jvm.Cond.fieldLink "RubberStampsModel" (13 : Nat) "RubberStampsModel" "past" "[I") ∈ lw_all := lw_g (lw_at lw_m6 197 rfl) rfl
theorem q1459 : (Jvm.Cond.fieldLink "RubberStampsModel" (16 : Nat) "RubberStampsModel" "aside" "[I") ∈ lw_all := lw_g (lw_at lw_m6 198 rfl) rfl
theorem q1460 : (Jvm.Cond.fieldLink "RubberStampsModel" (19 : Nat) "RubberStampsModel" "made" "[I") ∈ lw_all := lw_g (lw_at lw_m6 199 rfl) rfl
theorem q1461 : (Jvm.Cond.fieldLink "RubberStampsModel" (47 : Nat) "RubberStampsModel" "saved" "I") ∈ lw_all := lw_g (lw_at lw_m6 200 rfl) rfl
theorem q1462 : (Jvm.Cond.fieldLink "RubberStampsModel" (43 : Nat) "RubberStampsModel" "refusal" "I") ∈ lw_all := lw_g (lw_at lw_m6 201 rfl) rfl
theorem q1463 : (Jvm.Cond.fieldLink "RubberStampsModel" (22 : Nat) "RubberStampsModel" "text" "[I") ∈ lw_all := lw_g (lw_at lw_m6 202 rfl) rfl
theorem q1464 : (Jvm.Cond.fieldLink "RubberStampsModel" (72 : Nat) "RubberStampsModel" "length" "I") ∈ lw_all := lw_g (lw_at lw_m6 203 rfl) rfl
theorem q1465 : (Jvm.Cond.fieldLink "RubberStampsModel" (75 : Nat) "RubberStampsModel" "spot" "I") ∈ lw_all := lw_g (lw_at lw_m6 204 rfl) rfl
theorem q1466 : (Jvm.Cond.fieldLink "RubberStampsModel" (25 : Nat) "RubberStampsModel" "least" "[I") ∈ lw_all := lw_g (lw_at lw_m6 205 rfl) rfl
theorem q1467 : (Jvm.Cond.fieldLink "RubberStampsModel" (28 : Nat) "RubberStampsModel" "plan" "[I") ∈ lw_all := lw_g (lw_at lw_m6 206 rfl) rfl
theorem q1468 : (Jvm.Cond.fieldLink "RubberStampsModel" (128 : Nat) "RubberStampsModel" "planMany" "I") ∈ lw_all := lw_g (lw_at lw_m6 207 rfl) rfl
theorem q1469 : (Jvm.Cond.fieldLink "RubberStampsModel" (31 : Nat) "RubberStampsModel" "tried" "[I") ∈ lw_all := lw_g (lw_at lw_m6 208 rfl) rfl
theorem q1470 : (Jvm.Cond.fieldLink "RubberStampsModel" (34 : Nat) "RubberStampsModel" "ahead" "[I") ∈ lw_all := lw_g (lw_at lw_m6 209 rfl) rfl
theorem q1471 : (Jvm.Cond.fieldLink "RubberStampsModel" (37 : Nat) "RubberStampsModel" "best" "[I") ∈ lw_all := lw_g (lw_at lw_m6 210 rfl) rfl
theorem q1472 : (Jvm.Cond.fieldLink "RubberStampsModel" (176 : Nat) "RubberStampsModel" "bestCleanings" "I") ∈ lw_all := lw_g (lw_at lw_m6 211 rfl) rfl
theorem q1473 : (Jvm.Cond.fieldLink "RubberStampsModel" (40 : Nat) "RubberStampsModel" "bestPart" "[I") ∈ lw_all := lw_g (lw_at lw_m6 212 rfl) rfl
theorem q1474 : (Jvm.Cond.fieldLink "RubberStampsModel" (199 : Nat) "RubberStampsModel" "hash" "J") ∈ lw_all := lw_g (lw_at lw_m6 213 rfl) rfl
theorem q1475 : (Jvm.Cond.laysFinal "RubberStampsModel" "RubberStampsModel" "now" "[I") ∈ lw_all := lw_g (lw_at lw_m6 214 rfl) rfl
theorem q1476 : (Jvm.Cond.soleField "RubberStampsModel" "now") ∈ lw_all := lw_g (lw_at lw_m6 215 rfl) rfl
theorem q1477 : (Jvm.Cond.laysFinal "RubberStampsModel" "RubberStampsModel" "past" "[I") ∈ lw_all := lw_g (lw_at lw_m6 216 rfl) rfl
theorem q1478 : (Jvm.Cond.soleField "RubberStampsModel" "past") ∈ lw_all := lw_g (lw_at lw_m6 217 rfl) rfl
theorem q1479 : (Jvm.Cond.laysFinal "RubberStampsModel" "RubberStampsModel" "aside" "[I") ∈ lw_all := lw_g (lw_at lw_m6 218 rfl) rfl
theorem q1480 : (Jvm.Cond.soleField "RubberStampsModel" "aside") ∈ lw_all := lw_g (lw_at lw_m6 219 rfl) rfl
theorem q1481 : (Jvm.Cond.laysFinal "RubberStampsModel" "RubberStampsModel" "made" "[I") ∈ lw_all := lw_g (lw_at lw_m6 220 rfl) rfl
theorem q1482 : (Jvm.Cond.soleField "RubberStampsModel" "made") ∈ lw_all := lw_g (lw_at lw_m6 221 rfl) rfl
theorem q1483 : (Jvm.Cond.lays "RubberStampsModel" "RubberStampsModel" "saved" "I") ∈ lw_all := lw_g (lw_at lw_m6 222 rfl) rfl
theorem q1484 : (Jvm.Cond.soleField "RubberStampsModel" "saved") ∈ lw_all := lw_g (lw_at lw_m6 223 rfl) rfl
theorem q1485 : (Jvm.Cond.lays "RubberStampsModel" "RubberStampsModel" "refusal" "I") ∈ lw_all := lw_g (lw_at lw_m6 224 rfl) rfl
theorem q1486 : (Jvm.Cond.soleField "RubberStampsModel" "refusal") ∈ lw_all := lw_g (lw_at lw_m6 225 rfl) rfl
theorem q1487 : (Jvm.Cond.laysFinal "RubberStampsModel" "RubberStampsModel" "text" "[I") ∈ lw_all := lw_g (lw_at lw_m6 226 rfl) rfl
theorem q1488 : (Jvm.Cond.soleField "RubberStampsModel" "text") ∈ lw_all := lw_g (lw_at lw_m6 227 rfl) rfl
theorem q1489 : (Jvm.Cond.lays "RubberStampsModel" "RubberStampsModel" "length" "I") ∈ lw_all := lw_g (lw_at lw_m6 228 rfl) rfl
theorem q1490 : (Jvm.Cond.soleField "RubberStampsModel" "length") ∈ lw_all := lw_g (lw_at lw_m6 229 rfl) rfl
theorem q1491 : (Jvm.Cond.lays "RubberStampsModel" "RubberStampsModel" "spot" "I") ∈ lw_all := lw_g (lw_at lw_m6 230 rfl) rfl
theorem q1492 : (Jvm.Cond.soleField "RubberStampsModel" "spot") ∈ lw_all := lw_g (lw_at lw_m6 231 rfl) rfl
theorem q1493 : (Jvm.Cond.laysFinal "RubberStampsModel" "RubberStampsModel" "least" "[I") ∈ lw_all := lw_g (lw_at lw_m6 232 rfl) rfl
theorem q1494 : (Jvm.Cond.soleField "RubberStampsModel" "least") ∈ lw_all := lw_g (lw_at lw_m6 233 rfl) rfl
theorem q1495 : (Jvm.Cond.laysFinal "RubberStampsModel" "RubberStampsModel" "plan" "[I") ∈ lw_all := lw_g (lw_at lw_m6 234 rfl) rfl
theorem q1496 : (Jvm.Cond.soleField "RubberStampsModel" "plan") ∈ lw_all := lw_g (lw_at lw_m6 235 rfl) rfl
theorem q1497 : (Jvm.Cond.lays "RubberStampsModel" "RubberStampsModel" "planMany" "I") ∈ lw_all := lw_g (lw_at lw_m6 236 rfl) rfl
theorem q1498 : (Jvm.Cond.soleField "RubberStampsModel" "planMany") ∈ lw_all := lw_g (lw_at lw_m6 237 rfl) rfl
theorem q1499 : (Jvm.Cond.laysFinal "RubberStampsModel" "RubberStampsModel" "tried" "[I") ∈ lw_all := lw_g (lw_at lw_m6 238 rfl) rfl
theorem q1500 : (Jvm.Cond.soleField "RubberStampsModel" "tried") ∈ lw_all := lw_g (lw_at lw_m6 239 rfl) rfl
theorem q1501 : (Jvm.Cond.laysFinal "RubberStampsModel" "RubberStampsModel" "ahead" "[I") ∈ lw_all := lw_g (lw_at lw_m7 0 rfl) rfl
theorem q1502 : (Jvm.Cond.soleField "RubberStampsModel" "ahead") ∈ lw_all := lw_g (lw_at lw_m7 1 rfl) rfl
theorem q1503 : (Jvm.Cond.laysFinal "RubberStampsModel" "RubberStampsModel" "best" "[I") ∈ lw_all := lw_g (lw_at lw_m7 2 rfl) rfl
theorem q1504 : (Jvm.Cond.soleField "RubberStampsModel" "best") ∈ lw_all := lw_g (lw_at lw_m7 3 rfl) rfl
theorem q1505 : (Jvm.Cond.lays "RubberStampsModel" "RubberStampsModel" "bestCleanings" "I") ∈ lw_all := lw_g (lw_at lw_m7 4 rfl) rfl
theorem q1506 : (Jvm.Cond.soleField "RubberStampsModel" "bestCleanings") ∈ lw_all := lw_g (lw_at lw_m7 5 rfl) rfl
theorem q1507 : (Jvm.Cond.laysFinal "RubberStampsModel" "RubberStampsModel" "bestPart" "[I") ∈ lw_all := lw_g (lw_at lw_m7 6 rfl) rfl
theorem q1508 : (Jvm.Cond.soleField "RubberStampsModel" "bestPart") ∈ lw_all := lw_g (lw_at lw_m7 7 rfl) rfl
theorem q1509 : (Jvm.Cond.lays "RubberStampsModel" "RubberStampsModel" "hash" "J") ∈ lw_all := lw_g (lw_at lw_m7 8 rfl) rfl
theorem q1510 : (Jvm.Cond.soleField "RubberStampsModel" "hash") ∈ lw_all := lw_g (lw_at lw_m7 9 rfl) rfl
theorem q1511 : (Jvm.Cond.superclass "RubberStampsModel" "java/lang/Object") ∈ lw_all := lw_g (lw_at lw_m7 10 rfl) rfl
theorem q1513 : (Jvm.Cond.instanceMethod ({ cls := "RubberStampsModel", name := "thrown", desc := "()I" } : Jvm.MethodName)) ∈ lw_all := lw_g (lw_at lw_m7 12 rfl) rfl
theorem q1514 : (Jvm.Cond.selects "RubberStampsModel" ({ cls := "RubberStampsModel", name := "thrown", desc := "()I" } : Jvm.MethodName) ({ cls := "RubberStampsModel", name := "thrown", desc := "()I" } : Jvm.MethodName)) ∈ lw_all := lw_g (lw_at lw_m7 13 rfl) rfl
theorem q1515 : (Jvm.Cond.code ({ cls := "RubberStampsModel", name := "thrown", desc := "()I" } : Jvm.MethodName) prog_11_method_2_code (1 : Nat) (Option.some Jvm.ClassFile.FieldType.int)) ∈ lw_all := lw_g (lw_at lw_m7 14 rfl) rfl
theorem q1517 : (Jvm.Cond.instanceMethod ({ cls := "RubberStampsModel", name := "undo", desc := "()I" } : Jvm.MethodName)) ∈ lw_all := lw_g (lw_at lw_m7 16 rfl) rfl
theorem q1518 : (Jvm.Cond.selects "RubberStampsModel" ({ cls := "RubberStampsModel", name := "undo", desc := "()I" } : Jvm.MethodName) ({ cls := "RubberStampsModel", name := "undo", desc := "()I" } : Jvm.MethodName)) ∈ lw_all := lw_g (lw_at lw_m7 17 rfl) rfl
theorem q1519 : (Jvm.Cond.code ({ cls := "RubberStampsModel", name := "undo", desc := "()I" } : Jvm.MethodName) prog_11_method_6_code (2 : Nat) (Option.some Jvm.ClassFile.FieldType.int)) ∈ lw_all := lw_g (lw_at lw_m7 18 rfl) rfl
theorem q1520 : (Jvm.Cond.methodLink "RubberStampsModel" (50 : Nat) ({ cls := "RubberStampsModel", name := "refused", desc := "(I)Z" } : Jvm.MethodName)) ∈ lw_all := lw_g (lw_at lw_m7 19 rfl) rfl
theorem q1521 : (Jvm.Cond.privateMethod ({ cls := "RubberStampsModel", name := "refused", desc := "(I)Z" } : Jvm.MethodName)) ∈ lw_tbl := lw_at lw_m7 20 rfl
theorem q1522 : (Jvm.Cond.instanceMethod ({ cls := "RubberStampsModel", name := "refused", desc := "(I)Z" } : Jvm.MethodName)) ∈ lw_all := lw_g (lw_at lw_m7 21 rfl) rfl
theorem q1523 : (Jvm.Cond.code ({ cls := "RubberStampsModel", name := "refused", desc := "(I)Z" } : Jvm.MethodName) prog_11_method_3_code (2 : Nat) (Option.some Jvm.ClassFile.FieldType.boolean)) ∈ lw_all := lw_g (lw_at lw_m7 22 rfl) rfl
theorem q1525 : (Jvm.Cond.instanceMethod ({ cls := "RubberStampsModel", name := "append", desc := "(I)I" } : Jvm.MethodName)) ∈ lw_all := lw_g (lw_at lw_m7 24 rfl) rfl
theorem q1526 : (Jvm.Cond.selects "RubberStampsModel" ({ cls := "RubberStampsModel", name := "append", desc := "(I)I" } : Jvm.MethodName) ({ cls := "RubberStampsModel", name := "append", desc := "(I)I" } : Jvm.MethodName)) ∈ lw_all := lw_g (lw_at lw_m7 25 rfl) rfl
theorem q1527 : (Jvm.Cond.code ({ cls := "RubberStampsModel", name := "append", desc := "(I)I" } : Jvm.MethodName) prog_11_method_18_code (2 : Nat) (Option.some Jvm.ClassFile.FieldType.int)) ∈ lw_all := lw_g (lw_at lw_m7 26 rfl) rfl
theorem q1528 : (Jvm.Cond.methodLink "RubberStampsModel" (54 : Nat) ({ cls := "RubberStampsModel", name := "in", desc := "(III)Z" } : Jvm.MethodName)) ∈ lw_all := lw_g (lw_at lw_m7 27 rfl) rfl
theorem q1529 : (Jvm.Cond.static ({ cls := "RubberStampsModel", name := "in", desc := "(III)Z" } : Jvm.MethodName)) ∈ lw_all := lw_g (lw_at lw_m7 28 rfl) rfl
theorem q1530 : (Jvm.Cond.code ({ cls := "RubberStampsModel", name := "in", desc := "(III)Z" } : Jvm.MethodName) prog_11_method_4_code (3 : Nat) (Option.some Jvm.ClassFile.FieldType.boolean)) ∈ lw_all := lw_g (lw_at lw_m7 29 rfl) rfl
theorem q1532 : (Jvm.Cond.instanceMethod ({ cls := "RubberStampsModel", name := "clearText", desc := "()I" } : Jvm.MethodName)) ∈ lw_all := lw_g (lw_at lw_m7 31 rfl) rfl
theorem q1533 : (Jvm.Cond.selects "RubberStampsModel" ({ cls := "RubberStampsModel", name := "clearText", desc := "()I" } : Jvm.MethodName) ({ cls := "RubberStampsModel", name := "clearText", desc := "()I" } : Jvm.MethodName)) ∈ lw_all := lw_g (lw_at lw_m7 32 rfl) rfl
theorem q1534 : (Jvm.Cond.code ({ cls := "RubberStampsModel", name := "clearText", desc := "()I" } : Jvm.MethodName) prog_11_method_19_code (2 : Nat) (Option.some Jvm.ClassFile.FieldType.int)) ∈ lw_all := lw_g (lw_at lw_m7 33 rfl) rfl
theorem q1536 : (Jvm.Cond.instanceMethod ({ cls := "RubberStampsModel", name := "parse", desc := "()I" } : Jvm.MethodName)) ∈ lw_all := lw_g (lw_at lw_m7 35 rfl) rfl
theorem q1537 : (Jvm.Cond.selects "RubberStampsModel" ({ cls := "RubberStampsModel", name := "parse", desc := "()I" } : Jvm.MethodName) ({ cls := "RubberStampsModel", name := "parse", desc := "()I" } : Jvm.MethodName)) ∈ lw_all := lw_g (lw_at lw_m7 36 rfl) rfl
theorem q1538 : (Jvm.Cond.code ({ cls := "RubberStampsModel", name := "parse", desc := "()I" } : Jvm.MethodName) prog_11_method_24_code (3 : Nat) (Option.some Jvm.ClassFile.FieldType.int)) ∈ lw_all := lw_g (lw_at lw_m7 37 rfl) rfl
theorem q1539 : (Jvm.Cond.methodLink "RubberStampsModel" (92 : Nat) ({ cls := "RubberStampsModel", name := "keeps", desc := "()V" } : Jvm.MethodName)) ∈ lw_all := lw_g (lw_at lw_m7 38 rfl) rfl
theorem q1540 : (Jvm.Cond.privateMethod ({ cls := "RubberStampsModel", name := "keeps", desc := "()V" } : Jvm.MethodName)) ∈ lw_tbl := lw_at lw_m7 39 rfl
theorem q1541 : (Jvm.Cond.instanceMethod ({ cls := "RubberStampsModel", name := "keeps", desc := "()V" } : Jvm.MethodName)) ∈ lw_all := lw_g (lw_at lw_m7 40 rfl) rfl
theorem q1542 : (Jvm.Cond.code ({ cls := "RubberStampsModel", name := "keeps", desc := "()V" } : Jvm.MethodName) prog_11_method_7_code (2 : Nat) (Option.none : Option Jvm.ClassFile.FieldType)) ∈ lw_all := lw_g (lw_at lw_m7 41 rfl) rfl
theorem q1543 : (Jvm.Cond.methodLink "RubberStampsModel" (95 : Nat) ({ cls := "RubberStampsModel", name := "takesItem", desc := "()Z" } : Jvm.MethodName)) ∈ lw_all := lw_g (lw_at lw_m7 42 rfl) rfl
theorem q1544 : (Jvm.Cond.privateMethod ({ cls := "RubberStampsModel", name := "takesItem", desc := "()Z" } : Jvm.MethodName)) ∈ lw_tbl := lw_at lw_m7 43 rfl
theorem q1545 : (Jvm.Cond.instanceMethod ({ cls := "RubberStampsModel", name := "takesItem", desc := "()Z" } : Jvm.MethodName)) ∈ lw_all := lw_g (lw_at lw_m7 44 rfl) rfl
theorem q1546 : (Jvm.Cond.code ({ cls := "RubberStampsModel", name := "takesItem", desc := "()Z" } : Jvm.MethodName) prog_11_method_22_code (2 : Nat) (Option.some Jvm.ClassFile.FieldType.boolean)) ∈ lw_all := lw_g (lw_at lw_m7 45 rfl) rfl
theorem q1547 : (Jvm.Cond.methodLink "RubberStampsModel" (78 : Nat) ({ cls := "RubberStampsModel", name := "isAt", desc := "(II)Z" } : Jvm.MethodName)) ∈ lw_all := lw_g (lw_at lw_m7 46 rfl) rfl
theorem q1548 : (Jvm.Cond.privateMethod ({ cls := "RubberStampsModel", name := "isAt", desc := "(II)Z" } : Jvm.MethodName)) ∈ lw_tbl := lw_at lw_m7 47 rfl
theorem q1549 : (Jvm.Cond.instanceMethod ({ cls := "RubberStampsModel", name := "isAt", desc := "(II)Z" } : Jvm.MethodName)) ∈ lw_all := lw_g (lw_at lw_m7 48 rfl) rfl
theorem q1550 : (Jvm.Cond.code ({ cls := "RubberStampsModel", name := "isAt", desc := "(II)Z" } : Jvm.MethodName) prog_11_method_20_code (3 : Nat) (Option.some Jvm.ClassFile.FieldType.boolean)) ∈ lw_all := lw_g (lw_at lw_m7 49 rfl) rfl
theorem q1551 : (Jvm.Cond.methodLink "RubberStampsModel" (58 : Nat) ({ cls := "RubberStampsModel", name := "stampAt", desc := "(I)I" } : Jvm.MethodName)) ∈ lw_all := lw_g (lw_at lw_m7 50 rfl) rfl
theorem q1552 : (Jvm.Cond.static ({ cls := "RubberStampsModel", name := "stampAt", desc := "(I)I" } : Jvm.MethodName)) ∈ lw_all := lw_g (lw_at lw_m7 51 rfl) rfl
theorem q1553 : (Jvm.Cond.code ({ cls := "RubberStampsModel", name := "stampAt", desc := "(I)I" } : Jvm.MethodName) prog_11_method_11_code (1 : Nat) (Option.some Jvm.ClassFile.FieldType.int)) ∈ lw_all := lw_g (lw_at lw_m7 52 rfl) rfl
theorem q1554 : (Jvm.Cond.methodLink "RubberStampsModel" (82 : Nat) ({ cls := "RubberStampsModel", name := "clears", desc := "(I)V" } : Jvm.MethodName)) ∈ lw_all := lw_g (lw_at lw_m7 53 rfl) rfl
theorem q1555 : (Jvm.Cond.privateMethod ({ cls := "RubberStampsModel", name := "clears", desc := "(I)V" } : Jvm.MethodName)) ∈ lw_tbl := lw_at lw_m7 54 rfl
theorem q1556 : (Jvm.Cond.instanceMethod ({ cls := "RubberStampsModel", name := "clears", desc := "(I)V" } : Jvm.MethodName)) ∈ lw_all := lw_g (lw_at lw_m7 55 rfl) rfl
theorem q1557 : (Jvm.Cond.code ({ cls := "RubberStampsModel", name := "clears", desc := "(I)V" } : Jvm.MethodName) prog_11_method_23_code (3 : Nat) (Option.none : Option Jvm.ClassFile.FieldType)) ∈ lw_all := lw_g (lw_at lw_m7 56 rfl) rfl
theorem q1558 : (Jvm.Cond.methodLink "RubberStampsModel" (86 : Nat) ({ cls := "RubberStampsModel", name := "takesLetters", desc := "(III)Z" } : Jvm.MethodName)) ∈ lw_all := lw_g (lw_at lw_m7 57 rfl) rfl
theorem q1559 : (Jvm.Cond.privateMethod ({ cls := "RubberStampsModel", name := "takesLetters", desc := "(III)Z" } : Jvm.MethodName)) ∈ lw_tbl := lw_at lw_m7 58 rfl
theorem q1560 : (Jvm.Cond.instanceMethod ({ cls := "RubberStampsModel", name := "takesLetters", desc := "(III)Z" } : Jvm.MethodName)) ∈ lw_all := lw_g (lw_at lw_m7 59 rfl) rfl
theorem q1561 : (Jvm.Cond.code ({ cls := "RubberStampsModel", name := "takesLetters", desc := "(III)Z" } : Jvm.MethodName) prog_11_method_21_code (5 : Nat) (Option.some Jvm.ClassFile.FieldType.boolean)) ∈ lw_all := lw_g (lw_at lw_m7 60 rfl) rfl
theorem q1562 : (Jvm.Cond.methodLink "RubberStampsModel" (89 : Nat) ({ cls := "RubberStampsModel", name := "wordAt", desc := "(I)I" } : Jvm.MethodName)) ∈ lw_all := lw_g (lw_at lw_m7 61 rfl) rfl
theorem q1563 : (Jvm.Cond.static ({ cls := "RubberStampsModel", name := "wordAt", desc := "(I)I" } : Jvm.MethodName)) ∈ lw_all := lw_g (lw_at lw_m7 62 rfl) rfl
theorem q1564 : (Jvm.Cond.code ({ cls := "RubberStampsModel", name := "wordAt", desc := "(I)I" } : Jvm.MethodName) prog_11_method_12_code (1 : Nat) (Option.some Jvm.ClassFile.FieldType.int)) ∈ lw_all := lw_g (lw_at lw_m7 63 rfl) rfl
theorem q1565 : (Jvm.Cond.methodLink "RubberStampsModel" (99 : Nat) ({ cls := "RubberStampsModel", name := "takesBack", desc := "()V" } : Jvm.MethodName)) ∈ lw_all := lw_g (lw_at lw_m7 64 rfl) rfl
theorem q1566 : (Jvm.Cond.privateMethod ({ cls := "RubberStampsModel", name := "takesBack", desc := "()V" } : Jvm.MethodName)) ∈ lw_tbl := lw_at lw_m7 65 rfl
theorem q1567 : (Jvm.Cond.instanceMethod ({ cls := "RubberStampsModel", name := "takesBack", desc := "()V" } : Jvm.MethodName)) ∈ lw_all := lw_g (lw_at lw_m7 66 rfl) rfl
theorem q1568 : (Jvm.Cond.code ({ cls := "RubberStampsModel", name := "takesBack", desc := "()V" } : Jvm.MethodName) prog_11_method_8_code (2 : Nat) (Option.none : Option Jvm.ClassFile.FieldType)) ∈ lw_all := lw_g (lw_at lw_m7 67 rfl) rfl
theorem q1569 : (Jvm.Cond.methodLink "RubberStampsModel" (102 : Nat) ({ cls := "RubberStampsModel", name := "saves", desc := "()V" } : Jvm.MethodName)) ∈ lw_all := lw_g (lw_at lw_m7 68 rfl) rfl
theorem q1570 : (Jvm.Cond.privateMethod ({ cls := "RubberStampsModel", name := "saves", desc := "()V" } : Jvm.MethodName)) ∈ lw_tbl := lw_at lw_m7 69 rfl
theorem q1571 : (Jvm.Cond.instanceMethod ({ cls := "RubberStampsModel", name := "saves", desc := "()V" } : Jvm.MethodName)) ∈ lw_all := lw_g (lw_at lw_m7 70 rfl) rfl
theorem q1572 : (Jvm.Cond.code ({ cls := "RubberStampsModel", name := "saves", desc := "()V" } : Jvm.MethodName) prog_11_method_5_code (2 : Nat) (Option.none : Option Jvm.ClassFile.FieldType)) ∈ lw_all := lw_g (lw_at lw_m7 71 rfl) rfl
theorem q1574 : (Jvm.Cond.instanceMethod ({ cls := "RubberStampsModel", name := "cut", desc := "(III)I" } : Jvm.MethodName)) ∈ lw_all := lw_g (lw_at lw_m7 73 rfl) rfl
theorem q1575 : (Jvm.Cond.selects "RubberStampsModel" ({ cls := "RubberStampsModel", name := "cut", desc := "(III)I" } : Jvm.MethodName) ({ cls := "RubberStampsModel", name := "cut", desc := "(III)I" } : Jvm.MethodName)) ∈ lw_all := lw_g (lw_at lw_m7 74 rfl) rfl
theorem q1576 : (Jvm.Cond.code ({ cls := "RubberStampsModel", name := "cut", desc := "(III)I" } : Jvm.MethodName) prog_11_method_27_code (4 : Nat) (Option.some Jvm.ClassFile.FieldType.int)) ∈ lw_all := lw_g (lw_at lw_m7 75 rfl) rfl
theorem q1577 : (Jvm.Cond.methodLink "RubberStampsModel" (105 : Nat) ({ cls := "RubberStampsModel", name := "isWord", desc := "(I)Z" } : Jvm.MethodName)) ∈ lw_all := lw_g (lw_at lw_m7 76 rfl) rfl
theorem q1578 : (Jvm.Cond.privateMethod ({ cls := "RubberStampsModel", name := "isWord", desc := "(I)Z" } : Jvm.MethodName)) ∈ lw_tbl := lw_at lw_m7 77 rfl
theorem q1579 : (Jvm.Cond.instanceMethod ({ cls := "RubberStampsModel", name := "isWord", desc := "(I)Z" } : Jvm.MethodName)) ∈ lw_all := lw_g (lw_at lw_m7 78 rfl) rfl
theorem q1580 : (Jvm.Cond.code ({ cls := "RubberStampsModel", name := "isWord", desc := "(I)Z" } : Jvm.MethodName) prog_11_method_10_code (2 : Nat) (Option.some Jvm.ClassFile.FieldType.boolean)) ∈ lw_all := lw_g (lw_at lw_m7 79 rfl) rfl
theorem q1581 : (Jvm.Cond.methodLink "RubberStampsModel" (108 : Nat) ({ cls := "RubberStampsModel", name := "isPart", desc := "(III)Z" } : Jvm.MethodName)) ∈ lw_all := lw_g (lw_at lw_m7 80 rfl) rfl
theorem q1582 : (Jvm.Cond.privateMethod ({ cls := "RubberStampsModel", name := "isPart", desc := "(III)Z" } : Jvm.MethodName)) ∈ lw_tbl := lw_at lw_m7 81 rfl
theorem q1583 : (Jvm.Cond.instanceMethod ({ cls := "RubberStampsModel", name := "isPart", desc := "(III)Z" } : Jvm.MethodName)) ∈ lw_all := lw_g (lw_at lw_m7 82 rfl) rfl
theorem q1584 : (Jvm.Cond.code ({ cls := "RubberStampsModel", name := "isPart", desc := "(III)Z" } : Jvm.MethodName) prog_11_method_26_code (5 : Nat) (Option.some Jvm.ClassFile.FieldType.boolean)) ∈ lw_all := lw_g (lw_at lw_m7 83 rfl) rfl
theorem q1585 : (Jvm.Cond.methodLink "RubberStampsModel" (111 : Nat) ({ cls := "RubberStampsModel", name := "comes", desc := "(III)I" } : Jvm.MethodName)) ∈ lw_all := lw_g (lw_at lw_m7 84 rfl) rfl
theorem q1586 : (Jvm.Cond.privateMethod ({ cls := "RubberStampsModel", name := "comes", desc := "(III)I" } : Jvm.MethodName)) ∈ lw_tbl := lw_at lw_m7 85 rfl
theorem q1587 : (Jvm.Cond.instanceMethod ({ cls := "RubberStampsModel", name := "comes", desc := "(III)I" } : Jvm.MethodName)) ∈ lw_all := lw_g (lw_at lw_m7 86 rfl) rfl
theorem q1588 : (Jvm.Cond.code ({ cls := "RubberStampsModel", name := "comes", desc := "(III)I" } : Jvm.MethodName) prog_11_method_25_code (6 : Nat) (Option.some Jvm.ClassFile.FieldType.int)) ∈ lw_all := lw_g (lw_at lw_m7 87 rfl) rfl
theorem q1590 : (Jvm.Cond.instanceMethod ({ cls := "RubberStampsModel", name := "remove", desc := "(I)I" } : Jvm.MethodName)) ∈ lw_all := lw_g (lw_at lw_m7 89 rfl) rfl
theorem q1591 : (Jvm.Cond.selects "RubberStampsModel" ({ cls := "RubberStampsModel", name := "remove", desc := "(I)I" } : Jvm.MethodName) ({ cls := "RubberStampsModel", name := "remove", desc := "(I)I" } : Jvm.MethodName)) ∈ lw_all := lw_g (lw_at lw_m7 90 rfl) rfl
theorem q1592 : (Jvm.Cond.code ({ cls := "RubberStampsModel", name := "remove", desc := "(I)I" } : Jvm.MethodName) prog_11_method_28_code (3 : Nat) (Option.some Jvm.ClassFile.FieldType.int)) ∈ lw_all := lw_g (lw_at lw_m7 91 rfl) rfl
theorem q1593 : (Jvm.Cond.methodLink "RubberStampsModel" (115 : Nat) ({ cls := "RubberStampsModel", name := "isStamp", desc := "(I)Z" } : Jvm.MethodName)) ∈ lw_all := lw_g (lw_at lw_m7 92 rfl) rfl
theorem q1594 : (Jvm.Cond.privateMethod ({ cls := "RubberStampsModel", name := "isStamp", desc := "(I)Z" } : Jvm.MethodName)) ∈ lw_tbl := lw_at lw_m7 93 rfl
theorem q1595 : (Jvm.Cond.instanceMethod ({ cls := "RubberStampsModel", name := "isStamp", desc := "(I)Z" } : Jvm.MethodName)) ∈ lw_all := lw_g (lw_at lw_m7 94 rfl) rfl
theorem q1596 : (Jvm.Cond.code ({ cls := "RubberStampsModel", name := "isStamp", desc := "(I)Z" } : Jvm.MethodName) prog_11_method_9_code (2 : Nat) (Option.some Jvm.ClassFile.FieldType.boolean)) ∈ lw_all := lw_g (lw_at lw_m7 95 rfl) rfl
theorem q1598 : (Jvm.Cond.instanceMethod ({ cls := "RubberStampsModel", name := "drop", desc := "(I)I" } : Jvm.MethodName)) ∈ lw_all := lw_g (lw_at lw_m7 97 rfl) rfl
theorem q1599 : (Jvm.Cond.selects "RubberStampsModel" ({ cls := "RubberStampsModel", name := "drop", desc := "(I)I" } : Jvm.MethodName) ({ cls := "RubberStampsModel", name := "drop", desc := "(I)I" } : Jvm.MethodName)) ∈ lw_all := lw_g (lw_at lw_m7 98 rfl) rfl
theorem q1600 : (Jvm.Cond.code ({ cls := "RubberStampsModel", name := "drop", desc := "(I)I" } : Jvm.MethodName) prog_11_method_29_code (3 : Nat) (Option.some Jvm.ClassFile.FieldType.int)) ∈ lw_all := lw_g (lw_at lw_m7 99 rfl) rfl
theorem q1602 : (Jvm.Cond.instanceMethod ({ cls := "RubberStampsModel", name := "setColor", desc := "(II)I" } : Jvm.MethodName)) ∈ lw_all := lw_g (lw_at lw_m7 101 rfl) rfl
theorem q1603 : (Jvm.Cond.selects "RubberStampsModel" ({ cls := "RubberStampsModel", name := "setColor", desc := "(II)I" } : Jvm.MethodName) ({ cls := "RubberStampsModel", name := "setColor", desc := "(II)I" } : Jvm.MethodName)) ∈ lw_all := lw_g (lw_at lw_m7 102 rfl) rfl
theorem q1604 : (Jvm.Cond.code ({ cls := "RubberStampsModel", name := "setColor", desc := "(II)I" } : Jvm.MethodName) prog_11_method_30_code (4 : Nat) (Option.some Jvm.ClassFile.FieldType.int)) ∈ lw_all := lw_g (lw_at lw_m7 103 rfl) rfl
theorem q1606 : (Jvm.Cond.instanceMethod ({ cls := "RubberStampsModel", name := "setLimits", desc := "(II)I" } : Jvm.MethodName)) ∈ lw_all := lw_g (lw_at lw_m7 105 rfl) rfl
theorem q1607 : (Jvm.Cond.selects "RubberStampsModel" ({ cls := "RubberStampsModel", name := "setLimits", desc := "(II)I" } : Jvm.MethodName) ({ cls := "RubberStampsModel", name := "setLimits", desc := "(II)I" } : Jvm.MethodName)) ∈ lw_all := lw_g (lw_at lw_m7 106 rfl) rfl
theorem q1608 : (Jvm.Cond.code ({ cls := "RubberStampsModel", name := "setLimits", desc := "(II)I" } : Jvm.MethodName) prog_11_method_31_code (4 : Nat) (Option.some Jvm.ClassFile.FieldType.int)) ∈ lw_all := lw_g (lw_at lw_m7 107 rfl) rfl
theorem q1610 : (Jvm.Cond.instanceMethod ({ cls := "RubberStampsModel", name := "clean", desc := "(I)I" } : Jvm.MethodName)) ∈ lw_all := lw_g (lw_at lw_m7 109 rfl) rfl
theorem q1611 : (Jvm.Cond.selects "RubberStampsModel" ({ cls := "RubberStampsModel", name := "clean", desc := "(I)I" } : Jvm.MethodName) ({ cls := "RubberStampsModel", name := "clean", desc := "(I)I" } : Jvm.MethodName)) ∈ lw_all := lw_g (lw_at lw_m7 110 rfl) rfl
theorem q1612 : (Jvm.Cond.code ({ cls := "RubberStampsModel", name := "clean", desc := "(I)I" } : Jvm.MethodName) prog_11_method_32_code (4 : Nat) (Option.some Jvm.ClassFile.FieldType.int)) ∈ lw_all := lw_g (lw_at lw_m7 111 rfl) rfl
theorem q1614 : (Jvm.Cond.instanceMethod ({ cls := "RubberStampsModel", name := "value", desc := "(I)I" } : Jvm.MethodName)) ∈ lw_all := lw_g (lw_at lw_m7 113 rfl) rfl
theorem q1615 : (Jvm.Cond.selects "RubberStampsModel" ({ cls := "RubberStampsModel", name := "value", desc := "(I)I" } : Jvm.MethodName) ({ cls := "RubberStampsModel", name := "value", desc := "(I)I" } : Jvm.MethodName)) ∈ lw_all := lw_g (lw_at lw_m7 114 rfl) rfl
theorem q1616 : (Jvm.Cond.code ({ cls := "RubberStampsModel", name := "value", desc := "(I)I" } : Jvm.MethodName) prog_11_method_42_code (2 : Nat) (Option.some Jvm.ClassFile.FieldType.int)) ∈ lw_all := lw_g (lw_at lw_m7 115 rfl) rfl
theorem q1617 : (Jvm.Cond.methodLink "RubberStampsModel" (148 : Nat) ({ cls := "RubberStampsModel", name := "tellValue", desc := "(I)I" } : Jvm.MethodName)) ∈ lw_all := lw_g (lw_at lw_m7 116 rfl) rfl
theorem q1618 : (Jvm.Cond.privateMethod ({ cls := "RubberStampsModel", name := "tellValue", desc := "(I)I" } : Jvm.MethodName)) ∈ lw_tbl := lw_at lw_m7 117 rfl
theorem q1619 : (Jvm.Cond.instanceMethod ({ cls := "RubberStampsModel", name := "tellValue", desc := "(I)I" } : Jvm.MethodName)) ∈ lw_all := lw_g (lw_at lw_m7 118 rfl) rfl
theorem q1620 : (Jvm.Cond.code ({ cls := "RubberStampsModel", name := "tellValue", desc := "(I)I" } : Jvm.MethodName) prog_11_method_41_code (2 : Nat) (Option.some Jvm.ClassFile.FieldType.int)) ∈ lw_all := lw_g (lw_at lw_m7 119 rfl) rfl
theorem q1621 : (Jvm.Cond.methodLink "RubberStampsModel" (142 : Nat) ({ cls := "RubberStampsModel", name := "wornOut", desc := "()I" } : Jvm.MethodName)) ∈ lw_all := lw_g (lw_at lw_m7 120 rfl) rfl
theorem q1622 : (Jvm.Cond.privateMethod ({ cls := "RubberStampsModel", name := "wornOut", desc := "()I" } : Jvm.MethodName)) ∈ lw_tbl := lw_at lw_m7 121 rfl
theorem q1623 : (Jvm.Cond.instanceMethod ({ cls := "RubberStampsModel", name := "wornOut", desc := "()I" } : Jvm.MethodName)) ∈ lw_all := lw_g (lw_at lw_m7 122 rfl) rfl
theorem q1624 : (Jvm.Cond.code ({ cls := "RubberStampsModel", name := "wornOut", desc := "()I" } : Jvm.MethodName) prog_11_method_39_code (3 : Nat) (Option.some Jvm.ClassFile.FieldType.int)) ∈ lw_all := lw_g (lw_at lw_m7 123 rfl) rfl
theorem q1625 : (Jvm.Cond.methodLink "RubberStampsModel" (118 : Nat) ({ cls := "RubberStampsModel", name := "isWorn", desc := "(I)Z" } : Jvm.MethodName)) ∈ lw_all := lw_g (lw_at lw_m7 124 rfl) rfl
theorem q1626 : (Jvm.Cond.privateMethod ({ cls := "RubberStampsModel", name := "isWorn", desc := "(I)Z" } : Jvm.MethodName)) ∈ lw_tbl := lw_at lw_m7 125 rfl
theorem q1627 : (Jvm.Cond.instanceMethod ({ cls := "RubberStampsModel", name := "isWorn", desc := "(I)Z" } : Jvm.MethodName)) ∈ lw_all := lw_g (lw_at lw_m7 126 rfl) rfl
theorem q1628 : (Jvm.Cond.code ({ cls := "RubberStampsModel", name := "isWorn", desc := "(I)Z" } : Jvm.MethodName) prog_11_method_13_code (2 : Nat) (Option.some Jvm.ClassFile.FieldType.boolean)) ∈ lw_all := lw_g (lw_at lw_m7 127 rfl) rfl
theorem q1629 : (Jvm.Cond.methodLink "RubberStampsModel" (145 : Nat) ({ cls := "RubberStampsModel", name := "withPlan", desc := "()I" } : Jvm.MethodName)) ∈ lw_all := lw_g (lw_at lw_m7 128 rfl) rfl
theorem q1630 : (Jvm.Cond.privateMethod ({ cls := "RubberStampsModel", name := "withPlan", desc := "()I" } : Jvm.MethodName)) ∈ lw_tbl := lw_at lw_m7 129 rfl
theorem q1631 : (Jvm.Cond.instanceMethod ({ cls := "RubberStampsModel", name := "withPlan", desc := "()I" } : Jvm.MethodName)) ∈ lw_all := lw_g (lw_at lw_m7 130 rfl) rfl
theorem q1632 : (Jvm.Cond.code ({ cls := "RubberStampsModel", name := "withPlan", desc := "()I" } : Jvm.MethodName) prog_11_method_40_code (3 : Nat) (Option.some Jvm.ClassFile.FieldType.int)) ∈ lw_all := lw_g (lw_at lw_m7 131 rfl) rfl
theorem q1633 : (Jvm.Cond.methodLink "RubberStampsModel" (135 : Nat) ({ cls := "RubberStampsModel", name := "fresh", desc := "()I" } : Jvm.MethodName)) ∈ lw_all := lw_g (lw_at lw_m7 132 rfl) rfl
theorem q1634 : (Jvm.Cond.privateMethod ({ cls := "RubberStampsModel", name := "fresh", desc := "()I" } : Jvm.MethodName)) ∈ lw_tbl := lw_at lw_m7 133 rfl
theorem q1635 : (Jvm.Cond.instanceMethod ({ cls := "RubberStampsModel", name := "fresh", desc := "()I" } : Jvm.MethodName)) ∈ lw_all := lw_g (lw_at lw_m7 134 rfl) rfl
theorem q1636 : (Jvm.Cond.code ({ cls := "RubberStampsModel", name := "fresh", desc := "()I" } : Jvm.MethodName) prog_11_method_34_code (3 : Nat) (Option.some Jvm.ClassFile.FieldType.int)) ∈ lw_all := lw_g (lw_at lw_m7 135 rfl) rfl
theorem q1637 : (Jvm.Cond.methodLink "RubberStampsModel" (131 : Nat) ({ cls := "RubberStampsModel", name := "presses", desc := "(II)I" } : Jvm.MethodName)) ∈ lw_all := lw_g (lw_at lw_m7 136 rfl) rfl
theorem q1638 : (Jvm.Cond.privateMethod ({ cls := "RubberStampsModel", name := "presses", desc := "(II)I" } : Jvm.MethodName)) ∈ lw_tbl := lw_at lw_m7 137 rfl
theorem q1639 : (Jvm.Cond.instanceMethod ({ cls := "RubberStampsModel", name := "presses", desc := "(II)I" } : Jvm.MethodName)) ∈ lw_all := lw_g (lw_at lw_m7 138 rfl) rfl
theorem q1640 : (Jvm.Cond.code ({ cls := "RubberStampsModel", name := "presses", desc := "(II)I" } : Jvm.MethodName) prog_11_method_35_code (8 : Nat) (Option.some Jvm.ClassFile.FieldType.int)) ∈ lw_all := lw_g (lw_at lw_m7 139 rfl) rfl
theorem q1641 : (Jvm.Cond.methodLink "RubberStampsModel" (121 : Nat) ({ cls := "RubberStampsModel", name := "fits", desc := "(IIIZ)Z" } : Jvm.MethodName)) ∈ lw_all := lw_g (lw_at lw_m7 140 rfl) rfl
theorem q1642 : (Jvm.Cond.privateMethod ({ cls := "RubberStampsModel", name := "fits", desc := "(IIIZ)Z" } : Jvm.MethodName)) ∈ lw_tbl := lw_at lw_m7 141 rfl
theorem q1643 : (Jvm.Cond.instanceMethod ({ cls := "RubberStampsModel", name := "fits", desc := "(IIIZ)Z" } : Jvm.MethodName)) ∈ lw_all := lw_g (lw_at lw_m7 142 rfl) rfl
theorem q1644 : (Jvm.Cond.code ({ cls := "RubberStampsModel", name := "fits", desc := "(IIIZ)Z" } : Jvm.MethodName) prog_11_method_33_code (8 : Nat) (Option.some Jvm.ClassFile.FieldType.boolean)) ∈ lw_all := lw_g (lw_at lw_m7 143 rfl) rfl
theorem q1645 : (Jvm.Cond.methodLink "RubberStampsModel" (68 : Nat) ({ cls := "RubberStampsModel", name := "printed", desc := "(IIZ)I" } : Jvm.MethodName)) ∈ lw_all := lw_g (lw_at lw_m7 144 rfl) rfl
theorem q1646 : (Jvm.Cond.privateMethod ({ cls := "RubberStampsModel", name := "printed", desc := "(IIZ)I" } : Jvm.MethodName)) ∈ lw_tbl := lw_at lw_m7 145 rfl
theorem q1647 : (Jvm.Cond.instanceMethod ({ cls := "RubberStampsModel", name := "printed", desc := "(IIZ)I" } : Jvm.MethodName)) ∈ lw_all := lw_g (lw_at lw_m7 146 rfl) rfl
theorem q1648 : (Jvm.Cond.code ({ cls := "RubberStampsModel", name := "printed", desc := "(IIZ)I" } : Jvm.MethodName) prog_11_method_16_code (5 : Nat) (Option.some Jvm.ClassFile.FieldType.int)) ∈ lw_all := lw_g (lw_at lw_m7 147 rfl) rfl
theorem q1649 : (Jvm.Cond.methodLink "RubberStampsModel" (62 : Nat) ({ cls := "RubberStampsModel", name := "turned", desc := "(I)I" } : Jvm.MethodName)) ∈ lw_all := lw_g (lw_at lw_m7 148 rfl) rfl
theorem q1650 : (Jvm.Cond.static ({ cls := "RubberStampsModel", name := "turned", desc := "(I)I" } : Jvm.MethodName)) ∈ lw_all := lw_g (lw_at lw_m7 149 rfl) rfl
theorem q1651 : (Jvm.Cond.code ({ cls := "RubberStampsModel", name := "turned", desc := "(I)I" } : Jvm.MethodName) prog_11_method_14_code (1 : Nat) (Option.some Jvm.ClassFile.FieldType.int)) ∈ lw_all := lw_g (lw_at lw_m7 150 rfl) rfl
theorem q1652 : (Jvm.Cond.methodLink "RubberStampsModel" (125 : Nat) ({ cls := "RubberStampsModel", name := "counts", desc := "(I)Z" } : Jvm.MethodName)) ∈ lw_all := lw_g (lw_at lw_m7 151 rfl) rfl
theorem q1653 : (Jvm.Cond.privateMethod ({ cls := "RubberStampsModel", name := "counts", desc := "(I)Z" } : Jvm.MethodName)) ∈ lw_tbl := lw_at lw_m7 152 rfl
theorem q1654 : (Jvm.Cond.instanceMethod ({ cls := "RubberStampsModel", name := "counts", desc := "(I)Z" } : Jvm.MethodName)) ∈ lw_all := lw_g (lw_at lw_m7 153 rfl) rfl
theorem q1655 : (Jvm.Cond.code ({ cls := "RubberStampsModel", name := "counts", desc := "(I)Z" } : Jvm.MethodName) prog_11_method_17_code (4 : Nat) (Option.some Jvm.ClassFile.FieldType.boolean)) ∈ lw_all := lw_g (lw_at lw_m7 154 rfl) rfl
theorem q1656 : (Jvm.Cond.methodLink "RubberStampsModel" (65 : Nat) ({ cls := "RubberStampsModel", name := "canTurn", desc := "(I)Z" } : Jvm.MethodName)) ∈ lw_all := lw_g (lw_at lw_m7 155 rfl) rfl
theorem q1657 : (Jvm.Cond.privateMethod ({ cls := "RubberStampsModel", name := "canTurn", desc := "(I)Z" } : Jvm.MethodName)) ∈ lw_tbl := lw_at lw_m7 156 rfl
theorem q1658 : (Jvm.Cond.instanceMethod ({ cls := "RubberStampsModel", name := "canTurn", desc := "(I)Z" } : Jvm.MethodName)) ∈ lw_all := lw_g (lw_at lw_m7 157 rfl) rfl
theorem q1659 : (Jvm.Cond.code ({ cls := "RubberStampsModel", name := "canTurn", desc := "(I)Z" } : Jvm.MethodName) prog_11_method_15_code (4 : Nat) (Option.some Jvm.ClassFile.FieldType.boolean)) ∈ lw_all := lw_g (lw_at lw_m7 158 rfl) rfl
theorem q1661 : (Jvm.Cond.instanceMethod ({ cls := "RubberStampsModel", name := "stamp", desc := "(II)I" } : Jvm.MethodName)) ∈ lw_all := lw_g (lw_at lw_m7 160 rfl) rfl
theorem q1662 : (Jvm.Cond.selects "RubberStampsModel" ({ cls := "RubberStampsModel", name := "stamp", desc := "(II)I" } : Jvm.MethodName) ({ cls := "RubberStampsModel", name := "stamp", desc := "(II)I" } : Jvm.MethodName)) ∈ lw_all := lw_g (lw_at lw_m7 161 rfl) rfl
theorem q1663 : (Jvm.Cond.code ({ cls := "RubberStampsModel", name := "stamp", desc := "(II)I" } : Jvm.MethodName) prog_11_method_44_code (3 : Nat) (Option.some Jvm.ClassFile.FieldType.int)) ∈ lw_all := lw_g (lw_at lw_m7 162 rfl) rfl
theorem q1664 : (Jvm.Cond.methodLink "RubberStampsModel" (151 : Nat) ({ cls := "RubberStampsModel", name := "tellStamp", desc := "(II)I" } : Jvm.MethodName)) ∈ lw_all := lw_g (lw_at lw_m7 163 rfl) rfl
theorem q1665 : (Jvm.Cond.privateMethod ({ cls := "RubberStampsModel", name := "tellStamp", desc := "(II)I" } : Jvm.MethodName)) ∈ lw_tbl := lw_at lw_m7 164 rfl
theorem q1666 : (Jvm.Cond.instanceMethod ({ cls := "RubberStampsModel", name := "tellStamp", desc := "(II)I" } : Jvm.MethodName)) ∈ lw_all := lw_g (lw_at lw_m7 165 rfl) rfl
theorem q1667 : (Jvm.Cond.code ({ cls := "RubberStampsModel", name := "tellStamp", desc := "(II)I" } : Jvm.MethodName) prog_11_method_43_code (4 : Nat) (Option.some Jvm.ClassFile.FieldType.int)) ∈ lw_all := lw_g (lw_at lw_m7 166 rfl) rfl
theorem q1669 : (Jvm.Cond.instanceMethod ({ cls := "RubberStampsModel", name := "print", desc := "(IIZ)I" } : Jvm.MethodName)) ∈ lw_all := lw_g (lw_at lw_m7 168 rfl) rfl
theorem q1670 : (Jvm.Cond.selects "RubberStampsModel" ({ cls := "RubberStampsModel", name := "print", desc := "(IIZ)I" } : Jvm.MethodName) ({ cls := "RubberStampsModel", name := "print", desc := "(IIZ)I" } : Jvm.MethodName)) ∈ lw_all := lw_g (lw_at lw_m7 169 rfl) rfl
theorem q1671 : (Jvm.Cond.code ({ cls := "RubberStampsModel", name := "print", desc := "(IIZ)I" } : Jvm.MethodName) prog_11_method_45_code (4 : Nat) (Option.some Jvm.ClassFile.FieldType.int)) ∈ lw_all := lw_g (lw_at lw_m7 170 rfl) rfl
theorem q1673 : (Jvm.Cond.instanceMethod ({ cls := "RubberStampsModel", name := "word", desc := "(II)I" } : Jvm.MethodName)) ∈ lw_all := lw_g (lw_at lw_m7 172 rfl) rfl
theorem q1674 : (Jvm.Cond.selects "RubberStampsModel" ({ cls := "RubberStampsModel", name := "word", desc := "(II)I" } : Jvm.MethodName) ({ cls := "RubberStampsModel", name := "word", desc := "(II)I" } : Jvm.MethodName)) ∈ lw_all := lw_g (lw_at lw_m7 173 rfl) rfl
theorem q1675 : (Jvm.Cond.code ({ cls := "RubberStampsModel", name := "word", desc := "(II)I" } : Jvm.MethodName) prog_11_method_48_code (3 : Nat) (Option.some Jvm.ClassFile.FieldType.int)) ∈ lw_all := lw_g (lw_at lw_m7 174 rfl) rfl
theorem q1676 : (Jvm.Cond.methodLink "RubberStampsModel" (164 : Nat) ({ cls := "RubberStampsModel", name := "tellWord", desc := "(II)I" } : Jvm.MethodName)) ∈ lw_all := lw_g (lw_at lw_m7 175 rfl) rfl
theorem q1677 : (Jvm.Cond.privateMethod ({ cls := "RubberStampsModel", name := "tellWord", desc := "(II)I" } : Jvm.MethodName)) ∈ lw_tbl := lw_at lw_m7 176 rfl
theorem q1678 : (Jvm.Cond.instanceMethod ({ cls := "RubberStampsModel", name := "tellWord", desc := "(II)I" } : Jvm.MethodName)) ∈ lw_all := lw_g (lw_at lw_m7 177 rfl) rfl
theorem q1679 : (Jvm.Cond.code ({ cls := "RubberStampsModel", name := "tellWord", desc := "(II)I" } : Jvm.MethodName) prog_11_method_47_code (3 : Nat) (Option.some Jvm.ClassFile.FieldType.int)) ∈ lw_all := lw_g (lw_at lw_m7 178 rfl) rfl
theorem q1680 : (Jvm.Cond.methodLink "RubberStampsModel" (154 : Nat) ({ cls := "RubberStampsModel", name := "canWrite", desc := "(I)Z" } : Jvm.MethodName)) ∈ lw_all := lw_g (lw_at lw_m7 179 rfl) rfl
theorem q1681 : (Jvm.Cond.privateMethod ({ cls := "RubberStampsModel", name := "canWrite", desc := "(I)Z" } : Jvm.MethodName)) ∈ lw_tbl := lw_at lw_m7 180 rfl
theorem q1682 : (Jvm.Cond.instanceMethod ({ cls := "RubberStampsModel", name := "canWrite", desc := "(I)Z" } : Jvm.MethodName)) ∈ lw_all := lw_g (lw_at lw_m7 181 rfl) rfl
theorem q1683 : (Jvm.Cond.code ({ cls := "RubberStampsModel", name := "canWrite", desc := "(I)Z" } : Jvm.MethodName) prog_11_method_37_code (6 : Nat) (Option.some Jvm.ClassFile.FieldType.boolean)) ∈ lw_all := lw_g (lw_at lw_m7 182 rfl) rfl
theorem q1684 : (Jvm.Cond.methodLink "RubberStampsModel" (139 : Nat) ({ cls := "RubberStampsModel", name := "plans", desc := "(II)Z" } : Jvm.MethodName)) ∈ lw_all := lw_g (lw_at lw_m7 183 rfl) rfl
theorem q1685 : (Jvm.Cond.privateMethod ({ cls := "RubberStampsModel", name := "plans", desc := "(II)Z" } : Jvm.MethodName)) ∈ lw_tbl := lw_at lw_m7 184 rfl
theorem q1686 : (Jvm.Cond.instanceMethod ({ cls := "RubberStampsModel", name := "plans", desc := "(II)Z" } : Jvm.MethodName)) ∈ lw_all := lw_g (lw_at lw_m7 185 rfl) rfl
theorem q1687 : (Jvm.Cond.code ({ cls := "RubberStampsModel", name := "plans", desc := "(II)Z" } : Jvm.MethodName) prog_11_method_36_code (9 : Nat) (Option.some Jvm.ClassFile.FieldType.boolean)) ∈ lw_all := lw_g (lw_at lw_m7 186 rfl) rfl
theorem q1688 : (Jvm.Cond.methodLink "RubberStampsModel" (160 : Nat) ({ cls := "RubberStampsModel", name := "needs", desc := "(IZ)I" } : Jvm.MethodName)) ∈ lw_all := lw_g (lw_at lw_m7 187 rfl) rfl
theorem q1689 : (Jvm.Cond.privateMethod ({ cls := "RubberStampsModel", name := "needs", desc := "(IZ)I" } : Jvm.MethodName)) ∈ lw_tbl := lw_at lw_m7 188 rfl
theorem q1690 : (Jvm.Cond.instanceMethod ({ cls := "RubberStampsModel", name := "needs", desc := "(IZ)I" } : Jvm.MethodName)) ∈ lw_all := lw_g (lw_at lw_m7 189 rfl) rfl
theorem q1691 : (Jvm.Cond.code ({ cls := "RubberStampsModel", name := "needs", desc := "(IZ)I" } : Jvm.MethodName) prog_11_method_46_code (5 : Nat) (Option.some Jvm.ClassFile.FieldType.int)) ∈ lw_all := lw_g (lw_at lw_m7 190 rfl) rfl
theorem q1692 : (Jvm.Cond.methodLink "RubberStampsModel" (157 : Nat) ({ cls := "RubberStampsModel", name := "carries", desc := "(I)V" } : Jvm.MethodName)) ∈ lw_all := lw_g (lw_at lw_m7 191 rfl) rfl
theorem q1693 : (Jvm.Cond.privateMethod ({ cls := "RubberStampsModel", name := "carries", desc := "(I)V" } : Jvm.MethodName)) ∈ lw_tbl := lw_at lw_m7 192 rfl
theorem q1694 : (Jvm.Cond.instanceMethod ({ cls := "RubberStampsModel", name := "carries", desc := "(I)V" } : Jvm.MethodName)) ∈ lw_all := lw_g (lw_at lw_m7 193 rfl) rfl
theorem q1695 : (Jvm.Cond.code ({ cls := "RubberStampsModel", name := "carries", desc := "(I)V" } : Jvm.MethodName) prog_11_method_38_code (5 : Nat) (Option.none : Option Jvm.ClassFile.FieldType)) ∈ lw_all := lw_g (lw_at lw_m7 194 rfl) rfl
theorem q1697 : (Jvm.Cond.instanceMethod ({ cls := "RubberStampsModel", name := "letter", desc := "(II)I" } : Jvm.MethodName)) ∈ lw_all := lw_g (lw_at lw_m7 196 rfl) rfl
theorem q1698 : (Jvm.Cond.selects "RubberStampsModel" ({ cls := "RubberStampsModel", name := "letter", desc := "(II)I" } : Jvm.MethodName) ({ cls := "RubberStampsModel", name := "letter", desc := "(II)I" } : Jvm.MethodName)) ∈ lw_all := lw_g (lw_at lw_m7 197 rfl) rfl
theorem q1699 : (Jvm.Cond.code ({ cls := "RubberStampsModel", name := "letter", desc := "(II)I" } : Jvm.MethodName) prog_11_method_49_code (3 : Nat) (Option.some Jvm.ClassFile.FieldType.int)) ∈ lw_all := lw_g (lw_at lw_m7 198 rfl) rfl
theorem q1701 : (Jvm.Cond.instanceMethod ({ cls := "RubberStampsModel", name := "press", desc := "(II)I" } : Jvm.MethodName)) ∈ lw_all := lw_g (lw_at lw_m7 200 rfl) rfl
theorem q1702 : (Jvm.Cond.selects "RubberStampsModel" ({ cls := "RubberStampsModel", name := "press", desc := "(II)I" } : Jvm.MethodName) ({ cls := "RubberStampsModel", name := "press", desc := "(II)I" } : Jvm.MethodName)) ∈ lw_all := lw_g (lw_at lw_m7 201 rfl) rfl
theorem q1703 : (Jvm.Cond.code ({ cls := "RubberStampsModel", name := "press", desc := "(II)I" } : Jvm.MethodName) prog_11_method_50_code (4 : Nat) (Option.some Jvm.ClassFile.FieldType.int)) ∈ lw_all := lw_g (lw_at lw_m7 202 rfl) rfl
theorem q1705 : (Jvm.Cond.instanceMethod ({ cls := "RubberStampsModel", name := "write", desc := "(I)I" } : Jvm.MethodName)) ∈ lw_all := lw_g (lw_at lw_m7 204 rfl) rfl
theorem q1706 : (Jvm.Cond.selects "RubberStampsModel" ({ cls := "RubberStampsModel", name := "write", desc := "(I)I" } : Jvm.MethodName) ({ cls := "RubberStampsModel", name := "write", desc := "(I)I" } : Jvm.MethodName)) ∈ lw_all := lw_g (lw_at lw_m7 205 rfl) rfl
theorem q1707 : (Jvm.Cond.code ({ cls := "RubberStampsModel", name := "write", desc := "(I)I" } : Jvm.MethodName) prog_11_method_51_code (2 : Nat) (Option.some Jvm.ClassFile.FieldType.int)) ∈ lw_all := lw_g (lw_at lw_m7 206 rfl) rfl
theorem q1709 : (Jvm.Cond.instanceMethod ({ cls := "RubberStampsModel", name := "writeAll", desc := "()I" } : Jvm.MethodName)) ∈ lw_all := lw_g (lw_at lw_m7 208 rfl) rfl
theorem q1710 : (Jvm.Cond.selects "RubberStampsModel" ({ cls := "RubberStampsModel", name := "writeAll", desc := "()I" } : Jvm.MethodName) ({ cls := "RubberStampsModel", name := "writeAll", desc := "()I" } : Jvm.MethodName)) ∈ lw_all := lw_g (lw_at lw_m7 209 rfl) rfl
theorem q1711 : (Jvm.Cond.code ({ cls := "RubberStampsModel", name := "writeAll", desc := "()I" } : Jvm.MethodName) prog_11_method_52_code (3 : Nat) (Option.some Jvm.ClassFile.FieldType.int)) ∈ lw_all := lw_g (lw_at lw_m7 210 rfl) rfl
theorem q1713 : (Jvm.Cond.instanceMethod ({ cls := "RubberStampsModel", name := "fewest", desc := "()I" } : Jvm.MethodName)) ∈ lw_all := lw_g (lw_at lw_m7 212 rfl) rfl
theorem q1714 : (Jvm.Cond.selects "RubberStampsModel" ({ cls := "RubberStampsModel", name := "fewest", desc := "()I" } : Jvm.MethodName) ({ cls := "RubberStampsModel", name := "fewest", desc := "()I" } : Jvm.MethodName)) ∈ lw_all := lw_g (lw_at lw_m7 213 rfl) rfl
theorem q1715 : (Jvm.Cond.code ({ cls := "RubberStampsModel", name := "fewest", desc := "()I" } : Jvm.MethodName) prog_11_method_56_code (1 : Nat) (Option.some Jvm.ClassFile.FieldType.int)) ∈ lw_all := lw_g (lw_at lw_m7 214 rfl) rfl
theorem q1716 : (Jvm.Cond.methodLink "RubberStampsModel" (173 : Nat) ({ cls := "RubberStampsModel", name := "smallest", desc := "()I" } : Jvm.MethodName)) ∈ lw_all := lw_g (lw_at lw_m7 215 rfl) rfl
theorem q1717 : (Jvm.Cond.privateMethod ({ cls := "RubberStampsModel", name := "smallest", desc := "()I" } : Jvm.MethodName)) ∈ lw_tbl := lw_at lw_m7 216 rfl
theorem q1718 : (Jvm.Cond.instanceMethod ({ cls := "RubberStampsModel", name := "smallest", desc := "()I" } : Jvm.MethodName)) ∈ lw_all := lw_g (lw_at lw_m7 217 rfl) rfl
theorem q1719 : (Jvm.Cond.code ({ cls := "RubberStampsModel", name := "smallest", desc := "()I" } : Jvm.MethodName) prog_11_method_55_code (4 : Nat) (Option.some Jvm.ClassFile.FieldType.int)) ∈ lw_all := lw_g (lw_at lw_m7 218 rfl) rfl
theorem q1720 : (Jvm.Cond.methodLink "RubberStampsModel" (167 : Nat) ({ cls := "RubberStampsModel", name := "allWith", desc := "(I)Z" } : Jvm.MethodName)) ∈ lw_all := lw_g (lw_at lw_m7 219 rfl) rfl
theorem q1721 : (Jvm.Cond.privateMethod ({ cls := "RubberStampsModel", name := "allWith", desc := "(I)Z" } : Jvm.MethodName)) ∈ lw_tbl := lw_at lw_m7 220 rfl
theorem q1722 : (Jvm.Cond.instanceMethod ({ cls := "RubberStampsModel", name := "allWith", desc := "(I)Z" } : Jvm.MethodName)) ∈ lw_all := lw_g (lw_at lw_m7 221 rfl) rfl
theorem q1723 : (Jvm.Cond.code ({ cls := "RubberStampsModel", name := "allWith", desc := "(I)Z" } : Jvm.MethodName) prog_11_method_54_code (4 : Nat) (Option.some Jvm.ClassFile.FieldType.boolean)) ∈ lw_all := lw_g (lw_at lw_m7 222 rfl) rfl
theorem q1724 : (Jvm.Cond.methodLink "RubberStampsModel" (170 : Nat) ({ cls := "RubberStampsModel", name := "bits", desc := "(I)I" } : Jvm.MethodName)) ∈ lw_all := lw_g (lw_at lw_m7 223 rfl) rfl
theorem q1725 : (Jvm.Cond.static ({ cls := "RubberStampsModel", name := "bits", desc := "(I)I" } : Jvm.MethodName)) ∈ lw_all := lw_g (lw_at lw_m7 224 rfl) rfl
theorem q1726 : (Jvm.Cond.code ({ cls := "RubberStampsModel", name := "bits", desc := "(I)I" } : Jvm.MethodName) prog_11_method_53_code (3 : Nat) (Option.some Jvm.ClassFile.FieldType.int)) ∈ lw_all := lw_g (lw_at lw_m7 225 rfl) rfl
theorem q1728 : (Jvm.Cond.instanceMethod ({ cls := "RubberStampsModel", name := "needed", desc := "(I)I" } : Jvm.MethodName)) ∈ lw_all := lw_g (lw_at lw_m7 227 rfl) rfl
theorem q1729 : (Jvm.Cond.selects "RubberStampsModel" ({ cls := "RubberStampsModel", name := "needed", desc := "(I)I" } : Jvm.MethodName) ({ cls := "RubberStampsModel", name := "needed", desc := "(I)I" } : Jvm.MethodName)) ∈ lw_all := lw_g (lw_at lw_m7 228 rfl) rfl
theorem q1730 : (Jvm.Cond.code ({ cls := "RubberStampsModel", name := "needed", desc := "(I)I" } : Jvm.MethodName) prog_11_method_57_code (4 : Nat) (Option.some Jvm.ClassFile.FieldType.int)) ∈ lw_all := lw_g (lw_at lw_m7 229 rfl) rfl
theorem q1732 : (Jvm.Cond.instanceMethod ({ cls := "RubberStampsModel", name := "order", desc := "(I)I" } : Jvm.MethodName)) ∈ lw_all := lw_g (lw_at lw_m7 231 rfl) rfl
theorem q1733 : (Jvm.Cond.selects "RubberStampsModel" ({ cls := "RubberStampsModel", name := "order", desc := "(I)I" } : Jvm.MethodName) ({ cls := "RubberStampsModel", name := "order", desc := "(I)I" } : Jvm.MethodName)) ∈ lw_all := lw_g (lw_at lw_m7 232 rfl) rfl
theorem q1734 : (Jvm.Cond.code ({ cls := "RubberStampsModel", name := "order", desc := "(I)I" } : Jvm.MethodName) prog_11_method_62_code (2 : Nat) (Option.some Jvm.ClassFile.FieldType.int)) ∈ lw_all := lw_g (lw_at lw_m7 233 rfl) rfl
theorem q1735 : (Jvm.Cond.methodLink "RubberStampsModel" (188 : Nat) ({ cls := "RubberStampsModel", name := "orders", desc := "()Z" } : Jvm.MethodName)) ∈ lw_all := lw_g (lw_at lw_m7 234 rfl) rfl
theorem q1736 : (Jvm.Cond.privateMethod ({ cls := "RubberStampsModel", name := "orders", desc := "()Z" } : Jvm.MethodName)) ∈ lw_tbl := lw_at lw_m7 235 rfl
theorem q1737 : (Jvm.Cond.instanceMethod ({ cls := "RubberStampsModel", name := "orders", desc := "()Z" } : Jvm.MethodName)) ∈ lw_all := lw_g (lw_at lw_m7 236 rfl) rfl
theorem q1738 : (Jvm.Cond.code ({ cls := "RubberStampsModel", name := "orders", desc := "()Z" } : Jvm.MethodName) prog_11_method_61_code (7 : Nat) (Option.some Jvm.ClassFile.FieldType.boolean)) ∈ lw_all := lw_g (lw_at lw_m7 237 rfl) rfl
theorem q1739 : (Jvm.Cond.methodLink "RubberStampsModel" (179 : Nat) ({ cls := "RubberStampsModel", name := "lays", desc := "(I)V" } : Jvm.MethodName)) ∈ lw_all := lw_g (lw_at lw_m7 238 rfl) rfl
theorem q1740 : (Jvm.Cond.privateMethod ({ cls := "RubberStampsModel", name := "lays", desc := "(I)V" } : Jvm.MethodName)) ∈ lw_tbl := lw_at lw_m7 239 rfl
theorem q1741 : (Jvm.Cond.instanceMethod ({ cls := "RubberStampsModel", name := "lays", desc := "(I)V" } : Jvm.MethodName)) ∈ lw_all := lw_g (lw_at lw_m8 0 rfl) rfl
theorem q1742 : (Jvm.Cond.code ({ cls := "RubberStampsModel", name := "lays", desc := "(I)V" } : Jvm.MethodName) prog_11_method_58_code (3 : Nat) (Option.none : Option Jvm.ClassFile.FieldType)) ∈ lw_all := lw_g (lw_at lw_m8 1 rfl) rfl
theorem q1743 : (Jvm.Cond.methodLink "RubberStampsModel" (182 : Nat) ({ cls := "RubberStampsModel", name := "picks", desc := "(I)V" } : Jvm.MethodName)) ∈ lw_all := lw_g (lw_at lw_m8 2 rfl) rfl
theorem q1744 : (Jvm.Cond.privateMethod ({ cls := "RubberStampsModel", name := "picks", desc := "(I)V" } : Jvm.MethodName)) ∈ lw_tbl := lw_at lw_m8 3 rfl
theorem q1745 : (Jvm.Cond.instanceMethod ({ cls := "RubberStampsModel", name := "picks", desc := "(I)V" } : Jvm.MethodName)) ∈ lw_all := lw_g (lw_at lw_m8 4 rfl) rfl
theorem q1746 : (Jvm.Cond.code ({ cls := "RubberStampsModel", name := "picks", desc := "(I)V" } : Jvm.MethodName) prog_11_method_59_code (3 : Nat) (Option.none : Option Jvm.ClassFile.FieldType)) ∈ lw_all := lw_g (lw_at lw_m8 5 rfl) rfl
theorem q1747 : (Jvm.Cond.methodLink "RubberStampsModel" (185 : Nat) ({ cls := "RubberStampsModel", name := "isUsed", desc := "(I)Z" } : Jvm.MethodName)) ∈ lw_all := lw_g (lw_at lw_m8 6 rfl) rfl
theorem q1748 : (Jvm.Cond.privateMethod ({ cls := "RubberStampsModel", name := "isUsed", desc := "(I)Z" } : Jvm.MethodName)) ∈ lw_tbl := lw_at lw_m8 7 rfl
theorem q1749 : (Jvm.Cond.instanceMethod ({ cls := "RubberStampsModel", name := "isUsed", desc := "(I)Z" } : Jvm.MethodName)) ∈ lw_all := lw_g (lw_at lw_m8 8 rfl) rfl
theorem q1750 : (Jvm.Cond.code ({ cls := "RubberStampsModel", name := "isUsed", desc := "(I)Z" } : Jvm.MethodName) prog_11_method_60_code (4 : Nat) (Option.some Jvm.ClassFile.FieldType.boolean)) ∈ lw_all := lw_g (lw_at lw_m8 9 rfl) rfl
theorem q1752 : (Jvm.Cond.instanceMethod ({ cls := "RubberStampsModel", name := "leastCleanings", desc := "()I" } : Jvm.MethodName)) ∈ lw_all := lw_g (lw_at lw_m8 11 rfl) rfl
theorem q1753 : (Jvm.Cond.selects "RubberStampsModel" ({ cls := "RubberStampsModel", name := "leastCleanings", desc := "()I" } : Jvm.MethodName) ({ cls := "RubberStampsModel", name := "leastCleanings", desc := "()I" } : Jvm.MethodName)) ∈ lw_all := lw_g (lw_at lw_m8 12 rfl) rfl
theorem q1754 : (Jvm.Cond.code ({ cls := "RubberStampsModel", name := "leastCleanings", desc := "()I" } : Jvm.MethodName) prog_11_method_63_code (1 : Nat) (Option.some Jvm.ClassFile.FieldType.int)) ∈ lw_all := lw_g (lw_at lw_m8 13 rfl) rfl
theorem q1756 : (Jvm.Cond.instanceMethod ({ cls := "RubberStampsModel", name := "bestCut", desc := "(II)I" } : Jvm.MethodName)) ∈ lw_all := lw_g (lw_at lw_m8 15 rfl) rfl
theorem q1757 : (Jvm.Cond.selects "RubberStampsModel" ({ cls := "RubberStampsModel", name := "bestCut", desc := "(II)I" } : Jvm.MethodName) ({ cls := "RubberStampsModel", name := "bestCut", desc := "(II)I" } : Jvm.MethodName)) ∈ lw_all := lw_g (lw_at lw_m8 16 rfl) rfl
theorem q1758 : (Jvm.Cond.code ({ cls := "RubberStampsModel", name := "bestCut", desc := "(II)I" } : Jvm.MethodName) prog_11_method_66_code (3 : Nat) (Option.some Jvm.ClassFile.FieldType.int)) ∈ lw_all := lw_g (lw_at lw_m8 17 rfl) rfl
theorem q1759 : (Jvm.Cond.methodLink "RubberStampsModel" (194 : Nat) ({ cls := "RubberStampsModel", name := "part", desc := "(II)I" } : Jvm.MethodName)) ∈ lw_all := lw_g (lw_at lw_m8 18 rfl) rfl
theorem q1760 : (Jvm.Cond.privateMethod ({ cls := "RubberStampsModel", name := "part", desc := "(II)I" } : Jvm.MethodName)) ∈ lw_tbl := lw_at lw_m8 19 rfl
theorem q1761 : (Jvm.Cond.instanceMethod ({ cls := "RubberStampsModel", name := "part", desc := "(II)I" } : Jvm.MethodName)) ∈ lw_all := lw_g (lw_at lw_m8 20 rfl) rfl
theorem q1762 : (Jvm.Cond.code ({ cls := "RubberStampsModel", name := "part", desc := "(II)I" } : Jvm.MethodName) prog_11_method_65_code (9 : Nat) (Option.some Jvm.ClassFile.FieldType.int)) ∈ lw_all := lw_g (lw_at lw_m8 21 rfl) rfl
theorem q1763 : (Jvm.Cond.methodLink "RubberStampsModel" (191 : Nat) ({ cls := "RubberStampsModel", name := "allPresses", desc := "()I" } : Jvm.MethodName)) ∈ lw_all := lw_g (lw_at lw_m8 22 rfl) rfl
theorem q1764 : (Jvm.Cond.privateMethod ({ cls := "RubberStampsModel", name := "allPresses", desc := "()I" } : Jvm.MethodName)) ∈ lw_tbl := lw_at lw_m8 23 rfl
theorem q1765 : (Jvm.Cond.instanceMethod ({ cls := "RubberStampsModel", name := "allPresses", desc := "()I" } : Jvm.MethodName)) ∈ lw_all := lw_g (lw_at lw_m8 24 rfl) rfl
theorem q1766 : (Jvm.Cond.code ({ cls := "RubberStampsModel", name := "allPresses", desc := "()I" } : Jvm.MethodName) prog_11_method_64_code (4 : Nat) (Option.some Jvm.ClassFile.FieldType.int)) ∈ lw_all := lw_g (lw_at lw_m8 25 rfl) rfl
theorem q1768 : (Jvm.Cond.instanceMethod ({ cls := "RubberStampsModel", name := "lettersPerPress", desc := "()D" } : Jvm.MethodName)) ∈ lw_all := lw_g (lw_at lw_m8 27 rfl) rfl
theorem q1769 : (Jvm.Cond.selects "RubberStampsModel" ({ cls := "RubberStampsModel", name := "lettersPerPress", desc := "()D" } : Jvm.MethodName) ({ cls := "RubberStampsModel", name := "lettersPerPress", desc := "()D" } : Jvm.MethodName)) ∈ lw_all := lw_g (lw_at lw_m8 28 rfl) rfl
theorem q1770 : (Jvm.Cond.code ({ cls := "RubberStampsModel", name := "lettersPerPress", desc := "()D" } : Jvm.MethodName) prog_11_method_67_code (5 : Nat) (Option.some Jvm.ClassFile.FieldType.double)) ∈ lw_all := lw_g (lw_at lw_m8 29 rfl) rfl
theorem q1772 : (Jvm.Cond.instanceMethod ({ cls := "RubberStampsModel", name := "digest", desc := "()J" } : Jvm.MethodName)) ∈ lw_all := lw_g (lw_at lw_m8 31 rfl) rfl
theorem q1773 : (Jvm.Cond.selects "RubberStampsModel" ({ cls := "RubberStampsModel", name := "digest", desc := "()J" } : Jvm.MethodName) ({ cls := "RubberStampsModel", name := "digest", desc := "()J" } : Jvm.MethodName)) ∈ lw_all := lw_g (lw_at lw_m8 32 rfl) rfl
theorem q1774 : (Jvm.Cond.code ({ cls := "RubberStampsModel", name := "digest", desc := "()J" } : Jvm.MethodName) prog_11_method_70_code (3 : Nat) (Option.some Jvm.ClassFile.FieldType.long)) ∈ lw_all := lw_g (lw_at lw_m8 33 rfl) rfl
theorem q1775 : (Jvm.Cond.constantLong "RubberStampsModel" (206 : Nat) (3389 : Int64)) ∈ lw_all := lw_g (lw_at lw_m8 34 rfl) rfl
theorem q1776 : (Jvm.Cond.methodLink "RubberStampsModel" (203 : Nat) ({ cls := "RubberStampsModel", name := "mix", desc := "(I)V" } : Jvm.MethodName)) ∈ lw_all := lw_g (lw_at lw_m8 35 rfl) rfl
theorem q1777 : (Jvm.Cond.privateMethod ({ cls := "RubberStampsModel", name := "mix", desc := "(I)V" } : Jvm.MethodName)) ∈ lw_tbl := lw_at lw_m8 36 rfl
theorem q1778 : (Jvm.Cond.instanceMethod ({ cls := "RubberStampsModel", name := "mix", desc := "(I)V" } : Jvm.MethodName)) ∈ lw_all := lw_g (lw_at lw_m8 37 rfl) rfl
theorem q1779 : (Jvm.Cond.code ({ cls := "RubberStampsModel", name := "mix", desc := "(I)V" } : Jvm.MethodName) prog_11_method_68_code (2 : Nat) (Option.none : Option Jvm.ClassFile.FieldType)) ∈ lw_all := lw_g (lw_at lw_m8 38 rfl) rfl
theorem q1780 : (Jvm.Cond.constantLong "RubberStampsModel" (197 : Nat) (31 : Int64)) ∈ lw_all := lw_g (lw_at lw_m8 39 rfl) rfl
theorem q1781 : (Jvm.Cond.methodLink "RubberStampsModel" (208 : Nat) ({ cls := "RubberStampsModel", name := "mixWord", desc := "(I)V" } : Jvm.MethodName)) ∈ lw_all := lw_g (lw_at lw_m8 40 rfl) rfl
theorem q1782 : (Jvm.Cond.privateMethod ({ cls := "RubberStampsModel", name := "mixWord", desc := "(I)V" } : Jvm.MethodName)) ∈ lw_tbl := lw_at lw_m8 41 rfl
theorem q1783 : (Jvm.Cond.instanceMethod ({ cls := "RubberStampsModel", name := "mixWord", desc := "(I)V" } : Jvm.MethodName)) ∈ lw_all := lw_g (lw_at lw_m8 42 rfl) rfl
theorem q1784 : (Jvm.Cond.code ({ cls := "RubberStampsModel", name := "mixWord", desc := "(I)V" } : Jvm.MethodName) prog_11_method_69_code (4 : Nat) (Option.none : Option Jvm.ClassFile.FieldType)) ∈ lw_all := lw_g (lw_at lw_m8 43 rfl) rfl
theorem q1807 : (Jvm.Cond.castable "RubberStampsModel" "java/lang/Object") ∈ lw_tbl := lw_at lw_m8 66 rfl
theorem in_X6 : ∀ w ∈ wsX60, w ∈ lw_all := lw_in wsX60 [1475, 1477, 1479, 1481, 1483, 1485, 1487, 1489, 1491, 1493, 1495, 1497, 1499, 1501, 1503, 1505, 1507, 1509] (by decide +kernel) (by decide +kernel)
