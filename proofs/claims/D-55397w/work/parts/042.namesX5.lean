/-! CoinTaxesModel -/
set_option maxRecDepth 100000
def RX5 : String := "CoinTaxesModel"
def TX5 : u_T := fun k => match k with
  | 0 => ("CoinTaxesModel", "now", "[I", true)
  | 1 => ("CoinTaxesModel", "before", "[I", true)
  | 2 => ("CoinTaxesModel", "saved", "[I", true)
  | 3 => ("CoinTaxesModel", "history", "[I", true)
  | 4 => ("CoinTaxesModel", "isSaved", "Z", false)
  | 5 => ("CoinTaxesModel", "remembered", "I", false)
  | 6 => ("CoinTaxesModel", "reason", "I", false)
  | 7 => ("CoinTaxesModel", "detail", "I", false)
  | 8 => ("CoinTaxesModel", "causeReason", "I", false)
  | 9 => ("CoinTaxesModel", "causeDetail", "I", false)
  | 10 => ("CoinTaxesModel", "text", "[I", true)
  | 11 => ("CoinTaxesModel", "typed", "I", false)
  | 12 => ("CoinTaxesModel", "errorAt", "I", false)
  | 13 => ("CoinTaxesModel", "line", "[I", true)
  | 14 => ("CoinTaxesModel", "lined", "I", false)
  | 15 => ("CoinTaxesModel", "thrown", "I", false)
  | 16 => ("CoinTaxesModel", "why", "I", false)
  | 17 => ("CoinTaxesModel", "what", "I", false)
  | 18 => ("CoinTaxesModel", "size", "I", false)
  | 19 => ("CoinTaxesModel", "at", "I", false)
  | 20 => ("CoinTaxesModel", "wrong", "I", false)
  | 21 => ("CoinTaxesModel", "told", "I", false)
  | 22 => ("CoinTaxesModel", "kinds", "[I", true)
  | _ => ("CoinTaxesModel", "numbers", "[I", true)
def tyX5 : Nat → FieldType := fun k => match k with
  | 0 => .array .int
  | 1 => .array .int
  | 2 => .array .int
  | 3 => .array .int
  | 4 => .boolean
  | 5 => .int
  | 6 => .int
  | 7 => .int
  | 8 => .int
  | 9 => .int
  | 10 => .array .int
  | 11 => .int
  | 12 => .int
  | 13 => .array .int
  | 14 => .int
  | 15 => .int
  | 16 => .int
  | 17 => .int
  | 18 => .int
  | 19 => .int
  | 20 => .int
  | 21 => .int
  | 22 => .array .int
  | _ => .array .int
abbrev wsX50 : List Cond := u_ws RX5 TX5 24
set_option maxRecDepth 100000 in
theorem nmX5 : ∀ a, a < 24 → ∀ b, b < 24 → a ≠ b → (TX5 a).2.1 ≠ (TX5 b).2.1 := by decide +kernel
set_option maxRecDepth 100000 in
theorem tyX5_ok : ∀ k, k < 24 → parseFieldDescriptor (TX5 k).2.2.1 = some (tyX5 k) := by decide +kernel
abbrev cX5_init : ByteArray := prog_12_method_1_code
def yX5_init : MethodName := ⟨RX5, "<init>", "()V"⟩
def dkwX5_init_5 : List UInt8 := [16, 100, 79, 132, 1, 1, 167, 255, 237, 177]
abbrev dktX5_init_5 : List UInt8 := dkwX5_init_5 ++ []
def dkwX5_init_4 : List UInt8 := [42, 180, 0, 9, 16, 6, 16, 7, 79, 3, 60, 27, 6, 162, 0, 20, 42, 180, 0, 9, 16, 10, 27, 96]
abbrev dktX5_init_4 : List UInt8 := dkwX5_init_4 ++ dktX5_init_5
def dkwX5_init_3 : List UInt8 := [42, 16, 64, 188, 10, 181, 0, 35, 42, 180, 0, 9, 4, 4, 79, 42, 180, 0, 9, 16, 14, 16, 10, 79]
abbrev dktX5_init_3 : List UInt8 := dkwX5_init_3 ++ dktX5_init_4
def dkwX5_init_2 : List UInt8 := [181, 0, 22, 42, 2, 181, 0, 25, 42, 16, 80, 188, 10, 181, 0, 29, 42, 16, 16, 188, 10, 181, 0, 32]
abbrev dktX5_init_2 : List UInt8 := dkwX5_init_2 ++ dktX5_init_3
def dkwX5_init_1 : List UInt8 := [17, 0, 137, 188, 10, 181, 0, 16, 42, 17, 4, 72, 188, 10, 181, 0, 19, 42, 16, 60, 188, 10]
abbrev dktX5_init_1 : List UInt8 := dkwX5_init_1 ++ dktX5_init_2
def dkwX5_init_0 : List UInt8 := [42, 183, 0, 3, 42, 17, 0, 137, 188, 10, 181, 0, 9, 42, 17, 0, 137, 188, 10, 181, 0, 13, 42]
abbrev dktX5_init_0 : List UInt8 := dkwX5_init_0 ++ dktX5_init_1
theorem dksX5_init_0 : cX5_init.data.toList.drop 0 = dktX5_init_0 := by decide +kernel
theorem dksX5_init_1 : cX5_init.data.toList.drop 23 = dktX5_init_1 := dk_seg dksX5_init_0 23 rfl rfl
theorem dksX5_init_2 : cX5_init.data.toList.drop 45 = dktX5_init_2 := dk_seg dksX5_init_1 22 rfl rfl
theorem dksX5_init_3 : cX5_init.data.toList.drop 69 = dktX5_init_3 := dk_seg dksX5_init_2 24 rfl rfl
theorem dksX5_init_4 : cX5_init.data.toList.drop 93 = dktX5_init_4 := dk_seg dksX5_init_3 24 rfl rfl
theorem dksX5_init_5 : cX5_init.data.toList.drop 117 = dktX5_init_5 := dk_seg dksX5_init_4 24 rfl rfl
theorem dX5_init_0 : decode cX5_init 0 = .ok (.aload_n 0, 1) := dk_42 (dk_at dksX5_init_0 0 rfl rfl)
theorem dX5_init_1 : decode cX5_init 1 = .ok (.invokespecial 3, 3) := dk_183 0 3 (dk_at dksX5_init_0 1 rfl rfl)
theorem dX5_init_4 : decode cX5_init 4 = .ok (.aload_n 0, 1) := dk_42 (dk_at dksX5_init_0 4 rfl rfl)
theorem dX5_init_5 : decode cX5_init 5 = .ok (.sipush 137, 3) := dk_17 0 137 (dk_at dksX5_init_0 5 rfl rfl)
theorem dX5_init_8 : decode cX5_init 8 = .ok (.newarray .int, 2) := dk_188_10 (dk_at dksX5_init_0 8 rfl rfl)
theorem dX5_init_10 : decode cX5_init 10 = .ok (.putfield 9, 3) := dk_181 0 9 (dk_at dksX5_init_0 10 rfl rfl)
theorem dX5_init_13 : decode cX5_init 13 = .ok (.aload_n 0, 1) := dk_42 (dk_at dksX5_init_0 13 rfl rfl)
theorem dX5_init_14 : decode cX5_init 14 = .ok (.sipush 137, 3) := dk_17 0 137 (dk_at dksX5_init_0 14 rfl rfl)
theorem dX5_init_17 : decode cX5_init 17 = .ok (.newarray .int, 2) := dk_188_10 (dk_at dksX5_init_0 17 rfl rfl)
theorem dX5_init_19 : decode cX5_init 19 = .ok (.putfield 13, 3) := dk_181 0 13 (dk_at dksX5_init_0 19 rfl rfl)
theorem dX5_init_22 : decode cX5_init 22 = .ok (.aload_n 0, 1) := dk_42 (dk_at dksX5_init_0 22 rfl rfl)
theorem dX5_init_23 : decode cX5_init 23 = .ok (.sipush 137, 3) := dk_17 0 137 (dk_at dksX5_init_1 0 rfl rfl)
theorem dX5_init_26 : decode cX5_init 26 = .ok (.newarray .int, 2) := dk_188_10 (dk_at dksX5_init_1 3 rfl rfl)
theorem dX5_init_28 : decode cX5_init 28 = .ok (.putfield 16, 3) := dk_181 0 16 (dk_at dksX5_init_1 5 rfl rfl)
theorem dX5_init_31 : decode cX5_init 31 = .ok (.aload_n 0, 1) := dk_42 (dk_at dksX5_init_1 8 rfl rfl)
theorem dX5_init_32 : decode cX5_init 32 = .ok (.sipush 1096, 3) := dk_17 4 72 (dk_at dksX5_init_1 9 rfl rfl)
theorem dX5_init_35 : decode cX5_init 35 = .ok (.newarray .int, 2) := dk_188_10 (dk_at dksX5_init_1 12 rfl rfl)
theorem dX5_init_37 : decode cX5_init 37 = .ok (.putfield 19, 3) := dk_181 0 19 (dk_at dksX5_init_1 14 rfl rfl)
theorem dX5_init_40 : decode cX5_init 40 = .ok (.aload_n 0, 1) := dk_42 (dk_at dksX5_init_1 17 rfl rfl)
theorem dX5_init_41 : decode cX5_init 41 = .ok (.bipush 60, 2) := dk_16 60 (dk_at dksX5_init_1 18 rfl rfl)
theorem dX5_init_43 : decode cX5_init 43 = .ok (.newarray .int, 2) := dk_188_10 (dk_at dksX5_init_1 20 rfl rfl)
theorem dX5_init_45 : decode cX5_init 45 = .ok (.putfield 22, 3) := dk_181 0 22 (dk_at dksX5_init_2 0 rfl rfl)
theorem dX5_init_48 : decode cX5_init 48 = .ok (.aload_n 0, 1) := dk_42 (dk_at dksX5_init_2 3 rfl rfl)
theorem dX5_init_49 : decode cX5_init 49 = .ok (.iconst (-1), 1) := dk_2 (dk_at dksX5_init_2 4 rfl rfl)
theorem dX5_init_50 : decode cX5_init 50 = .ok (.putfield 25, 3) := dk_181 0 25 (dk_at dksX5_init_2 5 rfl rfl)
theorem dX5_init_53 : decode cX5_init 53 = .ok (.aload_n 0, 1) := dk_42 (dk_at dksX5_init_2 8 rfl rfl)
theorem dX5_init_54 : decode cX5_init 54 = .ok (.bipush 80, 2) := dk_16 80 (dk_at dksX5_init_2 9 rfl rfl)
theorem dX5_init_56 : decode cX5_init 56 = .ok (.newarray .int, 2) := dk_188_10 (dk_at dksX5_init_2 11 rfl rfl)
theorem dX5_init_58 : decode cX5_init 58 = .ok (.putfield 29, 3) := dk_181 0 29 (dk_at dksX5_init_2 13 rfl rfl)
theorem dX5_init_61 : decode cX5_init 61 = .ok (.aload_n 0, 1) := dk_42 (dk_at dksX5_init_2 16 rfl rfl)
theorem dX5_init_62 : decode cX5_init 62 = .ok (.bipush 16, 2) := dk_16 16 (dk_at dksX5_init_2 17 rfl rfl)
theorem dX5_init_64 : decode cX5_init 64 = .ok (.newarray .int, 2) := dk_188_10 (dk_at dksX5_init_2 19 rfl rfl)
theorem dX5_init_66 : decode cX5_init 66 = .ok (.putfield 32, 3) := dk_181 0 32 (dk_at dksX5_init_2 21 rfl rfl)
theorem dX5_init_69 : decode cX5_init 69 = .ok (.aload_n 0, 1) := dk_42 (dk_at dksX5_init_3 0 rfl rfl)
theorem dX5_init_70 : decode cX5_init 70 = .ok (.bipush 64, 2) := dk_16 64 (dk_at dksX5_init_3 1 rfl rfl)
theorem dX5_init_72 : decode cX5_init 72 = .ok (.newarray .int, 2) := dk_188_10 (dk_at dksX5_init_3 3 rfl rfl)
theorem dX5_init_74 : decode cX5_init 74 = .ok (.putfield 35, 3) := dk_181 0 35 (dk_at dksX5_init_3 5 rfl rfl)
theorem dX5_init_77 : decode cX5_init 77 = .ok (.aload_n 0, 1) := dk_42 (dk_at dksX5_init_3 8 rfl rfl)
theorem dX5_init_78 : decode cX5_init 78 = .ok (.getfield 9, 3) := dk_180 0 9 (dk_at dksX5_init_3 9 rfl rfl)
theorem dX5_init_81 : decode cX5_init 81 = .ok (.iconst 1, 1) := dk_4 (dk_at dksX5_init_3 12 rfl rfl)
theorem dX5_init_82 : decode cX5_init 82 = .ok (.iconst 1, 1) := dk_4 (dk_at dksX5_init_3 13 rfl rfl)
theorem dX5_init_83 : decode cX5_init 83 = .ok (.iastore, 1) := dk_79 (dk_at dksX5_init_3 14 rfl rfl)
theorem dX5_init_84 : decode cX5_init 84 = .ok (.aload_n 0, 1) := dk_42 (dk_at dksX5_init_3 15 rfl rfl)
theorem dX5_init_85 : decode cX5_init 85 = .ok (.getfield 9, 3) := dk_180 0 9 (dk_at dksX5_init_3 16 rfl rfl)
theorem dX5_init_88 : decode cX5_init 88 = .ok (.bipush 14, 2) := dk_16 14 (dk_at dksX5_init_3 19 rfl rfl)
theorem dX5_init_90 : decode cX5_init 90 = .ok (.bipush 10, 2) := dk_16 10 (dk_at dksX5_init_3 21 rfl rfl)
theorem dX5_init_92 : decode cX5_init 92 = .ok (.iastore, 1) := dk_79 (dk_at dksX5_init_3 23 rfl rfl)
theorem dX5_init_93 : decode cX5_init 93 = .ok (.aload_n 0, 1) := dk_42 (dk_at dksX5_init_4 0 rfl rfl)
theorem dX5_init_94 : decode cX5_init 94 = .ok (.getfield 9, 3) := dk_180 0 9 (dk_at dksX5_init_4 1 rfl rfl)
theorem dX5_init_97 : decode cX5_init 97 = .ok (.bipush 6, 2) := dk_16 6 (dk_at dksX5_init_4 4 rfl rfl)
theorem dX5_init_99 : decode cX5_init 99 = .ok (.bipush 7, 2) := dk_16 7 (dk_at dksX5_init_4 6 rfl rfl)
theorem dX5_init_101 : decode cX5_init 101 = .ok (.iastore, 1) := dk_79 (dk_at dksX5_init_4 8 rfl rfl)
theorem dX5_init_102 : decode cX5_init 102 = .ok (.iconst 0, 1) := dk_3 (dk_at dksX5_init_4 9 rfl rfl)
theorem dX5_init_103 : decode cX5_init 103 = .ok (.istore_n 1, 1) := dk_60 (dk_at dksX5_init_4 10 rfl rfl)
theorem dX5_init_104 : decode cX5_init 104 = .ok (.iload_n 1, 1) := dk_27 (dk_at dksX5_init_4 11 rfl rfl)
theorem dX5_init_105 : decode cX5_init 105 = .ok (.iconst 3, 1) := dk_6 (dk_at dksX5_init_4 12 rfl rfl)
theorem dX5_init_106 : decode cX5_init 106 = .ok (.if_icmp .ge 20, 3) := dk_162 0 20 (dk_at dksX5_init_4 13 rfl rfl)
theorem dX5_init_109 : decode cX5_init 109 = .ok (.aload_n 0, 1) := dk_42 (dk_at dksX5_init_4 16 rfl rfl)
theorem dX5_init_110 : decode cX5_init 110 = .ok (.getfield 9, 3) := dk_180 0 9 (dk_at dksX5_init_4 17 rfl rfl)
theorem dX5_init_113 : decode cX5_init 113 = .ok (.bipush 10, 2) := dk_16 10 (dk_at dksX5_init_4 20 rfl rfl)
theorem dX5_init_115 : decode cX5_init 115 = .ok (.iload_n 1, 1) := dk_27 (dk_at dksX5_init_4 22 rfl rfl)
theorem dX5_init_116 : decode cX5_init 116 = .ok (.iadd, 1) := dk_96 (dk_at dksX5_init_4 23 rfl rfl)
theorem dX5_init_117 : decode cX5_init 117 = .ok (.bipush 100, 2) := dk_16 100 (dk_at dksX5_init_5 0 rfl rfl)
theorem dX5_init_119 : decode cX5_init 119 = .ok (.iastore, 1) := dk_79 (dk_at dksX5_init_5 2 rfl rfl)
theorem dX5_init_120 : decode cX5_init 120 = .ok (.iinc 1 1, 3) := dk_132 1 1 (dk_at dksX5_init_5 3 rfl rfl)
theorem dX5_init_123 : decode cX5_init 123 = .ok (.goto (-19), 3) := dk_167 255 237 (dk_at dksX5_init_5 6 rfl rfl)
theorem dX5_init_126 : decode cX5_init 126 = .ok (.return_, 1) := dk_177 (dk_at dksX5_init_5 9 rfl rfl)
abbrev cX5_thrown : ByteArray := prog_12_method_2_code
def yX5_thrown : MethodName := ⟨RX5, "thrown", "()I"⟩
theorem dX5_thrown_0 : decode cX5_thrown 0 = .ok (.aload_n 0, 1) := by decide +kernel
theorem dX5_thrown_1 : decode cX5_thrown 1 = .ok (.getfield 38, 3) := by decide +kernel
theorem dX5_thrown_4 : decode cX5_thrown 4 = .ok (.ireturn, 1) := by decide +kernel
abbrev cX5_reason : ByteArray := prog_12_method_9_code
def yX5_reason : MethodName := ⟨RX5, "reason", "(ZZ)I"⟩
def dkwX5_reason_2 : List UInt8 := [180, 0, 66, 167, 0, 11, 42, 180, 0, 57, 167, 0, 4, 29, 172]
abbrev dktX5_reason_2 : List UInt8 := dkwX5_reason_2 ++ []
def dkwX5_reason_1 : List UInt8 := [167, 0, 4, 3, 181, 0, 38, 29, 154, 0, 7, 3, 167, 0, 26, 28, 153, 0, 21, 27, 153, 0, 10, 42]
abbrev dktX5_reason_1 : List UInt8 := dkwX5_reason_1 ++ dktX5_reason_2
def dkwX5_reason_0 : List UInt8 := [27, 153, 0, 10, 42, 180, 0, 60, 167, 0, 7, 42, 180, 0, 54, 62, 42, 29, 154, 0, 7, 4]
abbrev dktX5_reason_0 : List UInt8 := dkwX5_reason_0 ++ dktX5_reason_1
theorem dksX5_reason_0 : cX5_reason.data.toList.drop 0 = dktX5_reason_0 := by decide +kernel
theorem dksX5_reason_1 : cX5_reason.data.toList.drop 22 = dktX5_reason_1 := dk_seg dksX5_reason_0 22 rfl rfl
theorem dksX5_reason_2 : cX5_reason.data.toList.drop 46 = dktX5_reason_2 := dk_seg dksX5_reason_1 24 rfl rfl
theorem dX5_reason_0 : decode cX5_reason 0 = .ok (.iload_n 1, 1) := dk_27 (dk_at dksX5_reason_0 0 rfl rfl)
theorem dX5_reason_1 : decode cX5_reason 1 = .ok (.ifCond .eq 10, 3) := dk_153 0 10 (dk_at dksX5_reason_0 1 rfl rfl)
theorem dX5_reason_4 : decode cX5_reason 4 = .ok (.aload_n 0, 1) := dk_42 (dk_at dksX5_reason_0 4 rfl rfl)
theorem dX5_reason_5 : decode cX5_reason 5 = .ok (.getfield 60, 3) := dk_180 0 60 (dk_at dksX5_reason_0 5 rfl rfl)
theorem dX5_reason_8 : decode cX5_reason 8 = .ok (.goto 7, 3) := dk_167 0 7 (dk_at dksX5_reason_0 8 rfl rfl)
theorem dX5_reason_11 : decode cX5_reason 11 = .ok (.aload_n 0, 1) := dk_42 (dk_at dksX5_reason_0 11 rfl rfl)
theorem dX5_reason_12 : decode cX5_reason 12 = .ok (.getfield 54, 3) := dk_180 0 54 (dk_at dksX5_reason_0 12 rfl rfl)
theorem dX5_reason_15 : decode cX5_reason 15 = .ok (.istore_n 3, 1) := dk_62 (dk_at dksX5_reason_0 15 rfl rfl)
theorem dX5_reason_16 : decode cX5_reason 16 = .ok (.aload_n 0, 1) := dk_42 (dk_at dksX5_reason_0 16 rfl rfl)
theorem dX5_reason_17 : decode cX5_reason 17 = .ok (.iload_n 3, 1) := dk_29 (dk_at dksX5_reason_0 17 rfl rfl)
theorem dX5_reason_18 : decode cX5_reason 18 = .ok (.ifCond .ne 7, 3) := dk_154 0 7 (dk_at dksX5_reason_0 18 rfl rfl)
theorem dX5_reason_21 : decode cX5_reason 21 = .ok (.iconst 1, 1) := dk_4 (dk_at dksX5_reason_0 21 rfl rfl)
theorem dX5_reason_22 : decode cX5_reason 22 = .ok (.goto 4, 3) := dk_167 0 4 (dk_at dksX5_reason_1 0 rfl rfl)
theorem dX5_reason_25 : decode cX5_reason 25 = .ok (.iconst 0, 1) := dk_3 (dk_at dksX5_reason_1 3 rfl rfl)
theorem dX5_reason_26 : decode cX5_reason 26 = .ok (.putfield 38, 3) := dk_181 0 38 (dk_at dksX5_reason_1 4 rfl rfl)
theorem dX5_reason_29 : decode cX5_reason 29 = .ok (.iload_n 3, 1) := dk_29 (dk_at dksX5_reason_1 7 rfl rfl)
theorem dX5_reason_30 : decode cX5_reason 30 = .ok (.ifCond .ne 7, 3) := dk_154 0 7 (dk_at dksX5_reason_1 8 rfl rfl)
theorem dX5_reason_33 : decode cX5_reason 33 = .ok (.iconst 0, 1) := dk_3 (dk_at dksX5_reason_1 11 rfl rfl)
theorem dX5_reason_34 : decode cX5_reason 34 = .ok (.goto 26, 3) := dk_167 0 26 (dk_at dksX5_reason_1 12 rfl rfl)
theorem dX5_reason_37 : decode cX5_reason 37 = .ok (.iload_n 2, 1) := dk_28 (dk_at dksX5_reason_1 15 rfl rfl)
theorem dX5_reason_38 : decode cX5_reason 38 = .ok (.ifCond .eq 21, 3) := dk_153 0 21 (dk_at dksX5_reason_1 16 rfl rfl)
theorem dX5_reason_41 : decode cX5_reason 41 = .ok (.iload_n 1, 1) := dk_27 (dk_at dksX5_reason_1 19 rfl rfl)
theorem dX5_reason_42 : decode cX5_reason 42 = .ok (.ifCond .eq 10, 3) := dk_153 0 10 (dk_at dksX5_reason_1 20 rfl rfl)
theorem dX5_reason_45 : decode cX5_reason 45 = .ok (.aload_n 0, 1) := dk_42 (dk_at dksX5_reason_1 23 rfl rfl)
theorem dX5_reason_46 : decode cX5_reason 46 = .ok (.getfield 66, 3) := dk_180 0 66 (dk_at dksX5_reason_2 0 rfl rfl)
theorem dX5_reason_49 : decode cX5_reason 49 = .ok (.goto 11, 3) := dk_167 0 11 (dk_at dksX5_reason_2 3 rfl rfl)
theorem dX5_reason_52 : decode cX5_reason 52 = .ok (.aload_n 0, 1) := dk_42 (dk_at dksX5_reason_2 6 rfl rfl)
theorem dX5_reason_53 : decode cX5_reason 53 = .ok (.getfield 57, 3) := dk_180 0 57 (dk_at dksX5_reason_2 7 rfl rfl)
theorem dX5_reason_56 : decode cX5_reason 56 = .ok (.goto 4, 3) := dk_167 0 4 (dk_at dksX5_reason_2 10 rfl rfl)
theorem dX5_reason_59 : decode cX5_reason 59 = .ok (.iload_n 3, 1) := dk_29 (dk_at dksX5_reason_2 13 rfl rfl)
theorem dX5_reason_60 : decode cX5_reason 60 = .ok (.ireturn, 1) := dk_172 (dk_at dksX5_reason_2 14 rfl rfl)
abbrev cX5_undo : ByteArray := prog_12_method_10_code
def yX5_undo : MethodName := ⟨RX5, "undo", "()I"⟩
def dkwX5_undo_2 : List UInt8 := [180, 0, 9, 3, 184, 0, 47, 42, 180, 0, 51, 172]
abbrev dktX5_undo_2 : List UInt8 := dkwX5_undo_2 ++ []
def dkwX5_undo_1 : List UInt8 := [89, 180, 0, 51, 4, 100, 181, 0, 51, 42, 180, 0, 19, 42, 180, 0, 51, 17, 0, 137, 104, 42]
abbrev dktX5_undo_1 : List UInt8 := dkwX5_undo_1 ++ dktX5_undo_2
def dkwX5_undo_0 : List UInt8 := [42, 42, 180, 0, 51, 154, 0, 7, 4, 167, 0, 4, 3, 181, 0, 38, 42, 180, 0, 51, 158, 0, 33, 42]
abbrev dktX5_undo_0 : List UInt8 := dkwX5_undo_0 ++ dktX5_undo_1
theorem dksX5_undo_0 : cX5_undo.data.toList.drop 0 = dktX5_undo_0 := by decide +kernel
theorem dksX5_undo_1 : cX5_undo.data.toList.drop 24 = dktX5_undo_1 := dk_seg dksX5_undo_0 24 rfl rfl
theorem dksX5_undo_2 : cX5_undo.data.toList.drop 46 = dktX5_undo_2 := dk_seg dksX5_undo_1 22 rfl rfl
theorem dX5_undo_0 : decode cX5_undo 0 = .ok (.aload_n 0, 1) := dk_42 (dk_at dksX5_undo_0 0 rfl rfl)
theorem dX5_undo_1 : decode cX5_undo 1 = .ok (.aload_n 0, 1) := dk_42 (dk_at dksX5_undo_0 1 rfl rfl)
theorem dX5_undo_2 : decode cX5_undo 2 = .ok (.getfield 51, 3) := dk_180 0 51 (dk_at dksX5_undo_0 2 rfl rfl)
theorem dX5_undo_5 : decode cX5_undo 5 = .ok (.ifCond .ne 7, 3) := dk_154 0 7 (dk_at dksX5_undo_0 5 rfl rfl)
theorem dX5_undo_8 : decode cX5_undo 8 = .ok (.iconst 1, 1) := dk_4 (dk_at dksX5_undo_0 8 rfl rfl)
theorem dX5_undo_9 : decode cX5_undo 9 = .ok (.goto 4, 3) := dk_167 0 4 (dk_at dksX5_undo_0 9 rfl rfl)
theorem dX5_undo_12 : decode cX5_undo 12 = .ok (.iconst 0, 1) := dk_3 (dk_at dksX5_undo_0 12 rfl rfl)
theorem dX5_undo_13 : decode cX5_undo 13 = .ok (.putfield 38, 3) := dk_181 0 38 (dk_at dksX5_undo_0 13 rfl rfl)
theorem dX5_undo_16 : decode cX5_undo 16 = .ok (.aload_n 0, 1) := dk_42 (dk_at dksX5_undo_0 16 rfl rfl)
theorem dX5_undo_17 : decode cX5_undo 17 = .ok (.getfield 51, 3) := dk_180 0 51 (dk_at dksX5_undo_0 17 rfl rfl)
theorem dX5_undo_20 : decode cX5_undo 20 = .ok (.ifCond .le 33, 3) := dk_158 0 33 (dk_at dksX5_undo_0 20 rfl rfl)
theorem dX5_undo_23 : decode cX5_undo 23 = .ok (.aload_n 0, 1) := dk_42 (dk_at dksX5_undo_0 23 rfl rfl)
theorem dX5_undo_24 : decode cX5_undo 24 = .ok (.dup, 1) := dk_89 (dk_at dksX5_undo_1 0 rfl rfl)
theorem dX5_undo_25 : decode cX5_undo 25 = .ok (.getfield 51, 3) := dk_180 0 51 (dk_at dksX5_undo_1 1 rfl rfl)
theorem dX5_undo_28 : decode cX5_undo 28 = .ok (.iconst 1, 1) := dk_4 (dk_at dksX5_undo_1 4 rfl rfl)
theorem dX5_undo_29 : decode cX5_undo 29 = .ok (.isub, 1) := dk_100 (dk_at dksX5_undo_1 5 rfl rfl)
theorem dX5_undo_30 : decode cX5_undo 30 = .ok (.putfield 51, 3) := dk_181 0 51 (dk_at dksX5_undo_1 6 rfl rfl)
theorem dX5_undo_33 : decode cX5_undo 33 = .ok (.aload_n 0, 1) := dk_42 (dk_at dksX5_undo_1 9 rfl rfl)
theorem dX5_undo_34 : decode cX5_undo 34 = .ok (.getfield 19, 3) := dk_180 0 19 (dk_at dksX5_undo_1 10 rfl rfl)
theorem dX5_undo_37 : decode cX5_undo 37 = .ok (.aload_n 0, 1) := dk_42 (dk_at dksX5_undo_1 13 rfl rfl)
theorem dX5_undo_38 : decode cX5_undo 38 = .ok (.getfield 51, 3) := dk_180 0 51 (dk_at dksX5_undo_1 14 rfl rfl)
theorem dX5_undo_41 : decode cX5_undo 41 = .ok (.sipush 137, 3) := dk_17 0 137 (dk_at dksX5_undo_1 17 rfl rfl)
theorem dX5_undo_44 : decode cX5_undo 44 = .ok (.imul, 1) := dk_104 (dk_at dksX5_undo_1 20 rfl rfl)
theorem dX5_undo_45 : decode cX5_undo 45 = .ok (.aload_n 0, 1) := dk_42 (dk_at dksX5_undo_1 21 rfl rfl)
theorem dX5_undo_46 : decode cX5_undo 46 = .ok (.getfield 9, 3) := dk_180 0 9 (dk_at dksX5_undo_2 0 rfl rfl)
theorem dX5_undo_49 : decode cX5_undo 49 = .ok (.iconst 0, 1) := dk_3 (dk_at dksX5_undo_2 3 rfl rfl)
theorem dX5_undo_50 : decode cX5_undo 50 = .ok (.invokestatic 47, 3) := dk_184 0 47 (dk_at dksX5_undo_2 4 rfl rfl)
theorem dX5_undo_53 : decode cX5_undo 53 = .ok (.aload_n 0, 1) := dk_42 (dk_at dksX5_undo_2 7 rfl rfl)
theorem dX5_undo_54 : decode cX5_undo 54 = .ok (.getfield 51, 3) := dk_180 0 51 (dk_at dksX5_undo_2 8 rfl rfl)
theorem dX5_undo_57 : decode cX5_undo 57 = .ok (.ireturn, 1) := dk_172 (dk_at dksX5_undo_2 11 rfl rfl)
abbrev cX5_copies : ByteArray := prog_12_method_4_code
def yX5_copies : MethodName := ⟨RX5, "copies", "([II[II)V"⟩
def dkwX5_copies_1 : List UInt8 := [132, 4, 1, 167, 255, 233, 177]
abbrev dktX5_copies_1 : List UInt8 := dkwX5_copies_1 ++ []
def dkwX5_copies_0 : List UInt8 := [3, 54, 4, 21, 4, 17, 0, 137, 162, 0, 21, 44, 29, 21, 4, 96, 42, 27, 21, 4, 96, 46, 79]
abbrev dktX5_copies_0 : List UInt8 := dkwX5_copies_0 ++ dktX5_copies_1
theorem dksX5_copies_0 : cX5_copies.data.toList.drop 0 = dktX5_copies_0 := by decide +kernel
theorem dksX5_copies_1 : cX5_copies.data.toList.drop 23 = dktX5_copies_1 := dk_seg dksX5_copies_0 23 rfl rfl
theorem dX5_copies_0 : decode cX5_copies 0 = .ok (.iconst 0, 1) := dk_3 (dk_at dksX5_copies_0 0 rfl rfl)
theorem dX5_copies_1 : decode cX5_copies 1 = .ok (.istore 4, 2) := dk_54 4 (dk_at dksX5_copies_0 1 rfl rfl)
theorem dX5_copies_3 : decode cX5_copies 3 = .ok (.iload 4, 2) := dk_21 4 (dk_at dksX5_copies_0 3 rfl rfl)
theorem dX5_copies_5 : decode cX5_copies 5 = .ok (.sipush 137, 3) := dk_17 0 137 (dk_at dksX5_copies_0 5 rfl rfl)
theorem dX5_copies_8 : decode cX5_copies 8 = .ok (.if_icmp .ge 21, 3) := dk_162 0 21 (dk_at dksX5_copies_0 8 rfl rfl)
theorem dX5_copies_11 : decode cX5_copies 11 = .ok (.aload_n 2, 1) := dk_44 (dk_at dksX5_copies_0 11 rfl rfl)
theorem dX5_copies_12 : decode cX5_copies 12 = .ok (.iload_n 3, 1) := dk_29 (dk_at dksX5_copies_0 12 rfl rfl)
theorem dX5_copies_13 : decode cX5_copies 13 = .ok (.iload 4, 2) := dk_21 4 (dk_at dksX5_copies_0 13 rfl rfl)
theorem dX5_copies_15 : decode cX5_copies 15 = .ok (.iadd, 1) := dk_96 (dk_at dksX5_copies_0 15 rfl rfl)
theorem dX5_copies_16 : decode cX5_copies 16 = .ok (.aload_n 0, 1) := dk_42 (dk_at dksX5_copies_0 16 rfl rfl)
theorem dX5_copies_17 : decode cX5_copies 17 = .ok (.iload_n 1, 1) := dk_27 (dk_at dksX5_copies_0 17 rfl rfl)
theorem dX5_copies_18 : decode cX5_copies 18 = .ok (.iload 4, 2) := dk_21 4 (dk_at dksX5_copies_0 18 rfl rfl)
theorem dX5_copies_20 : decode cX5_copies 20 = .ok (.iadd, 1) := dk_96 (dk_at dksX5_copies_0 20 rfl rfl)
theorem dX5_copies_21 : decode cX5_copies 21 = .ok (.iaload, 1) := dk_46 (dk_at dksX5_copies_0 21 rfl rfl)
theorem dX5_copies_22 : decode cX5_copies 22 = .ok (.iastore, 1) := dk_79 (dk_at dksX5_copies_0 22 rfl rfl)
theorem dX5_copies_23 : decode cX5_copies 23 = .ok (.iinc 4 1, 3) := dk_132 4 1 (dk_at dksX5_copies_1 0 rfl rfl)
theorem dX5_copies_26 : decode cX5_copies 26 = .ok (.goto (-23), 3) := dk_167 255 233 (dk_at dksX5_copies_1 3 rfl rfl)
theorem dX5_copies_29 : decode cX5_copies 29 = .ok (.return_, 1) := dk_177 (dk_at dksX5_copies_1 6 rfl rfl)
abbrev cX5_save : ByteArray := prog_12_method_11_code
def yX5_save : MethodName := ⟨RX5, "save", "()I"⟩
def dkwX5_save_1 : List UInt8 := [180, 0, 9, 3, 46, 172]
abbrev dktX5_save_1 : List UInt8 := dkwX5_save_1 ++ []
def dkwX5_save_0 : List UInt8 := [42, 3, 181, 0, 38, 42, 180, 0, 9, 3, 42, 180, 0, 16, 3, 184, 0, 47, 42, 4, 181, 0, 69, 42]
abbrev dktX5_save_0 : List UInt8 := dkwX5_save_0 ++ dktX5_save_1
theorem dksX5_save_0 : cX5_save.data.toList.drop 0 = dktX5_save_0 := by decide +kernel
theorem dksX5_save_1 : cX5_save.data.toList.drop 24 = dktX5_save_1 := dk_seg dksX5_save_0 24 rfl rfl
theorem dX5_save_0 : decode cX5_save 0 = .ok (.aload_n 0, 1) := dk_42 (dk_at dksX5_save_0 0 rfl rfl)
theorem dX5_save_1 : decode cX5_save 1 = .ok (.iconst 0, 1) := dk_3 (dk_at dksX5_save_0 1 rfl rfl)
theorem dX5_save_2 : decode cX5_save 2 = .ok (.putfield 38, 3) := dk_181 0 38 (dk_at dksX5_save_0 2 rfl rfl)
theorem dX5_save_5 : decode cX5_save 5 = .ok (.aload_n 0, 1) := dk_42 (dk_at dksX5_save_0 5 rfl rfl)
theorem dX5_save_6 : decode cX5_save 6 = .ok (.getfield 9, 3) := dk_180 0 9 (dk_at dksX5_save_0 6 rfl rfl)
theorem dX5_save_9 : decode cX5_save 9 = .ok (.iconst 0, 1) := dk_3 (dk_at dksX5_save_0 9 rfl rfl)
theorem dX5_save_10 : decode cX5_save 10 = .ok (.aload_n 0, 1) := dk_42 (dk_at dksX5_save_0 10 rfl rfl)
theorem dX5_save_11 : decode cX5_save 11 = .ok (.getfield 16, 3) := dk_180 0 16 (dk_at dksX5_save_0 11 rfl rfl)
theorem dX5_save_14 : decode cX5_save 14 = .ok (.iconst 0, 1) := dk_3 (dk_at dksX5_save_0 14 rfl rfl)
theorem dX5_save_15 : decode cX5_save 15 = .ok (.invokestatic 47, 3) := dk_184 0 47 (dk_at dksX5_save_0 15 rfl rfl)
theorem dX5_save_18 : decode cX5_save 18 = .ok (.aload_n 0, 1) := dk_42 (dk_at dksX5_save_0 18 rfl rfl)
theorem dX5_save_19 : decode cX5_save 19 = .ok (.iconst 1, 1) := dk_4 (dk_at dksX5_save_0 19 rfl rfl)
theorem dX5_save_20 : decode cX5_save 20 = .ok (.putfield 69, 3) := dk_181 0 69 (dk_at dksX5_save_0 20 rfl rfl)
theorem dX5_save_23 : decode cX5_save 23 = .ok (.aload_n 0, 1) := dk_42 (dk_at dksX5_save_0 23 rfl rfl)
theorem dX5_save_24 : decode cX5_save 24 = .ok (.getfield 9, 3) := dk_180 0 9 (dk_at dksX5_save_1 0 rfl rfl)
theorem dX5_save_27 : decode cX5_save 27 = .ok (.iconst 0, 1) := dk_3 (dk_at dksX5_save_1 3 rfl rfl)
theorem dX5_save_28 : decode cX5_save 28 = .ok (.iaload, 1) := dk_46 (dk_at dksX5_save_1 4 rfl rfl)
theorem dX5_save_29 : decode cX5_save 29 = .ok (.ireturn, 1) := dk_172 (dk_at dksX5_save_1 5 rfl rfl)
abbrev cX5_restore : ByteArray := prog_12_method_12_code
def yX5_restore : MethodName := ⟨RX5, "restore", "()I"⟩
def dkwX5_restore_2 : List UInt8 := [42, 180, 0, 9, 3, 46, 167, 0, 4, 3, 172]
abbrev dktX5_restore_2 : List UInt8 := dkwX5_restore_2 ++ []
def dkwX5_restore_1 : List UInt8 := [180, 0, 16, 3, 42, 180, 0, 9, 3, 184, 0, 47, 42, 3, 181, 0, 51, 42, 180, 0, 69, 153, 0, 12]
abbrev dktX5_restore_1 : List UInt8 := dkwX5_restore_1 ++ dktX5_restore_2
def dkwX5_restore_0 : List UInt8 := [42, 42, 180, 0, 69, 153, 0, 7, 3, 167, 0, 4, 4, 181, 0, 38, 42, 180, 0, 69, 153, 0, 21, 42]
abbrev dktX5_restore_0 : List UInt8 := dkwX5_restore_0 ++ dktX5_restore_1
theorem dksX5_restore_0 : cX5_restore.data.toList.drop 0 = dktX5_restore_0 := by decide +kernel
theorem dksX5_restore_1 : cX5_restore.data.toList.drop 24 = dktX5_restore_1 := dk_seg dksX5_restore_0 24 rfl rfl
theorem dksX5_restore_2 : cX5_restore.data.toList.drop 48 = dktX5_restore_2 := dk_seg dksX5_restore_1 24 rfl rfl
theorem dX5_restore_0 : decode cX5_restore 0 = .ok (.aload_n 0, 1) := dk_42 (dk_at dksX5_restore_0 0 rfl rfl)
theorem dX5_restore_1 : decode cX5_restore 1 = .ok (.aload_n 0, 1) := dk_42 (dk_at dksX5_restore_0 1 rfl rfl)
theorem dX5_restore_2 : decode cX5_restore 2 = .ok (.getfield 69, 3) := dk_180 0 69 (dk_at dksX5_restore_0 2 rfl rfl)
theorem dX5_restore_5 : decode cX5_restore 5 = .ok (.ifCond .eq 7, 3) := dk_153 0 7 (dk_at dksX5_restore_0 5 rfl rfl)
theorem dX5_restore_8 : decode cX5_restore 8 = .ok (.iconst 0, 1) := dk_3 (dk_at dksX5_restore_0 8 rfl rfl)
theorem dX5_restore_9 : decode cX5_restore 9 = .ok (.goto 4, 3) := dk_167 0 4 (dk_at dksX5_restore_0 9 rfl rfl)
theorem dX5_restore_12 : decode cX5_restore 12 = .ok (.iconst 1, 1) := dk_4 (dk_at dksX5_restore_0 12 rfl rfl)
theorem dX5_restore_13 : decode cX5_restore 13 = .ok (.putfield 38, 3) := dk_181 0 38 (dk_at dksX5_restore_0 13 rfl rfl)
theorem dX5_restore_16 : decode cX5_restore 16 = .ok (.aload_n 0, 1) := dk_42 (dk_at dksX5_restore_0 16 rfl rfl)
theorem dX5_restore_17 : decode cX5_restore 17 = .ok (.getfield 69, 3) := dk_180 0 69 (dk_at dksX5_restore_0 17 rfl rfl)
theorem dX5_restore_20 : decode cX5_restore 20 = .ok (.ifCond .eq 21, 3) := dk_153 0 21 (dk_at dksX5_restore_0 20 rfl rfl)
theorem dX5_restore_23 : decode cX5_restore 23 = .ok (.aload_n 0, 1) := dk_42 (dk_at dksX5_restore_0 23 rfl rfl)
theorem dX5_restore_24 : decode cX5_restore 24 = .ok (.getfield 16, 3) := dk_180 0 16 (dk_at dksX5_restore_1 0 rfl rfl)
theorem dX5_restore_27 : decode cX5_restore 27 = .ok (.iconst 0, 1) := dk_3 (dk_at dksX5_restore_1 3 rfl rfl)
theorem dX5_restore_28 : decode cX5_restore 28 = .ok (.aload_n 0, 1) := dk_42 (dk_at dksX5_restore_1 4 rfl rfl)
theorem dX5_restore_29 : decode cX5_restore 29 = .ok (.getfield 9, 3) := dk_180 0 9 (dk_at dksX5_restore_1 5 rfl rfl)
theorem dX5_restore_32 : decode cX5_restore 32 = .ok (.iconst 0, 1) := dk_3 (dk_at dksX5_restore_1 8 rfl rfl)
theorem dX5_restore_33 : decode cX5_restore 33 = .ok (.invokestatic 47, 3) := dk_184 0 47 (dk_at dksX5_restore_1 9 rfl rfl)
theorem dX5_restore_36 : decode cX5_restore 36 = .ok (.aload_n 0, 1) := dk_42 (dk_at dksX5_restore_1 12 rfl rfl)
theorem dX5_restore_37 : decode cX5_restore 37 = .ok (.iconst 0, 1) := dk_3 (dk_at dksX5_restore_1 13 rfl rfl)
theorem dX5_restore_38 : decode cX5_restore 38 = .ok (.putfield 51, 3) := dk_181 0 51 (dk_at dksX5_restore_1 14 rfl rfl)
theorem dX5_restore_41 : decode cX5_restore 41 = .ok (.aload_n 0, 1) := dk_42 (dk_at dksX5_restore_1 17 rfl rfl)
theorem dX5_restore_42 : decode cX5_restore 42 = .ok (.getfield 69, 3) := dk_180 0 69 (dk_at dksX5_restore_1 18 rfl rfl)
theorem dX5_restore_45 : decode cX5_restore 45 = .ok (.ifCond .eq 12, 3) := dk_153 0 12 (dk_at dksX5_restore_1 21 rfl rfl)
theorem dX5_restore_48 : decode cX5_restore 48 = .ok (.aload_n 0, 1) := dk_42 (dk_at dksX5_restore_2 0 rfl rfl)
theorem dX5_restore_49 : decode cX5_restore 49 = .ok (.getfield 9, 3) := dk_180 0 9 (dk_at dksX5_restore_2 1 rfl rfl)
theorem dX5_restore_52 : decode cX5_restore 52 = .ok (.iconst 0, 1) := dk_3 (dk_at dksX5_restore_2 4 rfl rfl)
theorem dX5_restore_53 : decode cX5_restore 53 = .ok (.iaload, 1) := dk_46 (dk_at dksX5_restore_2 5 rfl rfl)
theorem dX5_restore_54 : decode cX5_restore 54 = .ok (.goto 4, 3) := dk_167 0 4 (dk_at dksX5_restore_2 6 rfl rfl)
theorem dX5_restore_57 : decode cX5_restore 57 = .ok (.iconst 0, 1) := dk_3 (dk_at dksX5_restore_2 9 rfl rfl)
theorem dX5_restore_58 : decode cX5_restore 58 = .ok (.ireturn, 1) := dk_172 (dk_at dksX5_restore_2 10 rfl rfl)
abbrev cX5_bracket : ByteArray := prog_12_method_20_code
def yX5_bracket : MethodName := ⟨RX5, "bracket", "(II)I"⟩
def dkwX5_bracket_0 : List UInt8 := [42, 182, 0, 89, 42, 42, 27, 28, 182, 0, 92, 182, 0, 96, 172]
abbrev dktX5_bracket_0 : List UInt8 := dkwX5_bracket_0 ++ []
theorem dksX5_bracket_0 : cX5_bracket.data.toList.drop 0 = dktX5_bracket_0 := by decide +kernel
theorem dX5_bracket_0 : decode cX5_bracket 0 = .ok (.aload_n 0, 1) := dk_42 (dk_at dksX5_bracket_0 0 rfl rfl)
theorem dX5_bracket_1 : decode cX5_bracket 1 = .ok (.invokevirtual 89, 3) := dk_182 0 89 (dk_at dksX5_bracket_0 1 rfl rfl)
theorem dX5_bracket_4 : decode cX5_bracket 4 = .ok (.aload_n 0, 1) := dk_42 (dk_at dksX5_bracket_0 4 rfl rfl)
theorem dX5_bracket_5 : decode cX5_bracket 5 = .ok (.aload_n 0, 1) := dk_42 (dk_at dksX5_bracket_0 5 rfl rfl)
theorem dX5_bracket_6 : decode cX5_bracket 6 = .ok (.iload_n 1, 1) := dk_27 (dk_at dksX5_bracket_0 6 rfl rfl)
theorem dX5_bracket_7 : decode cX5_bracket 7 = .ok (.iload_n 2, 1) := dk_28 (dk_at dksX5_bracket_0 7 rfl rfl)
theorem dX5_bracket_8 : decode cX5_bracket 8 = .ok (.invokevirtual 92, 3) := dk_182 0 92 (dk_at dksX5_bracket_0 8 rfl rfl)
theorem dX5_bracket_11 : decode cX5_bracket 11 = .ok (.invokevirtual 96, 3) := dk_182 0 96 (dk_at dksX5_bracket_0 11 rfl rfl)
theorem dX5_bracket_14 : decode cX5_bracket 14 = .ok (.ireturn, 1) := dk_172 (dk_at dksX5_bracket_0 14 rfl rfl)
abbrev cX5_begins : ByteArray := prog_12_method_6_code
def yX5_begins : MethodName := ⟨RX5, "begins", "()V"⟩
def dkwX5_begins_0 : List UInt8 := [42, 180, 0, 9, 3, 42, 180, 0, 13, 3, 184, 0, 47, 42, 3, 181, 0, 41, 42, 3, 181, 0, 38, 177]
abbrev dktX5_begins_0 : List UInt8 := dkwX5_begins_0 ++ []
theorem dksX5_begins_0 : cX5_begins.data.toList.drop 0 = dktX5_begins_0 := by decide +kernel
theorem dX5_begins_0 : decode cX5_begins 0 = .ok (.aload_n 0, 1) := dk_42 (dk_at dksX5_begins_0 0 rfl rfl)
theorem dX5_begins_1 : decode cX5_begins 1 = .ok (.getfield 9, 3) := dk_180 0 9 (dk_at dksX5_begins_0 1 rfl rfl)
theorem dX5_begins_4 : decode cX5_begins 4 = .ok (.iconst 0, 1) := dk_3 (dk_at dksX5_begins_0 4 rfl rfl)
theorem dX5_begins_5 : decode cX5_begins 5 = .ok (.aload_n 0, 1) := dk_42 (dk_at dksX5_begins_0 5 rfl rfl)
theorem dX5_begins_6 : decode cX5_begins 6 = .ok (.getfield 13, 3) := dk_180 0 13 (dk_at dksX5_begins_0 6 rfl rfl)
theorem dX5_begins_9 : decode cX5_begins 9 = .ok (.iconst 0, 1) := dk_3 (dk_at dksX5_begins_0 9 rfl rfl)
theorem dX5_begins_10 : decode cX5_begins 10 = .ok (.invokestatic 47, 3) := dk_184 0 47 (dk_at dksX5_begins_0 10 rfl rfl)
theorem dX5_begins_13 : decode cX5_begins 13 = .ok (.aload_n 0, 1) := dk_42 (dk_at dksX5_begins_0 13 rfl rfl)
theorem dX5_begins_14 : decode cX5_begins 14 = .ok (.iconst 0, 1) := dk_3 (dk_at dksX5_begins_0 14 rfl rfl)
theorem dX5_begins_15 : decode cX5_begins 15 = .ok (.putfield 41, 3) := dk_181 0 41 (dk_at dksX5_begins_0 15 rfl rfl)
theorem dX5_begins_18 : decode cX5_begins 18 = .ok (.aload_n 0, 1) := dk_42 (dk_at dksX5_begins_0 18 rfl rfl)
theorem dX5_begins_19 : decode cX5_begins 19 = .ok (.iconst 0, 1) := dk_3 (dk_at dksX5_begins_0 19 rfl rfl)
theorem dX5_begins_20 : decode cX5_begins 20 = .ok (.putfield 38, 3) := dk_181 0 38 (dk_at dksX5_begins_0 20 rfl rfl)
theorem dX5_begins_23 : decode cX5_begins 23 = .ok (.return_, 1) := dk_177 (dk_at dksX5_begins_0 23 rfl rfl)
abbrev cX5_tells : ByteArray := prog_12_method_19_code
def yX5_tells : MethodName := ⟨RX5, "tells", "(II)I"⟩
def dkwX5_tells_8 : List UInt8 := [79, 29, 172]
abbrev dktX5_tells_8 : List UInt8 := dkwX5_tells_8 ++ []
def dkwX5_tells_7 : List UInt8 := [79, 42, 180, 0, 9, 16, 13, 5, 29, 104, 96, 4, 96, 28, 79, 42, 180, 0, 9, 4, 92, 46, 4, 96]
abbrev dktX5_tells_7 : List UInt8 := dkwX5_tells_7 ++ dktX5_tells_8
def dkwX5_tells_6 : List UInt8 := [16, 13, 21, 4, 96, 46, 79, 132, 4, 255, 167, 255, 223, 42, 180, 0, 9, 16, 13, 5, 29, 104, 96, 27]
abbrev dktX5_tells_6 : List UInt8 := dkwX5_tells_6 ++ dktX5_tells_7
def dkwX5_tells_5 : List UInt8 := [21, 4, 5, 29, 104, 161, 0, 31, 42, 180, 0, 9, 16, 13, 21, 4, 96, 5, 96, 42, 180, 0, 9]
abbrev dktX5_tells_5 : List UInt8 := dkwX5_tells_5 ++ dktX5_tells_6
def dkwX5_tells_4 : List UInt8 := [8, 182, 0, 77, 42, 180, 0, 41, 154, 0, 87, 5, 42, 180, 0, 9, 4, 46, 104, 4, 100, 54, 4]
abbrev dktX5_tells_4 : List UInt8 := dkwX5_tells_4 ++ dktX5_tells_5
def dkwX5_tells_3 : List UInt8 := [62, 132, 4, 1, 167, 255, 202, 42, 42, 180, 0, 9, 4, 46, 8, 160, 0, 7, 4, 167, 0, 4, 3, 4]
abbrev dktX5_tells_3 : List UInt8 := dkwX5_tells_3 ++ dktX5_tells_4
def dkwX5_tells_2 : List UInt8 := [3, 7, 21, 4, 182, 0, 77, 29, 42, 21, 4, 182, 0, 85, 27, 162, 0, 7, 4, 167, 0, 4, 3, 96]
abbrev dktX5_tells_2 : List UInt8 := dkwX5_tells_2 ++ dktX5_tells_3
def dkwX5_tells_1 : List UInt8 := [42, 180, 0, 9, 4, 46, 162, 0, 49, 42, 42, 21, 4, 182, 0, 85, 27, 160, 0, 7, 4, 167, 0, 4]
abbrev dktX5_tells_1 : List UInt8 := dkwX5_tells_1 ++ dktX5_tells_2
def dkwX5_tells_0 : List UInt8 := [42, 27, 4, 17, 39, 15, 182, 0, 81, 42, 28, 3, 16, 60, 182, 0, 81, 3, 62, 3, 54, 4, 21, 4]
abbrev dktX5_tells_0 : List UInt8 := dkwX5_tells_0 ++ dktX5_tells_1
theorem dksX5_tells_0 : cX5_tells.data.toList.drop 0 = dktX5_tells_0 := by decide +kernel
theorem dksX5_tells_1 : cX5_tells.data.toList.drop 24 = dktX5_tells_1 := dk_seg dksX5_tells_0 24 rfl rfl
theorem dksX5_tells_2 : cX5_tells.data.toList.drop 48 = dktX5_tells_2 := dk_seg dksX5_tells_1 24 rfl rfl
theorem dksX5_tells_3 : cX5_tells.data.toList.drop 72 = dktX5_tells_3 := dk_seg dksX5_tells_2 24 rfl rfl
theorem dksX5_tells_4 : cX5_tells.data.toList.drop 96 = dktX5_tells_4 := dk_seg dksX5_tells_3 24 rfl rfl
theorem dksX5_tells_5 : cX5_tells.data.toList.drop 119 = dktX5_tells_5 := dk_seg dksX5_tells_4 23 rfl rfl
theorem dksX5_tells_6 : cX5_tells.data.toList.drop 142 = dktX5_tells_6 := dk_seg dksX5_tells_5 23 rfl rfl
theorem dksX5_tells_7 : cX5_tells.data.toList.drop 166 = dktX5_tells_7 := dk_seg dksX5_tells_6 24 rfl rfl
theorem dksX5_tells_8 : cX5_tells.data.toList.drop 190 = dktX5_tells_8 := dk_seg dksX5_tells_7 24 rfl rfl
theorem dX5_tells_0 : decode cX5_tells 0 = .ok (.aload_n 0, 1) := dk_42 (dk_at dksX5_tells_0 0 rfl rfl)
theorem dX5_tells_1 : decode cX5_tells 1 = .ok (.iload_n 1, 1) := dk_27 (dk_at dksX5_tells_0 1 rfl rfl)
theorem dX5_tells_2 : decode cX5_tells 2 = .ok (.iconst 1, 1) := dk_4 (dk_at dksX5_tells_0 2 rfl rfl)
theorem dX5_tells_3 : decode cX5_tells 3 = .ok (.sipush 9999, 3) := dk_17 39 15 (dk_at dksX5_tells_0 3 rfl rfl)
theorem dX5_tells_6 : decode cX5_tells 6 = .ok (.invokevirtual 81, 3) := dk_182 0 81 (dk_at dksX5_tells_0 6 rfl rfl)
theorem dX5_tells_9 : decode cX5_tells 9 = .ok (.aload_n 0, 1) := dk_42 (dk_at dksX5_tells_0 9 rfl rfl)
theorem dX5_tells_10 : decode cX5_tells 10 = .ok (.iload_n 2, 1) := dk_28 (dk_at dksX5_tells_0 10 rfl rfl)
theorem dX5_tells_11 : decode cX5_tells 11 = .ok (.iconst 0, 1) := dk_3 (dk_at dksX5_tells_0 11 rfl rfl)
theorem dX5_tells_12 : decode cX5_tells 12 = .ok (.bipush 60, 2) := dk_16 60 (dk_at dksX5_tells_0 12 rfl rfl)
theorem dX5_tells_14 : decode cX5_tells 14 = .ok (.invokevirtual 81, 3) := dk_182 0 81 (dk_at dksX5_tells_0 14 rfl rfl)
theorem dX5_tells_17 : decode cX5_tells 17 = .ok (.iconst 0, 1) := dk_3 (dk_at dksX5_tells_0 17 rfl rfl)
theorem dX5_tells_18 : decode cX5_tells 18 = .ok (.istore_n 3, 1) := dk_62 (dk_at dksX5_tells_0 18 rfl rfl)
theorem dX5_tells_19 : decode cX5_tells 19 = .ok (.iconst 0, 1) := dk_3 (dk_at dksX5_tells_0 19 rfl rfl)
theorem dX5_tells_20 : decode cX5_tells 20 = .ok (.istore 4, 2) := dk_54 4 (dk_at dksX5_tells_0 20 rfl rfl)
theorem dX5_tells_22 : decode cX5_tells 22 = .ok (.iload 4, 2) := dk_21 4 (dk_at dksX5_tells_0 22 rfl rfl)
theorem dX5_tells_24 : decode cX5_tells 24 = .ok (.aload_n 0, 1) := dk_42 (dk_at dksX5_tells_1 0 rfl rfl)
theorem dX5_tells_25 : decode cX5_tells 25 = .ok (.getfield 9, 3) := dk_180 0 9 (dk_at dksX5_tells_1 1 rfl rfl)
theorem dX5_tells_28 : decode cX5_tells 28 = .ok (.iconst 1, 1) := dk_4 (dk_at dksX5_tells_1 4 rfl rfl)
theorem dX5_tells_29 : decode cX5_tells 29 = .ok (.iaload, 1) := dk_46 (dk_at dksX5_tells_1 5 rfl rfl)
theorem dX5_tells_30 : decode cX5_tells 30 = .ok (.if_icmp .ge 49, 3) := dk_162 0 49 (dk_at dksX5_tells_1 6 rfl rfl)
theorem dX5_tells_33 : decode cX5_tells 33 = .ok (.aload_n 0, 1) := dk_42 (dk_at dksX5_tells_1 9 rfl rfl)
theorem dX5_tells_34 : decode cX5_tells 34 = .ok (.aload_n 0, 1) := dk_42 (dk_at dksX5_tells_1 10 rfl rfl)
theorem dX5_tells_35 : decode cX5_tells 35 = .ok (.iload 4, 2) := dk_21 4 (dk_at dksX5_tells_1 11 rfl rfl)
theorem dX5_tells_37 : decode cX5_tells 37 = .ok (.invokevirtual 85, 3) := dk_182 0 85 (dk_at dksX5_tells_1 13 rfl rfl)
theorem dX5_tells_40 : decode cX5_tells 40 = .ok (.iload_n 1, 1) := dk_27 (dk_at dksX5_tells_1 16 rfl rfl)
theorem dX5_tells_41 : decode cX5_tells 41 = .ok (.if_icmp .ne 7, 3) := dk_160 0 7 (dk_at dksX5_tells_1 17 rfl rfl)
theorem dX5_tells_44 : decode cX5_tells 44 = .ok (.iconst 1, 1) := dk_4 (dk_at dksX5_tells_1 20 rfl rfl)
theorem dX5_tells_45 : decode cX5_tells 45 = .ok (.goto 4, 3) := dk_167 0 4 (dk_at dksX5_tells_1 21 rfl rfl)
theorem dX5_tells_48 : decode cX5_tells 48 = .ok (.iconst 0, 1) := dk_3 (dk_at dksX5_tells_2 0 rfl rfl)
theorem dX5_tells_49 : decode cX5_tells 49 = .ok (.iconst 4, 1) := dk_7 (dk_at dksX5_tells_2 1 rfl rfl)
theorem dX5_tells_50 : decode cX5_tells 50 = .ok (.iload 4, 2) := dk_21 4 (dk_at dksX5_tells_2 2 rfl rfl)
theorem dX5_tells_52 : decode cX5_tells 52 = .ok (.invokevirtual 77, 3) := dk_182 0 77 (dk_at dksX5_tells_2 4 rfl rfl)
theorem dX5_tells_55 : decode cX5_tells 55 = .ok (.iload_n 3, 1) := dk_29 (dk_at dksX5_tells_2 7 rfl rfl)
theorem dX5_tells_56 : decode cX5_tells 56 = .ok (.aload_n 0, 1) := dk_42 (dk_at dksX5_tells_2 8 rfl rfl)
theorem dX5_tells_57 : decode cX5_tells 57 = .ok (.iload 4, 2) := dk_21 4 (dk_at dksX5_tells_2 9 rfl rfl)
theorem dX5_tells_59 : decode cX5_tells 59 = .ok (.invokevirtual 85, 3) := dk_182 0 85 (dk_at dksX5_tells_2 11 rfl rfl)
theorem dX5_tells_62 : decode cX5_tells 62 = .ok (.iload_n 1, 1) := dk_27 (dk_at dksX5_tells_2 14 rfl rfl)
theorem dX5_tells_63 : decode cX5_tells 63 = .ok (.if_icmp .ge 7, 3) := dk_162 0 7 (dk_at dksX5_tells_2 15 rfl rfl)
theorem dX5_tells_66 : decode cX5_tells 66 = .ok (.iconst 1, 1) := dk_4 (dk_at dksX5_tells_2 18 rfl rfl)
theorem dX5_tells_67 : decode cX5_tells 67 = .ok (.goto 4, 3) := dk_167 0 4 (dk_at dksX5_tells_2 19 rfl rfl)
theorem dX5_tells_70 : decode cX5_tells 70 = .ok (.iconst 0, 1) := dk_3 (dk_at dksX5_tells_2 22 rfl rfl)
theorem dX5_tells_71 : decode cX5_tells 71 = .ok (.iadd, 1) := dk_96 (dk_at dksX5_tells_2 23 rfl rfl)
theorem dX5_tells_72 : decode cX5_tells 72 = .ok (.istore_n 3, 1) := dk_62 (dk_at dksX5_tells_3 0 rfl rfl)
theorem dX5_tells_73 : decode cX5_tells 73 = .ok (.iinc 4 1, 3) := dk_132 4 1 (dk_at dksX5_tells_3 1 rfl rfl)
theorem dX5_tells_76 : decode cX5_tells 76 = .ok (.goto (-54), 3) := dk_167 255 202 (dk_at dksX5_tells_3 4 rfl rfl)
theorem dX5_tells_79 : decode cX5_tells 79 = .ok (.aload_n 0, 1) := dk_42 (dk_at dksX5_tells_3 7 rfl rfl)
theorem dX5_tells_80 : decode cX5_tells 80 = .ok (.aload_n 0, 1) := dk_42 (dk_at dksX5_tells_3 8 rfl rfl)
theorem dX5_tells_81 : decode cX5_tells 81 = .ok (.getfield 9, 3) := dk_180 0 9 (dk_at dksX5_tells_3 9 rfl rfl)
theorem dX5_tells_84 : decode cX5_tells 84 = .ok (.iconst 1, 1) := dk_4 (dk_at dksX5_tells_3 12 rfl rfl)
theorem dX5_tells_85 : decode cX5_tells 85 = .ok (.iaload, 1) := dk_46 (dk_at dksX5_tells_3 13 rfl rfl)
theorem dX5_tells_86 : decode cX5_tells 86 = .ok (.iconst 5, 1) := dk_8 (dk_at dksX5_tells_3 14 rfl rfl)
theorem dX5_tells_87 : decode cX5_tells 87 = .ok (.if_icmp .ne 7, 3) := dk_160 0 7 (dk_at dksX5_tells_3 15 rfl rfl)
theorem dX5_tells_90 : decode cX5_tells 90 = .ok (.iconst 1, 1) := dk_4 (dk_at dksX5_tells_3 18 rfl rfl)
theorem dX5_tells_91 : decode cX5_tells 91 = .ok (.goto 4, 3) := dk_167 0 4 (dk_at dksX5_tells_3 19 rfl rfl)
theorem dX5_tells_94 : decode cX5_tells 94 = .ok (.iconst 0, 1) := dk_3 (dk_at dksX5_tells_3 22 rfl rfl)
theorem dX5_tells_95 : decode cX5_tells 95 = .ok (.iconst 1, 1) := dk_4 (dk_at dksX5_tells_3 23 rfl rfl)
theorem dX5_tells_96 : decode cX5_tells 96 = .ok (.iconst 5, 1) := dk_8 (dk_at dksX5_tells_4 0 rfl rfl)
theorem dX5_tells_97 : decode cX5_tells 97 = .ok (.invokevirtual 77, 3) := dk_182 0 77 (dk_at dksX5_tells_4 1 rfl rfl)
theorem dX5_tells_100 : decode cX5_tells 100 = .ok (.aload_n 0, 1) := dk_42 (dk_at dksX5_tells_4 4 rfl rfl)
theorem dX5_tells_101 : decode cX5_tells 101 = .ok (.getfield 41, 3) := dk_180 0 41 (dk_at dksX5_tells_4 5 rfl rfl)
theorem dX5_tells_104 : decode cX5_tells 104 = .ok (.ifCond .ne 87, 3) := dk_154 0 87 (dk_at dksX5_tells_4 8 rfl rfl)
theorem dX5_tells_107 : decode cX5_tells 107 = .ok (.iconst 2, 1) := dk_5 (dk_at dksX5_tells_4 11 rfl rfl)
theorem dX5_tells_108 : decode cX5_tells 108 = .ok (.aload_n 0, 1) := dk_42 (dk_at dksX5_tells_4 12 rfl rfl)
theorem dX5_tells_109 : decode cX5_tells 109 = .ok (.getfield 9, 3) := dk_180 0 9 (dk_at dksX5_tells_4 13 rfl rfl)
theorem dX5_tells_112 : decode cX5_tells 112 = .ok (.iconst 1, 1) := dk_4 (dk_at dksX5_tells_4 16 rfl rfl)
theorem dX5_tells_113 : decode cX5_tells 113 = .ok (.iaload, 1) := dk_46 (dk_at dksX5_tells_4 17 rfl rfl)
theorem dX5_tells_114 : decode cX5_tells 114 = .ok (.imul, 1) := dk_104 (dk_at dksX5_tells_4 18 rfl rfl)
theorem dX5_tells_115 : decode cX5_tells 115 = .ok (.iconst 1, 1) := dk_4 (dk_at dksX5_tells_4 19 rfl rfl)
theorem dX5_tells_116 : decode cX5_tells 116 = .ok (.isub, 1) := dk_100 (dk_at dksX5_tells_4 20 rfl rfl)
theorem dX5_tells_117 : decode cX5_tells 117 = .ok (.istore 4, 2) := dk_54 4 (dk_at dksX5_tells_4 21 rfl rfl)
theorem dX5_tells_119 : decode cX5_tells 119 = .ok (.iload 4, 2) := dk_21 4 (dk_at dksX5_tells_5 0 rfl rfl)
theorem dX5_tells_121 : decode cX5_tells 121 = .ok (.iconst 2, 1) := dk_5 (dk_at dksX5_tells_5 2 rfl rfl)
theorem dX5_tells_122 : decode cX5_tells 122 = .ok (.iload_n 3, 1) := dk_29 (dk_at dksX5_tells_5 3 rfl rfl)
theorem dX5_tells_123 : decode cX5_tells 123 = .ok (.imul, 1) := dk_104 (dk_at dksX5_tells_5 4 rfl rfl)
theorem dX5_tells_124 : decode cX5_tells 124 = .ok (.if_icmp .lt 31, 3) := dk_161 0 31 (dk_at dksX5_tells_5 5 rfl rfl)
theorem dX5_tells_127 : decode cX5_tells 127 = .ok (.aload_n 0, 1) := dk_42 (dk_at dksX5_tells_5 8 rfl rfl)
theorem dX5_tells_128 : decode cX5_tells 128 = .ok (.getfield 9, 3) := dk_180 0 9 (dk_at dksX5_tells_5 9 rfl rfl)
theorem dX5_tells_131 : decode cX5_tells 131 = .ok (.bipush 13, 2) := dk_16 13 (dk_at dksX5_tells_5 12 rfl rfl)
theorem dX5_tells_133 : decode cX5_tells 133 = .ok (.iload 4, 2) := dk_21 4 (dk_at dksX5_tells_5 14 rfl rfl)
theorem dX5_tells_135 : decode cX5_tells 135 = .ok (.iadd, 1) := dk_96 (dk_at dksX5_tells_5 16 rfl rfl)
theorem dX5_tells_136 : decode cX5_tells 136 = .ok (.iconst 2, 1) := dk_5 (dk_at dksX5_tells_5 17 rfl rfl)
theorem dX5_tells_137 : decode cX5_tells 137 = .ok (.iadd, 1) := dk_96 (dk_at dksX5_tells_5 18 rfl rfl)
theorem dX5_tells_138 : decode cX5_tells 138 = .ok (.aload_n 0, 1) := dk_42 (dk_at dksX5_tells_5 19 rfl rfl)
theorem dX5_tells_139 : decode cX5_tells 139 = .ok (.getfield 9, 3) := dk_180 0 9 (dk_at dksX5_tells_5 20 rfl rfl)
theorem dX5_tells_142 : decode cX5_tells 142 = .ok (.bipush 13, 2) := dk_16 13 (dk_at dksX5_tells_6 0 rfl rfl)
theorem dX5_tells_144 : decode cX5_tells 144 = .ok (.iload 4, 2) := dk_21 4 (dk_at dksX5_tells_6 2 rfl rfl)
theorem dX5_tells_146 : decode cX5_tells 146 = .ok (.iadd, 1) := dk_96 (dk_at dksX5_tells_6 4 rfl rfl)
theorem dX5_tells_147 : decode cX5_tells 147 = .ok (.iaload, 1) := dk_46 (dk_at dksX5_tells_6 5 rfl rfl)
theorem dX5_tells_148 : decode cX5_tells 148 = .ok (.iastore, 1) := dk_79 (dk_at dksX5_tells_6 6 rfl rfl)
theorem dX5_tells_149 : decode cX5_tells 149 = .ok (.iinc 4 (-1), 3) := dk_132 4 255 (dk_at dksX5_tells_6 7 rfl rfl)
theorem dX5_tells_152 : decode cX5_tells 152 = .ok (.goto (-33), 3) := dk_167 255 223 (dk_at dksX5_tells_6 10 rfl rfl)
theorem dX5_tells_155 : decode cX5_tells 155 = .ok (.aload_n 0, 1) := dk_42 (dk_at dksX5_tells_6 13 rfl rfl)
theorem dX5_tells_156 : decode cX5_tells 156 = .ok (.getfield 9, 3) := dk_180 0 9 (dk_at dksX5_tells_6 14 rfl rfl)
theorem dX5_tells_159 : decode cX5_tells 159 = .ok (.bipush 13, 2) := dk_16 13 (dk_at dksX5_tells_6 17 rfl rfl)
theorem dX5_tells_161 : decode cX5_tells 161 = .ok (.iconst 2, 1) := dk_5 (dk_at dksX5_tells_6 19 rfl rfl)
theorem dX5_tells_162 : decode cX5_tells 162 = .ok (.iload_n 3, 1) := dk_29 (dk_at dksX5_tells_6 20 rfl rfl)
theorem dX5_tells_163 : decode cX5_tells 163 = .ok (.imul, 1) := dk_104 (dk_at dksX5_tells_6 21 rfl rfl)
theorem dX5_tells_164 : decode cX5_tells 164 = .ok (.iadd, 1) := dk_96 (dk_at dksX5_tells_6 22 rfl rfl)
theorem dX5_tells_165 : decode cX5_tells 165 = .ok (.iload_n 1, 1) := dk_27 (dk_at dksX5_tells_6 23 rfl rfl)
theorem dX5_tells_166 : decode cX5_tells 166 = .ok (.iastore, 1) := dk_79 (dk_at dksX5_tells_7 0 rfl rfl)
theorem dX5_tells_167 : decode cX5_tells 167 = .ok (.aload_n 0, 1) := dk_42 (dk_at dksX5_tells_7 1 rfl rfl)
theorem dX5_tells_168 : decode cX5_tells 168 = .ok (.getfield 9, 3) := dk_180 0 9 (dk_at dksX5_tells_7 2 rfl rfl)
theorem dX5_tells_171 : decode cX5_tells 171 = .ok (.bipush 13, 2) := dk_16 13 (dk_at dksX5_tells_7 5 rfl rfl)
theorem dX5_tells_173 : decode cX5_tells 173 = .ok (.iconst 2, 1) := dk_5 (dk_at dksX5_tells_7 7 rfl rfl)
theorem dX5_tells_174 : decode cX5_tells 174 = .ok (.iload_n 3, 1) := dk_29 (dk_at dksX5_tells_7 8 rfl rfl)
theorem dX5_tells_175 : decode cX5_tells 175 = .ok (.imul, 1) := dk_104 (dk_at dksX5_tells_7 9 rfl rfl)
theorem dX5_tells_176 : decode cX5_tells 176 = .ok (.iadd, 1) := dk_96 (dk_at dksX5_tells_7 10 rfl rfl)
theorem dX5_tells_177 : decode cX5_tells 177 = .ok (.iconst 1, 1) := dk_4 (dk_at dksX5_tells_7 11 rfl rfl)
theorem dX5_tells_178 : decode cX5_tells 178 = .ok (.iadd, 1) := dk_96 (dk_at dksX5_tells_7 12 rfl rfl)
theorem dX5_tells_179 : decode cX5_tells 179 = .ok (.iload_n 2, 1) := dk_28 (dk_at dksX5_tells_7 13 rfl rfl)
theorem dX5_tells_180 : decode cX5_tells 180 = .ok (.iastore, 1) := dk_79 (dk_at dksX5_tells_7 14 rfl rfl)
theorem dX5_tells_181 : decode cX5_tells 181 = .ok (.aload_n 0, 1) := dk_42 (dk_at dksX5_tells_7 15 rfl rfl)
theorem dX5_tells_182 : decode cX5_tells 182 = .ok (.getfield 9, 3) := dk_180 0 9 (dk_at dksX5_tells_7 16 rfl rfl)
theorem dX5_tells_185 : decode cX5_tells 185 = .ok (.iconst 1, 1) := dk_4 (dk_at dksX5_tells_7 19 rfl rfl)
theorem dX5_tells_186 : decode cX5_tells 186 = .ok (.dup2, 1) := dk_92 (dk_at dksX5_tells_7 20 rfl rfl)
theorem dX5_tells_187 : decode cX5_tells 187 = .ok (.iaload, 1) := dk_46 (dk_at dksX5_tells_7 21 rfl rfl)
theorem dX5_tells_188 : decode cX5_tells 188 = .ok (.iconst 1, 1) := dk_4 (dk_at dksX5_tells_7 22 rfl rfl)
theorem dX5_tells_189 : decode cX5_tells 189 = .ok (.iadd, 1) := dk_96 (dk_at dksX5_tells_7 23 rfl rfl)
theorem dX5_tells_190 : decode cX5_tells 190 = .ok (.iastore, 1) := dk_79 (dk_at dksX5_tells_8 0 rfl rfl)
theorem dX5_tells_191 : decode cX5_tells 191 = .ok (.iload_n 3, 1) := dk_29 (dk_at dksX5_tells_8 1 rfl rfl)
theorem dX5_tells_192 : decode cX5_tells 192 = .ok (.ireturn, 1) := dk_172 (dk_at dksX5_tells_8 2 rfl rfl)
abbrev cX5_hindersRange : ByteArray := prog_12_method_18_code
def yX5_hindersRange : MethodName := ⟨RX5, "hindersRange", "(III)V"⟩
def dkwX5_hindersRange_0 : List UInt8 := [42, 27, 28, 29, 184, 0, 73, 154, 0, 7, 4, 167, 0, 4, 3, 6, 27, 182, 0, 77, 177]
abbrev dktX5_hindersRange_0 : List UInt8 := dkwX5_hindersRange_0 ++ []
theorem dksX5_hindersRange_0 : cX5_hindersRange.data.toList.drop 0 = dktX5_hindersRange_0 := by decide +kernel
theorem dX5_hindersRange_0 : decode cX5_hindersRange 0 = .ok (.aload_n 0, 1) := dk_42 (dk_at dksX5_hindersRange_0 0 rfl rfl)
theorem dX5_hindersRange_1 : decode cX5_hindersRange 1 = .ok (.iload_n 1, 1) := dk_27 (dk_at dksX5_hindersRange_0 1 rfl rfl)
theorem dX5_hindersRange_2 : decode cX5_hindersRange 2 = .ok (.iload_n 2, 1) := dk_28 (dk_at dksX5_hindersRange_0 2 rfl rfl)
theorem dX5_hindersRange_3 : decode cX5_hindersRange 3 = .ok (.iload_n 3, 1) := dk_29 (dk_at dksX5_hindersRange_0 3 rfl rfl)
theorem dX5_hindersRange_4 : decode cX5_hindersRange 4 = .ok (.invokestatic 73, 3) := dk_184 0 73 (dk_at dksX5_hindersRange_0 4 rfl rfl)
theorem dX5_hindersRange_7 : decode cX5_hindersRange 7 = .ok (.ifCond .ne 7, 3) := dk_154 0 7 (dk_at dksX5_hindersRange_0 7 rfl rfl)
theorem dX5_hindersRange_10 : decode cX5_hindersRange 10 = .ok (.iconst 1, 1) := dk_4 (dk_at dksX5_hindersRange_0 10 rfl rfl)
theorem dX5_hindersRange_11 : decode cX5_hindersRange 11 = .ok (.goto 4, 3) := dk_167 0 4 (dk_at dksX5_hindersRange_0 11 rfl rfl)
theorem dX5_hindersRange_14 : decode cX5_hindersRange 14 = .ok (.iconst 0, 1) := dk_3 (dk_at dksX5_hindersRange_0 14 rfl rfl)
theorem dX5_hindersRange_15 : decode cX5_hindersRange 15 = .ok (.iconst 3, 1) := dk_6 (dk_at dksX5_hindersRange_0 15 rfl rfl)
theorem dX5_hindersRange_16 : decode cX5_hindersRange 16 = .ok (.iload_n 1, 1) := dk_27 (dk_at dksX5_hindersRange_0 16 rfl rfl)
theorem dX5_hindersRange_17 : decode cX5_hindersRange 17 = .ok (.invokevirtual 77, 3) := dk_182 0 77 (dk_at dksX5_hindersRange_0 17 rfl rfl)
theorem dX5_hindersRange_20 : decode cX5_hindersRange 20 = .ok (.return_, 1) := dk_177 (dk_at dksX5_hindersRange_0 20 rfl rfl)
abbrev cX5_isIn : ByteArray := prog_12_method_3_code
def yX5_isIn : MethodName := ⟨RX5, "isIn", "(III)Z"⟩
def dkwX5_isIn_0 : List UInt8 := [26, 27, 161, 0, 12, 26, 28, 163, 0, 7, 4, 167, 0, 4, 3, 172]
abbrev dktX5_isIn_0 : List UInt8 := dkwX5_isIn_0 ++ []
theorem dksX5_isIn_0 : cX5_isIn.data.toList.drop 0 = dktX5_isIn_0 := by decide +kernel
theorem dX5_isIn_0 : decode cX5_isIn 0 = .ok (.iload_n 0, 1) := dk_26 (dk_at dksX5_isIn_0 0 rfl rfl)
theorem dX5_isIn_1 : decode cX5_isIn 1 = .ok (.iload_n 1, 1) := dk_27 (dk_at dksX5_isIn_0 1 rfl rfl)
theorem dX5_isIn_2 : decode cX5_isIn 2 = .ok (.if_icmp .lt 12, 3) := dk_161 0 12 (dk_at dksX5_isIn_0 2 rfl rfl)
theorem dX5_isIn_5 : decode cX5_isIn 5 = .ok (.iload_n 0, 1) := dk_26 (dk_at dksX5_isIn_0 5 rfl rfl)
theorem dX5_isIn_6 : decode cX5_isIn 6 = .ok (.iload_n 2, 1) := dk_28 (dk_at dksX5_isIn_0 6 rfl rfl)
theorem dX5_isIn_7 : decode cX5_isIn 7 = .ok (.if_icmp .gt 7, 3) := dk_163 0 7 (dk_at dksX5_isIn_0 7 rfl rfl)
theorem dX5_isIn_10 : decode cX5_isIn 10 = .ok (.iconst 1, 1) := dk_4 (dk_at dksX5_isIn_0 10 rfl rfl)
theorem dX5_isIn_11 : decode cX5_isIn 11 = .ok (.goto 4, 3) := dk_167 0 4 (dk_at dksX5_isIn_0 11 rfl rfl)
theorem dX5_isIn_14 : decode cX5_isIn 14 = .ok (.iconst 0, 1) := dk_3 (dk_at dksX5_isIn_0 14 rfl rfl)
theorem dX5_isIn_15 : decode cX5_isIn 15 = .ok (.ireturn, 1) := dk_172 (dk_at dksX5_isIn_0 15 rfl rfl)
abbrev cX5_hinders : ByteArray := prog_12_method_5_code
def yX5_hinders : MethodName := ⟨RX5, "hinders", "(ZII)V"⟩
def dkwX5_hinders_0 : List UInt8 := [27, 153, 0, 20, 42, 180, 0, 41, 154, 0, 13, 42, 28, 181, 0, 41, 42, 29, 181, 0, 44, 177]
abbrev dktX5_hinders_0 : List UInt8 := dkwX5_hinders_0 ++ []
theorem dksX5_hinders_0 : cX5_hinders.data.toList.drop 0 = dktX5_hinders_0 := by decide +kernel
theorem dX5_hinders_0 : decode cX5_hinders 0 = .ok (.iload_n 1, 1) := dk_27 (dk_at dksX5_hinders_0 0 rfl rfl)
theorem dX5_hinders_1 : decode cX5_hinders 1 = .ok (.ifCond .eq 20, 3) := dk_153 0 20 (dk_at dksX5_hinders_0 1 rfl rfl)
theorem dX5_hinders_4 : decode cX5_hinders 4 = .ok (.aload_n 0, 1) := dk_42 (dk_at dksX5_hinders_0 4 rfl rfl)
theorem dX5_hinders_5 : decode cX5_hinders 5 = .ok (.getfield 41, 3) := dk_180 0 41 (dk_at dksX5_hinders_0 5 rfl rfl)
theorem dX5_hinders_8 : decode cX5_hinders 8 = .ok (.ifCond .ne 13, 3) := dk_154 0 13 (dk_at dksX5_hinders_0 8 rfl rfl)
theorem dX5_hinders_11 : decode cX5_hinders 11 = .ok (.aload_n 0, 1) := dk_42 (dk_at dksX5_hinders_0 11 rfl rfl)
theorem dX5_hinders_12 : decode cX5_hinders 12 = .ok (.iload_n 2, 1) := dk_28 (dk_at dksX5_hinders_0 12 rfl rfl)
theorem dX5_hinders_13 : decode cX5_hinders 13 = .ok (.putfield 41, 3) := dk_181 0 41 (dk_at dksX5_hinders_0 13 rfl rfl)
theorem dX5_hinders_16 : decode cX5_hinders 16 = .ok (.aload_n 0, 1) := dk_42 (dk_at dksX5_hinders_0 16 rfl rfl)
theorem dX5_hinders_17 : decode cX5_hinders 17 = .ok (.iload_n 3, 1) := dk_29 (dk_at dksX5_hinders_0 17 rfl rfl)
theorem dX5_hinders_18 : decode cX5_hinders 18 = .ok (.putfield 44, 3) := dk_181 0 44 (dk_at dksX5_hinders_0 18 rfl rfl)
theorem dX5_hinders_21 : decode cX5_hinders 21 = .ok (.return_, 1) := dk_177 (dk_at dksX5_hinders_0 21 rfl rfl)
abbrev cX5_edge : ByteArray := prog_12_method_16_code
def yX5_edge : MethodName := ⟨RX5, "edge", "(I)I"⟩
def dkwX5_edge_0 : List UInt8 := [42, 180, 0, 9, 16, 13, 5, 27, 104, 96, 46, 172]
abbrev dktX5_edge_0 : List UInt8 := dkwX5_edge_0 ++ []
theorem dksX5_edge_0 : cX5_edge.data.toList.drop 0 = dktX5_edge_0 := by decide +kernel
theorem dX5_edge_0 : decode cX5_edge 0 = .ok (.aload_n 0, 1) := dk_42 (dk_at dksX5_edge_0 0 rfl rfl)
theorem dX5_edge_1 : decode cX5_edge 1 = .ok (.getfield 9, 3) := dk_180 0 9 (dk_at dksX5_edge_0 1 rfl rfl)
theorem dX5_edge_4 : decode cX5_edge 4 = .ok (.bipush 13, 2) := dk_16 13 (dk_at dksX5_edge_0 4 rfl rfl)
theorem dX5_edge_6 : decode cX5_edge 6 = .ok (.iconst 2, 1) := dk_5 (dk_at dksX5_edge_0 6 rfl rfl)
theorem dX5_edge_7 : decode cX5_edge 7 = .ok (.iload_n 1, 1) := dk_27 (dk_at dksX5_edge_0 7 rfl rfl)
theorem dX5_edge_8 : decode cX5_edge 8 = .ok (.imul, 1) := dk_104 (dk_at dksX5_edge_0 8 rfl rfl)
theorem dX5_edge_9 : decode cX5_edge 9 = .ok (.iadd, 1) := dk_96 (dk_at dksX5_edge_0 9 rfl rfl)
theorem dX5_edge_10 : decode cX5_edge 10 = .ok (.iaload, 1) := dk_46 (dk_at dksX5_edge_0 10 rfl rfl)
theorem dX5_edge_11 : decode cX5_edge 11 = .ok (.ireturn, 1) := dk_172 (dk_at dksX5_edge_0 11 rfl rfl)
abbrev cX5_ends : ByteArray := prog_12_method_8_code
def yX5_ends : MethodName := ⟨RX5, "ends", "(I)I"⟩
def dkwX5_ends_2 : List UInt8 := [42, 182, 0, 63, 27, 172]
abbrev dktX5_ends_2 : List UInt8 := dkwX5_ends_2 ++ []
def dkwX5_ends_1 : List UInt8 := [3, 181, 0, 60, 42, 4, 181, 0, 38, 42, 180, 0, 13, 3, 42, 180, 0, 9, 3, 184, 0, 47, 3, 172]
abbrev dktX5_ends_1 : List UInt8 := dkwX5_ends_1 ++ dktX5_ends_2
def dkwX5_ends_0 : List UInt8 := [42, 180, 0, 41, 153, 0, 44, 42, 42, 180, 0, 41, 181, 0, 54, 42, 42, 180, 0, 44, 181, 0, 57, 42]
abbrev dktX5_ends_0 : List UInt8 := dkwX5_ends_0 ++ dktX5_ends_1
theorem dksX5_ends_0 : cX5_ends.data.toList.drop 0 = dktX5_ends_0 := by decide +kernel
theorem dksX5_ends_1 : cX5_ends.data.toList.drop 24 = dktX5_ends_1 := dk_seg dksX5_ends_0 24 rfl rfl
theorem dksX5_ends_2 : cX5_ends.data.toList.drop 48 = dktX5_ends_2 := dk_seg dksX5_ends_1 24 rfl rfl
theorem dX5_ends_0 : decode cX5_ends 0 = .ok (.aload_n 0, 1) := dk_42 (dk_at dksX5_ends_0 0 rfl rfl)
theorem dX5_ends_1 : decode cX5_ends 1 = .ok (.getfield 41, 3) := dk_180 0 41 (dk_at dksX5_ends_0 1 rfl rfl)
theorem dX5_ends_4 : decode cX5_ends 4 = .ok (.ifCond .eq 44, 3) := dk_153 0 44 (dk_at dksX5_ends_0 4 rfl rfl)
theorem dX5_ends_7 : decode cX5_ends 7 = .ok (.aload_n 0, 1) := dk_42 (dk_at dksX5_ends_0 7 rfl rfl)
theorem dX5_ends_8 : decode cX5_ends 8 = .ok (.aload_n 0, 1) := dk_42 (dk_at dksX5_ends_0 8 rfl rfl)
theorem dX5_ends_9 : decode cX5_ends 9 = .ok (.getfield 41, 3) := dk_180 0 41 (dk_at dksX5_ends_0 9 rfl rfl)
theorem dX5_ends_12 : decode cX5_ends 12 = .ok (.putfield 54, 3) := dk_181 0 54 (dk_at dksX5_ends_0 12 rfl rfl)
theorem dX5_ends_15 : decode cX5_ends 15 = .ok (.aload_n 0, 1) := dk_42 (dk_at dksX5_ends_0 15 rfl rfl)
theorem dX5_ends_16 : decode cX5_ends 16 = .ok (.aload_n 0, 1) := dk_42 (dk_at dksX5_ends_0 16 rfl rfl)
theorem dX5_ends_17 : decode cX5_ends 17 = .ok (.getfield 44, 3) := dk_180 0 44 (dk_at dksX5_ends_0 17 rfl rfl)
theorem dX5_ends_20 : decode cX5_ends 20 = .ok (.putfield 57, 3) := dk_181 0 57 (dk_at dksX5_ends_0 20 rfl rfl)
theorem dX5_ends_23 : decode cX5_ends 23 = .ok (.aload_n 0, 1) := dk_42 (dk_at dksX5_ends_0 23 rfl rfl)
theorem dX5_ends_24 : decode cX5_ends 24 = .ok (.iconst 0, 1) := dk_3 (dk_at dksX5_ends_1 0 rfl rfl)
theorem dX5_ends_25 : decode cX5_ends 25 = .ok (.putfield 60, 3) := dk_181 0 60 (dk_at dksX5_ends_1 1 rfl rfl)
theorem dX5_ends_28 : decode cX5_ends 28 = .ok (.aload_n 0, 1) := dk_42 (dk_at dksX5_ends_1 4 rfl rfl)
theorem dX5_ends_29 : decode cX5_ends 29 = .ok (.iconst 1, 1) := dk_4 (dk_at dksX5_ends_1 5 rfl rfl)
theorem dX5_ends_30 : decode cX5_ends 30 = .ok (.putfield 38, 3) := dk_181 0 38 (dk_at dksX5_ends_1 6 rfl rfl)
theorem dX5_ends_33 : decode cX5_ends 33 = .ok (.aload_n 0, 1) := dk_42 (dk_at dksX5_ends_1 9 rfl rfl)
theorem dX5_ends_34 : decode cX5_ends 34 = .ok (.getfield 13, 3) := dk_180 0 13 (dk_at dksX5_ends_1 10 rfl rfl)
theorem dX5_ends_37 : decode cX5_ends 37 = .ok (.iconst 0, 1) := dk_3 (dk_at dksX5_ends_1 13 rfl rfl)
theorem dX5_ends_38 : decode cX5_ends 38 = .ok (.aload_n 0, 1) := dk_42 (dk_at dksX5_ends_1 14 rfl rfl)
theorem dX5_ends_39 : decode cX5_ends 39 = .ok (.getfield 9, 3) := dk_180 0 9 (dk_at dksX5_ends_1 15 rfl rfl)
theorem dX5_ends_42 : decode cX5_ends 42 = .ok (.iconst 0, 1) := dk_3 (dk_at dksX5_ends_1 18 rfl rfl)
theorem dX5_ends_43 : decode cX5_ends 43 = .ok (.invokestatic 47, 3) := dk_184 0 47 (dk_at dksX5_ends_1 19 rfl rfl)
theorem dX5_ends_46 : decode cX5_ends 46 = .ok (.iconst 0, 1) := dk_3 (dk_at dksX5_ends_1 22 rfl rfl)
theorem dX5_ends_47 : decode cX5_ends 47 = .ok (.ireturn, 1) := dk_172 (dk_at dksX5_ends_1 23 rfl rfl)
theorem dX5_ends_48 : decode cX5_ends 48 = .ok (.aload_n 0, 1) := dk_42 (dk_at dksX5_ends_2 0 rfl rfl)
theorem dX5_ends_49 : decode cX5_ends 49 = .ok (.invokevirtual 63, 3) := dk_182 0 63 (dk_at dksX5_ends_2 1 rfl rfl)
theorem dX5_ends_52 : decode cX5_ends 52 = .ok (.iload_n 1, 1) := dk_27 (dk_at dksX5_ends_2 4 rfl rfl)
theorem dX5_ends_53 : decode cX5_ends 53 = .ok (.ireturn, 1) := dk_172 (dk_at dksX5_ends_2 5 rfl rfl)
abbrev cX5_remembers : ByteArray := prog_12_method_7_code
def yX5_remembers : MethodName := ⟨RX5, "remembers", "()V"⟩
def dkwX5_remembers_3 : List UInt8 := [89, 180, 0, 51, 4, 96, 181, 0, 51, 177]
abbrev dktX5_remembers_3 : List UInt8 := dkwX5_remembers_3 ++ []
def dkwX5_remembers_2 : List UInt8 := [181, 0, 51, 42, 180, 0, 13, 3, 42, 180, 0, 19, 42, 180, 0, 51, 17, 0, 137, 104, 184, 0, 47, 42]
abbrev dktX5_remembers_2 : List UInt8 := dkwX5_remembers_2 ++ dktX5_remembers_3
def dkwX5_remembers_1 : List UInt8 := [180, 0, 19, 27, 17, 0, 137, 96, 46, 79, 132, 1, 1, 167, 255, 230, 42, 89, 180, 0, 51, 4, 100]
abbrev dktX5_remembers_1 : List UInt8 := dkwX5_remembers_1 ++ dktX5_remembers_2
def dkwX5_remembers_0 : List UInt8 := [42, 180, 0, 51, 16, 8, 160, 0, 44, 3, 60, 27, 17, 3, 191, 162, 0, 25, 42, 180, 0, 19, 27, 42]
abbrev dktX5_remembers_0 : List UInt8 := dkwX5_remembers_0 ++ dktX5_remembers_1
theorem dksX5_remembers_0 : cX5_remembers.data.toList.drop 0 = dktX5_remembers_0 := by decide +kernel
theorem dksX5_remembers_1 : cX5_remembers.data.toList.drop 24 = dktX5_remembers_1 := dk_seg dksX5_remembers_0 24 rfl rfl
theorem dksX5_remembers_2 : cX5_remembers.data.toList.drop 47 = dktX5_remembers_2 := dk_seg dksX5_remembers_1 23 rfl rfl
theorem dksX5_remembers_3 : cX5_remembers.data.toList.drop 71 = dktX5_remembers_3 := dk_seg dksX5_remembers_2 24 rfl rfl
theorem dX5_remembers_0 : decode cX5_remembers 0 = .ok (.aload_n 0, 1) := dk_42 (dk_at dksX5_remembers_0 0 rfl rfl)
theorem dX5_remembers_1 : decode cX5_remembers 1 = .ok (.getfield 51, 3) := dk_180 0 51 (dk_at dksX5_remembers_0 1 rfl rfl)
theorem dX5_remembers_4 : decode cX5_remembers 4 = .ok (.bipush 8, 2) := dk_16 8 (dk_at dksX5_remembers_0 4 rfl rfl)
theorem dX5_remembers_6 : decode cX5_remembers 6 = .ok (.if_icmp .ne 44, 3) := dk_160 0 44 (dk_at dksX5_remembers_0 6 rfl rfl)
theorem dX5_remembers_9 : decode cX5_remembers 9 = .ok (.iconst 0, 1) := dk_3 (dk_at dksX5_remembers_0 9 rfl rfl)
theorem dX5_remembers_10 : decode cX5_remembers 10 = .ok (.istore_n 1, 1) := dk_60 (dk_at dksX5_remembers_0 10 rfl rfl)
theorem dX5_remembers_11 : decode cX5_remembers 11 = .ok (.iload_n 1, 1) := dk_27 (dk_at dksX5_remembers_0 11 rfl rfl)
theorem dX5_remembers_12 : decode cX5_remembers 12 = .ok (.sipush 959, 3) := dk_17 3 191 (dk_at dksX5_remembers_0 12 rfl rfl)
theorem dX5_remembers_15 : decode cX5_remembers 15 = .ok (.if_icmp .ge 25, 3) := dk_162 0 25 (dk_at dksX5_remembers_0 15 rfl rfl)
theorem dX5_remembers_18 : decode cX5_remembers 18 = .ok (.aload_n 0, 1) := dk_42 (dk_at dksX5_remembers_0 18 rfl rfl)
theorem dX5_remembers_19 : decode cX5_remembers 19 = .ok (.getfield 19, 3) := dk_180 0 19 (dk_at dksX5_remembers_0 19 rfl rfl)
theorem dX5_remembers_22 : decode cX5_remembers 22 = .ok (.iload_n 1, 1) := dk_27 (dk_at dksX5_remembers_0 22 rfl rfl)
theorem dX5_remembers_23 : decode cX5_remembers 23 = .ok (.aload_n 0, 1) := dk_42 (dk_at dksX5_remembers_0 23 rfl rfl)
theorem dX5_remembers_24 : decode cX5_remembers 24 = .ok (.getfield 19, 3) := dk_180 0 19 (dk_at dksX5_remembers_1 0 rfl rfl)
theorem dX5_remembers_27 : decode cX5_remembers 27 = .ok (.iload_n 1, 1) := dk_27 (dk_at dksX5_remembers_1 3 rfl rfl)
theorem dX5_remembers_28 : decode cX5_remembers 28 = .ok (.sipush 137, 3) := dk_17 0 137 (dk_at dksX5_remembers_1 4 rfl rfl)
theorem dX5_remembers_31 : decode cX5_remembers 31 = .ok (.iadd, 1) := dk_96 (dk_at dksX5_remembers_1 7 rfl rfl)
theorem dX5_remembers_32 : decode cX5_remembers 32 = .ok (.iaload, 1) := dk_46 (dk_at dksX5_remembers_1 8 rfl rfl)
theorem dX5_remembers_33 : decode cX5_remembers 33 = .ok (.iastore, 1) := dk_79 (dk_at dksX5_remembers_1 9 rfl rfl)
theorem dX5_remembers_34 : decode cX5_remembers 34 = .ok (.iinc 1 1, 3) := dk_132 1 1 (dk_at dksX5_remembers_1 10 rfl rfl)
theorem dX5_remembers_37 : decode cX5_remembers 37 = .ok (.goto (-26), 3) := dk_167 255 230 (dk_at dksX5_remembers_1 13 rfl rfl)
theorem dX5_remembers_40 : decode cX5_remembers 40 = .ok (.aload_n 0, 1) := dk_42 (dk_at dksX5_remembers_1 16 rfl rfl)
theorem dX5_remembers_41 : decode cX5_remembers 41 = .ok (.dup, 1) := dk_89 (dk_at dksX5_remembers_1 17 rfl rfl)
theorem dX5_remembers_42 : decode cX5_remembers 42 = .ok (.getfield 51, 3) := dk_180 0 51 (dk_at dksX5_remembers_1 18 rfl rfl)
theorem dX5_remembers_45 : decode cX5_remembers 45 = .ok (.iconst 1, 1) := dk_4 (dk_at dksX5_remembers_1 21 rfl rfl)
theorem dX5_remembers_46 : decode cX5_remembers 46 = .ok (.isub, 1) := dk_100 (dk_at dksX5_remembers_1 22 rfl rfl)
theorem dX5_remembers_47 : decode cX5_remembers 47 = .ok (.putfield 51, 3) := dk_181 0 51 (dk_at dksX5_remembers_2 0 rfl rfl)
theorem dX5_remembers_50 : decode cX5_remembers 50 = .ok (.aload_n 0, 1) := dk_42 (dk_at dksX5_remembers_2 3 rfl rfl)
theorem dX5_remembers_51 : decode cX5_remembers 51 = .ok (.getfield 13, 3) := dk_180 0 13 (dk_at dksX5_remembers_2 4 rfl rfl)
theorem dX5_remembers_54 : decode cX5_remembers 54 = .ok (.iconst 0, 1) := dk_3 (dk_at dksX5_remembers_2 7 rfl rfl)
theorem dX5_remembers_55 : decode cX5_remembers 55 = .ok (.aload_n 0, 1) := dk_42 (dk_at dksX5_remembers_2 8 rfl rfl)
theorem dX5_remembers_56 : decode cX5_remembers 56 = .ok (.getfield 19, 3) := dk_180 0 19 (dk_at dksX5_remembers_2 9 rfl rfl)
theorem dX5_remembers_59 : decode cX5_remembers 59 = .ok (.aload_n 0, 1) := dk_42 (dk_at dksX5_remembers_2 12 rfl rfl)
theorem dX5_remembers_60 : decode cX5_remembers 60 = .ok (.getfield 51, 3) := dk_180 0 51 (dk_at dksX5_remembers_2 13 rfl rfl)
theorem dX5_remembers_63 : decode cX5_remembers 63 = .ok (.sipush 137, 3) := dk_17 0 137 (dk_at dksX5_remembers_2 16 rfl rfl)
theorem dX5_remembers_66 : decode cX5_remembers 66 = .ok (.imul, 1) := dk_104 (dk_at dksX5_remembers_2 19 rfl rfl)
theorem dX5_remembers_67 : decode cX5_remembers 67 = .ok (.invokestatic 47, 3) := dk_184 0 47 (dk_at dksX5_remembers_2 20 rfl rfl)
theorem dX5_remembers_70 : decode cX5_remembers 70 = .ok (.aload_n 0, 1) := dk_42 (dk_at dksX5_remembers_2 23 rfl rfl)
theorem dX5_remembers_71 : decode cX5_remembers 71 = .ok (.dup, 1) := dk_89 (dk_at dksX5_remembers_3 0 rfl rfl)
theorem dX5_remembers_72 : decode cX5_remembers 72 = .ok (.getfield 51, 3) := dk_180 0 51 (dk_at dksX5_remembers_3 1 rfl rfl)
theorem dX5_remembers_75 : decode cX5_remembers 75 = .ok (.iconst 1, 1) := dk_4 (dk_at dksX5_remembers_3 4 rfl rfl)
theorem dX5_remembers_76 : decode cX5_remembers 76 = .ok (.iadd, 1) := dk_96 (dk_at dksX5_remembers_3 5 rfl rfl)
theorem dX5_remembers_77 : decode cX5_remembers 77 = .ok (.putfield 51, 3) := dk_181 0 51 (dk_at dksX5_remembers_3 6 rfl rfl)
theorem dX5_remembers_80 : decode cX5_remembers 80 = .ok (.return_, 1) := dk_177 (dk_at dksX5_remembers_3 9 rfl rfl)
abbrev cX5_drop : ByteArray := prog_12_method_22_code
def yX5_drop : MethodName := ⟨RX5, "drop", "(I)I"⟩
def dkwX5_drop_0 : List UInt8 := [42, 182, 0, 89, 42, 42, 27, 182, 0, 106, 182, 0, 96, 172]
abbrev dktX5_drop_0 : List UInt8 := dkwX5_drop_0 ++ []
theorem dksX5_drop_0 : cX5_drop.data.toList.drop 0 = dktX5_drop_0 := by decide +kernel
theorem dX5_drop_0 : decode cX5_drop 0 = .ok (.aload_n 0, 1) := dk_42 (dk_at dksX5_drop_0 0 rfl rfl)
theorem dX5_drop_1 : decode cX5_drop 1 = .ok (.invokevirtual 89, 3) := dk_182 0 89 (dk_at dksX5_drop_0 1 rfl rfl)
theorem dX5_drop_4 : decode cX5_drop 4 = .ok (.aload_n 0, 1) := dk_42 (dk_at dksX5_drop_0 4 rfl rfl)
theorem dX5_drop_5 : decode cX5_drop 5 = .ok (.aload_n 0, 1) := dk_42 (dk_at dksX5_drop_0 5 rfl rfl)
theorem dX5_drop_6 : decode cX5_drop 6 = .ok (.iload_n 1, 1) := dk_27 (dk_at dksX5_drop_0 6 rfl rfl)
theorem dX5_drop_7 : decode cX5_drop 7 = .ok (.invokevirtual 106, 3) := dk_182 0 106 (dk_at dksX5_drop_0 7 rfl rfl)
theorem dX5_drop_10 : decode cX5_drop 10 = .ok (.invokevirtual 96, 3) := dk_182 0 96 (dk_at dksX5_drop_0 10 rfl rfl)
theorem dX5_drop_13 : decode cX5_drop 13 = .ok (.ireturn, 1) := dk_172 (dk_at dksX5_drop_0 13 rfl rfl)
abbrev cX5_drops : ByteArray := prog_12_method_21_code
def yX5_drops : MethodName := ⟨RX5, "drops", "(I)I"⟩
def dkwX5_drops_4 : List UInt8 := [29, 96, 5, 96, 46, 79, 132, 3, 1, 167, 255, 212, 42, 180, 0, 9, 4, 92, 46, 4, 100, 79, 28, 172]
abbrev dktX5_drops_4 : List UInt8 := dkwX5_drops_4 ++ []
def dkwX5_drops_3 : List UInt8 := [162, 0, 36, 42, 180, 0, 41, 154, 0, 29, 42, 180, 0, 9, 16, 13, 29, 96, 42, 180, 0, 9, 16, 13]
abbrev dktX5_drops_3 : List UInt8 := dkwX5_drops_3 ++ dktX5_drops_4
def dkwX5_drops_2 : List UInt8 := [182, 0, 85, 167, 0, 4, 3, 61, 5, 27, 104, 62, 29, 5, 42, 180, 0, 9, 4, 46, 104, 5, 100]
abbrev dktX5_drops_2 : List UInt8 := dkwX5_drops_2 ++ dktX5_drops_3
def dkwX5_drops_1 : List UInt8 := [4, 167, 0, 4, 3, 8, 42, 3, 182, 0, 103, 182, 0, 77, 42, 180, 0, 41, 154, 0, 11, 42, 27]
abbrev dktX5_drops_1 : List UInt8 := dkwX5_drops_1 ++ dktX5_drops_2
def dkwX5_drops_0 : List UInt8 := [42, 42, 27, 182, 0, 99, 154, 0, 7, 4, 167, 0, 4, 3, 5, 27, 182, 0, 77, 42, 27, 154, 0, 7]
abbrev dktX5_drops_0 : List UInt8 := dkwX5_drops_0 ++ dktX5_drops_1
theorem dksX5_drops_0 : cX5_drops.data.toList.drop 0 = dktX5_drops_0 := by decide +kernel
theorem dksX5_drops_1 : cX5_drops.data.toList.drop 24 = dktX5_drops_1 := dk_seg dksX5_drops_0 24 rfl rfl
theorem dksX5_drops_2 : cX5_drops.data.toList.drop 47 = dktX5_drops_2 := dk_seg dksX5_drops_1 23 rfl rfl
theorem dksX5_drops_3 : cX5_drops.data.toList.drop 70 = dktX5_drops_3 := dk_seg dksX5_drops_2 23 rfl rfl
theorem dksX5_drops_4 : cX5_drops.data.toList.drop 94 = dktX5_drops_4 := dk_seg dksX5_drops_3 24 rfl rfl
theorem dX5_drops_0 : decode cX5_drops 0 = .ok (.aload_n 0, 1) := dk_42 (dk_at dksX5_drops_0 0 rfl rfl)
theorem dX5_drops_1 : decode cX5_drops 1 = .ok (.aload_n 0, 1) := dk_42 (dk_at dksX5_drops_0 1 rfl rfl)
theorem dX5_drops_2 : decode cX5_drops 2 = .ok (.iload_n 1, 1) := dk_27 (dk_at dksX5_drops_0 2 rfl rfl)
theorem dX5_drops_3 : decode cX5_drops 3 = .ok (.invokevirtual 99, 3) := dk_182 0 99 (dk_at dksX5_drops_0 3 rfl rfl)
theorem dX5_drops_6 : decode cX5_drops 6 = .ok (.ifCond .ne 7, 3) := dk_154 0 7 (dk_at dksX5_drops_0 6 rfl rfl)
theorem dX5_drops_9 : decode cX5_drops 9 = .ok (.iconst 1, 1) := dk_4 (dk_at dksX5_drops_0 9 rfl rfl)
theorem dX5_drops_10 : decode cX5_drops 10 = .ok (.goto 4, 3) := dk_167 0 4 (dk_at dksX5_drops_0 10 rfl rfl)
theorem dX5_drops_13 : decode cX5_drops 13 = .ok (.iconst 0, 1) := dk_3 (dk_at dksX5_drops_0 13 rfl rfl)
theorem dX5_drops_14 : decode cX5_drops 14 = .ok (.iconst 2, 1) := dk_5 (dk_at dksX5_drops_0 14 rfl rfl)
theorem dX5_drops_15 : decode cX5_drops 15 = .ok (.iload_n 1, 1) := dk_27 (dk_at dksX5_drops_0 15 rfl rfl)
theorem dX5_drops_16 : decode cX5_drops 16 = .ok (.invokevirtual 77, 3) := dk_182 0 77 (dk_at dksX5_drops_0 16 rfl rfl)
theorem dX5_drops_19 : decode cX5_drops 19 = .ok (.aload_n 0, 1) := dk_42 (dk_at dksX5_drops_0 19 rfl rfl)
theorem dX5_drops_20 : decode cX5_drops 20 = .ok (.iload_n 1, 1) := dk_27 (dk_at dksX5_drops_0 20 rfl rfl)
theorem dX5_drops_21 : decode cX5_drops 21 = .ok (.ifCond .ne 7, 3) := dk_154 0 7 (dk_at dksX5_drops_0 21 rfl rfl)
theorem dX5_drops_24 : decode cX5_drops 24 = .ok (.iconst 1, 1) := dk_4 (dk_at dksX5_drops_1 0 rfl rfl)
theorem dX5_drops_25 : decode cX5_drops 25 = .ok (.goto 4, 3) := dk_167 0 4 (dk_at dksX5_drops_1 1 rfl rfl)
theorem dX5_drops_28 : decode cX5_drops 28 = .ok (.iconst 0, 1) := dk_3 (dk_at dksX5_drops_1 4 rfl rfl)
theorem dX5_drops_29 : decode cX5_drops 29 = .ok (.iconst 5, 1) := dk_8 (dk_at dksX5_drops_1 5 rfl rfl)
theorem dX5_drops_30 : decode cX5_drops 30 = .ok (.aload_n 0, 1) := dk_42 (dk_at dksX5_drops_1 6 rfl rfl)
theorem dX5_drops_31 : decode cX5_drops 31 = .ok (.iconst 0, 1) := dk_3 (dk_at dksX5_drops_1 7 rfl rfl)
theorem dX5_drops_32 : decode cX5_drops 32 = .ok (.invokevirtual 103, 3) := dk_182 0 103 (dk_at dksX5_drops_1 8 rfl rfl)
theorem dX5_drops_35 : decode cX5_drops 35 = .ok (.invokevirtual 77, 3) := dk_182 0 77 (dk_at dksX5_drops_1 11 rfl rfl)
theorem dX5_drops_38 : decode cX5_drops 38 = .ok (.aload_n 0, 1) := dk_42 (dk_at dksX5_drops_1 14 rfl rfl)
theorem dX5_drops_39 : decode cX5_drops 39 = .ok (.getfield 41, 3) := dk_180 0 41 (dk_at dksX5_drops_1 15 rfl rfl)
theorem dX5_drops_42 : decode cX5_drops 42 = .ok (.ifCond .ne 11, 3) := dk_154 0 11 (dk_at dksX5_drops_1 18 rfl rfl)
theorem dX5_drops_45 : decode cX5_drops 45 = .ok (.aload_n 0, 1) := dk_42 (dk_at dksX5_drops_1 21 rfl rfl)
theorem dX5_drops_46 : decode cX5_drops 46 = .ok (.iload_n 1, 1) := dk_27 (dk_at dksX5_drops_1 22 rfl rfl)
theorem dX5_drops_47 : decode cX5_drops 47 = .ok (.invokevirtual 85, 3) := dk_182 0 85 (dk_at dksX5_drops_2 0 rfl rfl)
theorem dX5_drops_50 : decode cX5_drops 50 = .ok (.goto 4, 3) := dk_167 0 4 (dk_at dksX5_drops_2 3 rfl rfl)
theorem dX5_drops_53 : decode cX5_drops 53 = .ok (.iconst 0, 1) := dk_3 (dk_at dksX5_drops_2 6 rfl rfl)
theorem dX5_drops_54 : decode cX5_drops 54 = .ok (.istore_n 2, 1) := dk_61 (dk_at dksX5_drops_2 7 rfl rfl)
theorem dX5_drops_55 : decode cX5_drops 55 = .ok (.iconst 2, 1) := dk_5 (dk_at dksX5_drops_2 8 rfl rfl)
theorem dX5_drops_56 : decode cX5_drops 56 = .ok (.iload_n 1, 1) := dk_27 (dk_at dksX5_drops_2 9 rfl rfl)
theorem dX5_drops_57 : decode cX5_drops 57 = .ok (.imul, 1) := dk_104 (dk_at dksX5_drops_2 10 rfl rfl)
theorem dX5_drops_58 : decode cX5_drops 58 = .ok (.istore_n 3, 1) := dk_62 (dk_at dksX5_drops_2 11 rfl rfl)
theorem dX5_drops_59 : decode cX5_drops 59 = .ok (.iload_n 3, 1) := dk_29 (dk_at dksX5_drops_2 12 rfl rfl)
theorem dX5_drops_60 : decode cX5_drops 60 = .ok (.iconst 2, 1) := dk_5 (dk_at dksX5_drops_2 13 rfl rfl)
theorem dX5_drops_61 : decode cX5_drops 61 = .ok (.aload_n 0, 1) := dk_42 (dk_at dksX5_drops_2 14 rfl rfl)
theorem dX5_drops_62 : decode cX5_drops 62 = .ok (.getfield 9, 3) := dk_180 0 9 (dk_at dksX5_drops_2 15 rfl rfl)
theorem dX5_drops_65 : decode cX5_drops 65 = .ok (.iconst 1, 1) := dk_4 (dk_at dksX5_drops_2 18 rfl rfl)
theorem dX5_drops_66 : decode cX5_drops 66 = .ok (.iaload, 1) := dk_46 (dk_at dksX5_drops_2 19 rfl rfl)
theorem dX5_drops_67 : decode cX5_drops 67 = .ok (.imul, 1) := dk_104 (dk_at dksX5_drops_2 20 rfl rfl)
theorem dX5_drops_68 : decode cX5_drops 68 = .ok (.iconst 2, 1) := dk_5 (dk_at dksX5_drops_2 21 rfl rfl)
theorem dX5_drops_69 : decode cX5_drops 69 = .ok (.isub, 1) := dk_100 (dk_at dksX5_drops_2 22 rfl rfl)
theorem dX5_drops_70 : decode cX5_drops 70 = .ok (.if_icmp .ge 36, 3) := dk_162 0 36 (dk_at dksX5_drops_3 0 rfl rfl)
theorem dX5_drops_73 : decode cX5_drops 73 = .ok (.aload_n 0, 1) := dk_42 (dk_at dksX5_drops_3 3 rfl rfl)
theorem dX5_drops_74 : decode cX5_drops 74 = .ok (.getfield 41, 3) := dk_180 0 41 (dk_at dksX5_drops_3 4 rfl rfl)
theorem dX5_drops_77 : decode cX5_drops 77 = .ok (.ifCond .ne 29, 3) := dk_154 0 29 (dk_at dksX5_drops_3 7 rfl rfl)
theorem dX5_drops_80 : decode cX5_drops 80 = .ok (.aload_n 0, 1) := dk_42 (dk_at dksX5_drops_3 10 rfl rfl)
theorem dX5_drops_81 : decode cX5_drops 81 = .ok (.getfield 9, 3) := dk_180 0 9 (dk_at dksX5_drops_3 11 rfl rfl)
theorem dX5_drops_84 : decode cX5_drops 84 = .ok (.bipush 13, 2) := dk_16 13 (dk_at dksX5_drops_3 14 rfl rfl)
theorem dX5_drops_86 : decode cX5_drops 86 = .ok (.iload_n 3, 1) := dk_29 (dk_at dksX5_drops_3 16 rfl rfl)
theorem dX5_drops_87 : decode cX5_drops 87 = .ok (.iadd, 1) := dk_96 (dk_at dksX5_drops_3 17 rfl rfl)
theorem dX5_drops_88 : decode cX5_drops 88 = .ok (.aload_n 0, 1) := dk_42 (dk_at dksX5_drops_3 18 rfl rfl)
theorem dX5_drops_89 : decode cX5_drops 89 = .ok (.getfield 9, 3) := dk_180 0 9 (dk_at dksX5_drops_3 19 rfl rfl)
theorem dX5_drops_92 : decode cX5_drops 92 = .ok (.bipush 13, 2) := dk_16 13 (dk_at dksX5_drops_3 22 rfl rfl)
theorem dX5_drops_94 : decode cX5_drops 94 = .ok (.iload_n 3, 1) := dk_29 (dk_at dksX5_drops_4 0 rfl rfl)
theorem dX5_drops_95 : decode cX5_drops 95 = .ok (.iadd, 1) := dk_96 (dk_at dksX5_drops_4 1 rfl rfl)
theorem dX5_drops_96 : decode cX5_drops 96 = .ok (.iconst 2, 1) := dk_5 (dk_at dksX5_drops_4 2 rfl rfl)
theorem dX5_drops_97 : decode cX5_drops 97 = .ok (.iadd, 1) := dk_96 (dk_at dksX5_drops_4 3 rfl rfl)
theorem dX5_drops_98 : decode cX5_drops 98 = .ok (.iaload, 1) := dk_46 (dk_at dksX5_drops_4 4 rfl rfl)
theorem dX5_drops_99 : decode cX5_drops 99 = .ok (.iastore, 1) := dk_79 (dk_at dksX5_drops_4 5 rfl rfl)
theorem dX5_drops_100 : decode cX5_drops 100 = .ok (.iinc 3 1, 3) := dk_132 3 1 (dk_at dksX5_drops_4 6 rfl rfl)
theorem dX5_drops_103 : decode cX5_drops 103 = .ok (.goto (-44), 3) := dk_167 255 212 (dk_at dksX5_drops_4 9 rfl rfl)
theorem dX5_drops_106 : decode cX5_drops 106 = .ok (.aload_n 0, 1) := dk_42 (dk_at dksX5_drops_4 12 rfl rfl)
theorem dX5_drops_107 : decode cX5_drops 107 = .ok (.getfield 9, 3) := dk_180 0 9 (dk_at dksX5_drops_4 13 rfl rfl)
theorem dX5_drops_110 : decode cX5_drops 110 = .ok (.iconst 1, 1) := dk_4 (dk_at dksX5_drops_4 16 rfl rfl)
theorem dX5_drops_111 : decode cX5_drops 111 = .ok (.dup2, 1) := dk_92 (dk_at dksX5_drops_4 17 rfl rfl)
theorem dX5_drops_112 : decode cX5_drops 112 = .ok (.iaload, 1) := dk_46 (dk_at dksX5_drops_4 18 rfl rfl)
theorem dX5_drops_113 : decode cX5_drops 113 = .ok (.iconst 1, 1) := dk_4 (dk_at dksX5_drops_4 19 rfl rfl)
theorem dX5_drops_114 : decode cX5_drops 114 = .ok (.isub, 1) := dk_100 (dk_at dksX5_drops_4 20 rfl rfl)
theorem dX5_drops_115 : decode cX5_drops 115 = .ok (.iastore, 1) := dk_79 (dk_at dksX5_drops_4 21 rfl rfl)
theorem dX5_drops_116 : decode cX5_drops 116 = .ok (.iload_n 2, 1) := dk_28 (dk_at dksX5_drops_4 22 rfl rfl)
theorem dX5_drops_117 : decode cX5_drops 117 = .ok (.ireturn, 1) := dk_172 (dk_at dksX5_drops_4 23 rfl rfl)
abbrev cX5_isBracket : ByteArray := prog_12_method_13_code
def yX5_isBracket : MethodName := ⟨RX5, "isBracket", "(I)Z"⟩
def dkwX5_isBracket_0 : List UInt8 := [27, 3, 42, 180, 0, 9, 4, 46, 4, 100, 184, 0, 73, 172]
abbrev dktX5_isBracket_0 : List UInt8 := dkwX5_isBracket_0 ++ []
theorem dksX5_isBracket_0 : cX5_isBracket.data.toList.drop 0 = dktX5_isBracket_0 := by decide +kernel
theorem dX5_isBracket_0 : decode cX5_isBracket 0 = .ok (.iload_n 1, 1) := dk_27 (dk_at dksX5_isBracket_0 0 rfl rfl)
theorem dX5_isBracket_1 : decode cX5_isBracket 1 = .ok (.iconst 0, 1) := dk_3 (dk_at dksX5_isBracket_0 1 rfl rfl)
theorem dX5_isBracket_2 : decode cX5_isBracket 2 = .ok (.aload_n 0, 1) := dk_42 (dk_at dksX5_isBracket_0 2 rfl rfl)
theorem dX5_isBracket_3 : decode cX5_isBracket 3 = .ok (.getfield 9, 3) := dk_180 0 9 (dk_at dksX5_isBracket_0 3 rfl rfl)
theorem dX5_isBracket_6 : decode cX5_isBracket 6 = .ok (.iconst 1, 1) := dk_4 (dk_at dksX5_isBracket_0 6 rfl rfl)
theorem dX5_isBracket_7 : decode cX5_isBracket 7 = .ok (.iaload, 1) := dk_46 (dk_at dksX5_isBracket_0 7 rfl rfl)
theorem dX5_isBracket_8 : decode cX5_isBracket 8 = .ok (.iconst 1, 1) := dk_4 (dk_at dksX5_isBracket_0 8 rfl rfl)
theorem dX5_isBracket_9 : decode cX5_isBracket 9 = .ok (.isub, 1) := dk_100 (dk_at dksX5_isBracket_0 9 rfl rfl)
theorem dX5_isBracket_10 : decode cX5_isBracket 10 = .ok (.invokestatic 73, 3) := dk_184 0 73 (dk_at dksX5_isBracket_0 10 rfl rfl)
theorem dX5_isBracket_13 : decode cX5_isBracket 13 = .ok (.ireturn, 1) := dk_172 (dk_at dksX5_isBracket_0 13 rfl rfl)
abbrev cX5_rateOf : ByteArray := prog_12_method_17_code
def yX5_rateOf : MethodName := ⟨RX5, "rateOf", "(I)I"⟩
def dkwX5_rateOf_0 : List UInt8 := [42, 180, 0, 9, 16, 13, 5, 27, 104, 96, 4, 96, 46, 172]
abbrev dktX5_rateOf_0 : List UInt8 := dkwX5_rateOf_0 ++ []
theorem dksX5_rateOf_0 : cX5_rateOf.data.toList.drop 0 = dktX5_rateOf_0 := by decide +kernel
theorem dX5_rateOf_0 : decode cX5_rateOf 0 = .ok (.aload_n 0, 1) := dk_42 (dk_at dksX5_rateOf_0 0 rfl rfl)
theorem dX5_rateOf_1 : decode cX5_rateOf 1 = .ok (.getfield 9, 3) := dk_180 0 9 (dk_at dksX5_rateOf_0 1 rfl rfl)
theorem dX5_rateOf_4 : decode cX5_rateOf 4 = .ok (.bipush 13, 2) := dk_16 13 (dk_at dksX5_rateOf_0 4 rfl rfl)
theorem dX5_rateOf_6 : decode cX5_rateOf 6 = .ok (.iconst 2, 1) := dk_5 (dk_at dksX5_rateOf_0 6 rfl rfl)
theorem dX5_rateOf_7 : decode cX5_rateOf 7 = .ok (.iload_n 1, 1) := dk_27 (dk_at dksX5_rateOf_0 7 rfl rfl)
theorem dX5_rateOf_8 : decode cX5_rateOf 8 = .ok (.imul, 1) := dk_104 (dk_at dksX5_rateOf_0 8 rfl rfl)
theorem dX5_rateOf_9 : decode cX5_rateOf 9 = .ok (.iadd, 1) := dk_96 (dk_at dksX5_rateOf_0 9 rfl rfl)
theorem dX5_rateOf_10 : decode cX5_rateOf 10 = .ok (.iconst 1, 1) := dk_4 (dk_at dksX5_rateOf_0 10 rfl rfl)
theorem dX5_rateOf_11 : decode cX5_rateOf 11 = .ok (.iadd, 1) := dk_96 (dk_at dksX5_rateOf_0 11 rfl rfl)
theorem dX5_rateOf_12 : decode cX5_rateOf 12 = .ok (.iaload, 1) := dk_46 (dk_at dksX5_rateOf_0 12 rfl rfl)
theorem dX5_rateOf_13 : decode cX5_rateOf 13 = .ok (.ireturn, 1) := dk_172 (dk_at dksX5_rateOf_0 13 rfl rfl)
abbrev cX5_rate : ByteArray := prog_12_method_24_code
def yX5_rate : MethodName := ⟨RX5, "rate", "(II)I"⟩
def dkwX5_rate_0 : List UInt8 := [42, 182, 0, 89, 42, 42, 27, 28, 182, 0, 109, 182, 0, 96, 172]
abbrev dktX5_rate_0 : List UInt8 := dkwX5_rate_0 ++ []
theorem dksX5_rate_0 : cX5_rate.data.toList.drop 0 = dktX5_rate_0 := by decide +kernel
theorem dX5_rate_0 : decode cX5_rate 0 = .ok (.aload_n 0, 1) := dk_42 (dk_at dksX5_rate_0 0 rfl rfl)
theorem dX5_rate_1 : decode cX5_rate 1 = .ok (.invokevirtual 89, 3) := dk_182 0 89 (dk_at dksX5_rate_0 1 rfl rfl)
theorem dX5_rate_4 : decode cX5_rate 4 = .ok (.aload_n 0, 1) := dk_42 (dk_at dksX5_rate_0 4 rfl rfl)
theorem dX5_rate_5 : decode cX5_rate 5 = .ok (.aload_n 0, 1) := dk_42 (dk_at dksX5_rate_0 5 rfl rfl)
theorem dX5_rate_6 : decode cX5_rate 6 = .ok (.iload_n 1, 1) := dk_27 (dk_at dksX5_rate_0 6 rfl rfl)
theorem dX5_rate_7 : decode cX5_rate 7 = .ok (.iload_n 2, 1) := dk_28 (dk_at dksX5_rate_0 7 rfl rfl)
theorem dX5_rate_8 : decode cX5_rate 8 = .ok (.invokevirtual 109, 3) := dk_182 0 109 (dk_at dksX5_rate_0 8 rfl rfl)
theorem dX5_rate_11 : decode cX5_rate 11 = .ok (.invokevirtual 96, 3) := dk_182 0 96 (dk_at dksX5_rate_0 11 rfl rfl)
theorem dX5_rate_14 : decode cX5_rate 14 = .ok (.ireturn, 1) := dk_172 (dk_at dksX5_rate_0 14 rfl rfl)
abbrev cX5_rates : ByteArray := prog_12_method_23_code
def yX5_rates : MethodName := ⟨RX5, "rates", "(II)I"⟩
def dkwX5_rates_2 : List UInt8 := [154, 0, 17, 42, 180, 0, 9, 16, 13, 5, 27, 104, 96, 4, 96, 28, 79, 29, 172]
abbrev dktX5_rates_2 : List UInt8 := dkwX5_rates_2 ++ []
def dkwX5_rates_1 : List UInt8 := [182, 0, 81, 42, 180, 0, 41, 154, 0, 11, 42, 27, 182, 0, 103, 167, 0, 4, 3, 62, 42, 180, 0, 41]
abbrev dktX5_rates_1 : List UInt8 := dkwX5_rates_1 ++ dktX5_rates_2
def dkwX5_rates_0 : List UInt8 := [42, 42, 27, 182, 0, 99, 154, 0, 7, 4, 167, 0, 4, 3, 5, 27, 182, 0, 77, 42, 28, 3, 16, 60]
abbrev dktX5_rates_0 : List UInt8 := dkwX5_rates_0 ++ dktX5_rates_1
theorem dksX5_rates_0 : cX5_rates.data.toList.drop 0 = dktX5_rates_0 := by decide +kernel
theorem dksX5_rates_1 : cX5_rates.data.toList.drop 24 = dktX5_rates_1 := dk_seg dksX5_rates_0 24 rfl rfl
theorem dksX5_rates_2 : cX5_rates.data.toList.drop 48 = dktX5_rates_2 := dk_seg dksX5_rates_1 24 rfl rfl
theorem dX5_rates_0 : decode cX5_rates 0 = .ok (.aload_n 0, 1) := dk_42 (dk_at dksX5_rates_0 0 rfl rfl)
theorem dX5_rates_1 : decode cX5_rates 1 = .ok (.aload_n 0, 1) := dk_42 (dk_at dksX5_rates_0 1 rfl rfl)
theorem dX5_rates_2 : decode cX5_rates 2 = .ok (.iload_n 1, 1) := dk_27 (dk_at dksX5_rates_0 2 rfl rfl)
theorem dX5_rates_3 : decode cX5_rates 3 = .ok (.invokevirtual 99, 3) := dk_182 0 99 (dk_at dksX5_rates_0 3 rfl rfl)
theorem dX5_rates_6 : decode cX5_rates 6 = .ok (.ifCond .ne 7, 3) := dk_154 0 7 (dk_at dksX5_rates_0 6 rfl rfl)
theorem dX5_rates_9 : decode cX5_rates 9 = .ok (.iconst 1, 1) := dk_4 (dk_at dksX5_rates_0 9 rfl rfl)
theorem dX5_rates_10 : decode cX5_rates 10 = .ok (.goto 4, 3) := dk_167 0 4 (dk_at dksX5_rates_0 10 rfl rfl)
theorem dX5_rates_13 : decode cX5_rates 13 = .ok (.iconst 0, 1) := dk_3 (dk_at dksX5_rates_0 13 rfl rfl)
theorem dX5_rates_14 : decode cX5_rates 14 = .ok (.iconst 2, 1) := dk_5 (dk_at dksX5_rates_0 14 rfl rfl)
theorem dX5_rates_15 : decode cX5_rates 15 = .ok (.iload_n 1, 1) := dk_27 (dk_at dksX5_rates_0 15 rfl rfl)
theorem dX5_rates_16 : decode cX5_rates 16 = .ok (.invokevirtual 77, 3) := dk_182 0 77 (dk_at dksX5_rates_0 16 rfl rfl)
theorem dX5_rates_19 : decode cX5_rates 19 = .ok (.aload_n 0, 1) := dk_42 (dk_at dksX5_rates_0 19 rfl rfl)
theorem dX5_rates_20 : decode cX5_rates 20 = .ok (.iload_n 2, 1) := dk_28 (dk_at dksX5_rates_0 20 rfl rfl)
theorem dX5_rates_21 : decode cX5_rates 21 = .ok (.iconst 0, 1) := dk_3 (dk_at dksX5_rates_0 21 rfl rfl)
theorem dX5_rates_22 : decode cX5_rates 22 = .ok (.bipush 60, 2) := dk_16 60 (dk_at dksX5_rates_0 22 rfl rfl)
theorem dX5_rates_24 : decode cX5_rates 24 = .ok (.invokevirtual 81, 3) := dk_182 0 81 (dk_at dksX5_rates_1 0 rfl rfl)
theorem dX5_rates_27 : decode cX5_rates 27 = .ok (.aload_n 0, 1) := dk_42 (dk_at dksX5_rates_1 3 rfl rfl)
theorem dX5_rates_28 : decode cX5_rates 28 = .ok (.getfield 41, 3) := dk_180 0 41 (dk_at dksX5_rates_1 4 rfl rfl)
theorem dX5_rates_31 : decode cX5_rates 31 = .ok (.ifCond .ne 11, 3) := dk_154 0 11 (dk_at dksX5_rates_1 7 rfl rfl)
theorem dX5_rates_34 : decode cX5_rates 34 = .ok (.aload_n 0, 1) := dk_42 (dk_at dksX5_rates_1 10 rfl rfl)
theorem dX5_rates_35 : decode cX5_rates 35 = .ok (.iload_n 1, 1) := dk_27 (dk_at dksX5_rates_1 11 rfl rfl)
theorem dX5_rates_36 : decode cX5_rates 36 = .ok (.invokevirtual 103, 3) := dk_182 0 103 (dk_at dksX5_rates_1 12 rfl rfl)
theorem dX5_rates_39 : decode cX5_rates 39 = .ok (.goto 4, 3) := dk_167 0 4 (dk_at dksX5_rates_1 15 rfl rfl)
theorem dX5_rates_42 : decode cX5_rates 42 = .ok (.iconst 0, 1) := dk_3 (dk_at dksX5_rates_1 18 rfl rfl)
theorem dX5_rates_43 : decode cX5_rates 43 = .ok (.istore_n 3, 1) := dk_62 (dk_at dksX5_rates_1 19 rfl rfl)
theorem dX5_rates_44 : decode cX5_rates 44 = .ok (.aload_n 0, 1) := dk_42 (dk_at dksX5_rates_1 20 rfl rfl)
theorem dX5_rates_45 : decode cX5_rates 45 = .ok (.getfield 41, 3) := dk_180 0 41 (dk_at dksX5_rates_1 21 rfl rfl)
theorem dX5_rates_48 : decode cX5_rates 48 = .ok (.ifCond .ne 17, 3) := dk_154 0 17 (dk_at dksX5_rates_2 0 rfl rfl)
theorem dX5_rates_51 : decode cX5_rates 51 = .ok (.aload_n 0, 1) := dk_42 (dk_at dksX5_rates_2 3 rfl rfl)
theorem dX5_rates_52 : decode cX5_rates 52 = .ok (.getfield 9, 3) := dk_180 0 9 (dk_at dksX5_rates_2 4 rfl rfl)
theorem dX5_rates_55 : decode cX5_rates 55 = .ok (.bipush 13, 2) := dk_16 13 (dk_at dksX5_rates_2 7 rfl rfl)
theorem dX5_rates_57 : decode cX5_rates 57 = .ok (.iconst 2, 1) := dk_5 (dk_at dksX5_rates_2 9 rfl rfl)
theorem dX5_rates_58 : decode cX5_rates 58 = .ok (.iload_n 1, 1) := dk_27 (dk_at dksX5_rates_2 10 rfl rfl)
theorem dX5_rates_59 : decode cX5_rates 59 = .ok (.imul, 1) := dk_104 (dk_at dksX5_rates_2 11 rfl rfl)
theorem dX5_rates_60 : decode cX5_rates 60 = .ok (.iadd, 1) := dk_96 (dk_at dksX5_rates_2 12 rfl rfl)
theorem dX5_rates_61 : decode cX5_rates 61 = .ok (.iconst 1, 1) := dk_4 (dk_at dksX5_rates_2 13 rfl rfl)
theorem dX5_rates_62 : decode cX5_rates 62 = .ok (.iadd, 1) := dk_96 (dk_at dksX5_rates_2 14 rfl rfl)
theorem dX5_rates_63 : decode cX5_rates 63 = .ok (.iload_n 2, 1) := dk_28 (dk_at dksX5_rates_2 15 rfl rfl)
theorem dX5_rates_64 : decode cX5_rates 64 = .ok (.iastore, 1) := dk_79 (dk_at dksX5_rates_2 16 rfl rfl)
theorem dX5_rates_65 : decode cX5_rates 65 = .ok (.iload_n 3, 1) := dk_29 (dk_at dksX5_rates_2 17 rfl rfl)
theorem dX5_rates_66 : decode cX5_rates 66 = .ok (.ireturn, 1) := dk_172 (dk_at dksX5_rates_2 18 rfl rfl)
abbrev cX5_credit : ByteArray := prog_12_method_25_code
def yX5_credit : MethodName := ⟨RX5, "credit", "(III)I"⟩
def dkwX5_credit_2 : List UInt8 := [180, 0, 9, 6, 28, 79, 42, 180, 0, 9, 7, 29, 79, 42, 21, 4, 182, 0, 96, 172]
abbrev dktX5_credit_2 : List UInt8 := dkwX5_credit_2 ++ []
def dkwX5_credit_1 : List UInt8 := [3, 16, 30, 182, 0, 81, 42, 180, 0, 9, 5, 46, 54, 4, 42, 180, 0, 9, 5, 27, 79, 42]
abbrev dktX5_credit_1 : List UInt8 := dkwX5_credit_1 ++ dktX5_credit_2
def dkwX5_credit_0 : List UInt8 := [42, 182, 0, 89, 42, 27, 3, 17, 0, 200, 182, 0, 81, 42, 28, 3, 17, 39, 15, 182, 0, 81, 42, 29]
abbrev dktX5_credit_0 : List UInt8 := dkwX5_credit_0 ++ dktX5_credit_1
theorem dksX5_credit_0 : cX5_credit.data.toList.drop 0 = dktX5_credit_0 := by decide +kernel
theorem dksX5_credit_1 : cX5_credit.data.toList.drop 24 = dktX5_credit_1 := dk_seg dksX5_credit_0 24 rfl rfl
theorem dksX5_credit_2 : cX5_credit.data.toList.drop 46 = dktX5_credit_2 := dk_seg dksX5_credit_1 22 rfl rfl
theorem dX5_credit_0 : decode cX5_credit 0 = .ok (.aload_n 0, 1) := dk_42 (dk_at dksX5_credit_0 0 rfl rfl)
theorem dX5_credit_1 : decode cX5_credit 1 = .ok (.invokevirtual 89, 3) := dk_182 0 89 (dk_at dksX5_credit_0 1 rfl rfl)
theorem dX5_credit_4 : decode cX5_credit 4 = .ok (.aload_n 0, 1) := dk_42 (dk_at dksX5_credit_0 4 rfl rfl)
theorem dX5_credit_5 : decode cX5_credit 5 = .ok (.iload_n 1, 1) := dk_27 (dk_at dksX5_credit_0 5 rfl rfl)
theorem dX5_credit_6 : decode cX5_credit 6 = .ok (.iconst 0, 1) := dk_3 (dk_at dksX5_credit_0 6 rfl rfl)
theorem dX5_credit_7 : decode cX5_credit 7 = .ok (.sipush 200, 3) := dk_17 0 200 (dk_at dksX5_credit_0 7 rfl rfl)
theorem dX5_credit_10 : decode cX5_credit 10 = .ok (.invokevirtual 81, 3) := dk_182 0 81 (dk_at dksX5_credit_0 10 rfl rfl)
theorem dX5_credit_13 : decode cX5_credit 13 = .ok (.aload_n 0, 1) := dk_42 (dk_at dksX5_credit_0 13 rfl rfl)
theorem dX5_credit_14 : decode cX5_credit 14 = .ok (.iload_n 2, 1) := dk_28 (dk_at dksX5_credit_0 14 rfl rfl)
theorem dX5_credit_15 : decode cX5_credit 15 = .ok (.iconst 0, 1) := dk_3 (dk_at dksX5_credit_0 15 rfl rfl)
theorem dX5_credit_16 : decode cX5_credit 16 = .ok (.sipush 9999, 3) := dk_17 39 15 (dk_at dksX5_credit_0 16 rfl rfl)
theorem dX5_credit_19 : decode cX5_credit 19 = .ok (.invokevirtual 81, 3) := dk_182 0 81 (dk_at dksX5_credit_0 19 rfl rfl)
theorem dX5_credit_22 : decode cX5_credit 22 = .ok (.aload_n 0, 1) := dk_42 (dk_at dksX5_credit_0 22 rfl rfl)
theorem dX5_credit_23 : decode cX5_credit 23 = .ok (.iload_n 3, 1) := dk_29 (dk_at dksX5_credit_0 23 rfl rfl)
theorem dX5_credit_24 : decode cX5_credit 24 = .ok (.iconst 0, 1) := dk_3 (dk_at dksX5_credit_1 0 rfl rfl)
theorem dX5_credit_25 : decode cX5_credit 25 = .ok (.bipush 30, 2) := dk_16 30 (dk_at dksX5_credit_1 1 rfl rfl)
theorem dX5_credit_27 : decode cX5_credit 27 = .ok (.invokevirtual 81, 3) := dk_182 0 81 (dk_at dksX5_credit_1 3 rfl rfl)
theorem dX5_credit_30 : decode cX5_credit 30 = .ok (.aload_n 0, 1) := dk_42 (dk_at dksX5_credit_1 6 rfl rfl)
theorem dX5_credit_31 : decode cX5_credit 31 = .ok (.getfield 9, 3) := dk_180 0 9 (dk_at dksX5_credit_1 7 rfl rfl)
theorem dX5_credit_34 : decode cX5_credit 34 = .ok (.iconst 2, 1) := dk_5 (dk_at dksX5_credit_1 10 rfl rfl)
theorem dX5_credit_35 : decode cX5_credit 35 = .ok (.iaload, 1) := dk_46 (dk_at dksX5_credit_1 11 rfl rfl)
theorem dX5_credit_36 : decode cX5_credit 36 = .ok (.istore 4, 2) := dk_54 4 (dk_at dksX5_credit_1 12 rfl rfl)
theorem dX5_credit_38 : decode cX5_credit 38 = .ok (.aload_n 0, 1) := dk_42 (dk_at dksX5_credit_1 14 rfl rfl)
theorem dX5_credit_39 : decode cX5_credit 39 = .ok (.getfield 9, 3) := dk_180 0 9 (dk_at dksX5_credit_1 15 rfl rfl)
theorem dX5_credit_42 : decode cX5_credit 42 = .ok (.iconst 2, 1) := dk_5 (dk_at dksX5_credit_1 18 rfl rfl)
theorem dX5_credit_43 : decode cX5_credit 43 = .ok (.iload_n 1, 1) := dk_27 (dk_at dksX5_credit_1 19 rfl rfl)
theorem dX5_credit_44 : decode cX5_credit 44 = .ok (.iastore, 1) := dk_79 (dk_at dksX5_credit_1 20 rfl rfl)
theorem dX5_credit_45 : decode cX5_credit 45 = .ok (.aload_n 0, 1) := dk_42 (dk_at dksX5_credit_1 21 rfl rfl)
theorem dX5_credit_46 : decode cX5_credit 46 = .ok (.getfield 9, 3) := dk_180 0 9 (dk_at dksX5_credit_2 0 rfl rfl)
theorem dX5_credit_49 : decode cX5_credit 49 = .ok (.iconst 3, 1) := dk_6 (dk_at dksX5_credit_2 3 rfl rfl)
theorem dX5_credit_50 : decode cX5_credit 50 = .ok (.iload_n 2, 1) := dk_28 (dk_at dksX5_credit_2 4 rfl rfl)
theorem dX5_credit_51 : decode cX5_credit 51 = .ok (.iastore, 1) := dk_79 (dk_at dksX5_credit_2 5 rfl rfl)
theorem dX5_credit_52 : decode cX5_credit 52 = .ok (.aload_n 0, 1) := dk_42 (dk_at dksX5_credit_2 6 rfl rfl)
theorem dX5_credit_53 : decode cX5_credit 53 = .ok (.getfield 9, 3) := dk_180 0 9 (dk_at dksX5_credit_2 7 rfl rfl)
theorem dX5_credit_56 : decode cX5_credit 56 = .ok (.iconst 4, 1) := dk_7 (dk_at dksX5_credit_2 10 rfl rfl)
theorem dX5_credit_57 : decode cX5_credit 57 = .ok (.iload_n 3, 1) := dk_29 (dk_at dksX5_credit_2 11 rfl rfl)
theorem dX5_credit_58 : decode cX5_credit 58 = .ok (.iastore, 1) := dk_79 (dk_at dksX5_credit_2 12 rfl rfl)
theorem dX5_credit_59 : decode cX5_credit 59 = .ok (.aload_n 0, 1) := dk_42 (dk_at dksX5_credit_2 13 rfl rfl)
theorem dX5_credit_60 : decode cX5_credit 60 = .ok (.iload 4, 2) := dk_21 4 (dk_at dksX5_credit_2 14 rfl rfl)
theorem dX5_credit_62 : decode cX5_credit 62 = .ok (.invokevirtual 96, 3) := dk_182 0 96 (dk_at dksX5_credit_2 16 rfl rfl)
theorem dX5_credit_65 : decode cX5_credit 65 = .ok (.ireturn, 1) := dk_172 (dk_at dksX5_credit_2 19 rfl rfl)
abbrev cX5_cap : ByteArray := prog_12_method_27_code
def yX5_cap : MethodName := ⟨RX5, "cap", "(II)I"⟩
def dkwX5_cap_0 : List UInt8 := [42, 182, 0, 89, 42, 42, 27, 28, 182, 0, 115, 182, 0, 96, 172]
abbrev dktX5_cap_0 : List UInt8 := dkwX5_cap_0 ++ []
theorem dksX5_cap_0 : cX5_cap.data.toList.drop 0 = dktX5_cap_0 := by decide +kernel
theorem dX5_cap_0 : decode cX5_cap 0 = .ok (.aload_n 0, 1) := dk_42 (dk_at dksX5_cap_0 0 rfl rfl)
theorem dX5_cap_1 : decode cX5_cap 1 = .ok (.invokevirtual 89, 3) := dk_182 0 89 (dk_at dksX5_cap_0 1 rfl rfl)
theorem dX5_cap_4 : decode cX5_cap 4 = .ok (.aload_n 0, 1) := dk_42 (dk_at dksX5_cap_0 4 rfl rfl)
theorem dX5_cap_5 : decode cX5_cap 5 = .ok (.aload_n 0, 1) := dk_42 (dk_at dksX5_cap_0 5 rfl rfl)
theorem dX5_cap_6 : decode cX5_cap 6 = .ok (.iload_n 1, 1) := dk_27 (dk_at dksX5_cap_0 6 rfl rfl)
theorem dX5_cap_7 : decode cX5_cap 7 = .ok (.iload_n 2, 1) := dk_28 (dk_at dksX5_cap_0 7 rfl rfl)
theorem dX5_cap_8 : decode cX5_cap 8 = .ok (.invokevirtual 115, 3) := dk_182 0 115 (dk_at dksX5_cap_0 8 rfl rfl)
theorem dX5_cap_11 : decode cX5_cap 11 = .ok (.invokevirtual 96, 3) := dk_182 0 96 (dk_at dksX5_cap_0 11 rfl rfl)
theorem dX5_cap_14 : decode cX5_cap 14 = .ok (.ireturn, 1) := dk_172 (dk_at dksX5_cap_0 14 rfl rfl)
abbrev cX5_caps : ByteArray := prog_12_method_26_code
def yX5_caps : MethodName := ⟨RX5, "caps", "(II)I"⟩
def dkwX5_caps_2 : List UInt8 := [42, 180, 0, 41, 154, 0, 13, 42, 180, 0, 9, 16, 10, 27, 96, 28, 79, 29, 172]
abbrev dktX5_caps_2 : List UInt8 := dkwX5_caps_2 ++ []
def dkwX5_caps_1 : List UInt8 := [182, 0, 81, 42, 180, 0, 41, 154, 0, 15, 42, 180, 0, 9, 16, 10, 27, 96, 46, 167, 0, 4, 3, 62]
abbrev dktX5_caps_1 : List UInt8 := dkwX5_caps_1 ++ dktX5_caps_2
def dkwX5_caps_0 : List UInt8 := [42, 27, 184, 0, 112, 154, 0, 7, 4, 167, 0, 4, 3, 5, 27, 182, 0, 77, 42, 28, 3, 17, 3, 231]
abbrev dktX5_caps_0 : List UInt8 := dkwX5_caps_0 ++ dktX5_caps_1
theorem dksX5_caps_0 : cX5_caps.data.toList.drop 0 = dktX5_caps_0 := by decide +kernel
theorem dksX5_caps_1 : cX5_caps.data.toList.drop 24 = dktX5_caps_1 := dk_seg dksX5_caps_0 24 rfl rfl
theorem dksX5_caps_2 : cX5_caps.data.toList.drop 48 = dktX5_caps_2 := dk_seg dksX5_caps_1 24 rfl rfl
theorem dX5_caps_0 : decode cX5_caps 0 = .ok (.aload_n 0, 1) := dk_42 (dk_at dksX5_caps_0 0 rfl rfl)
theorem dX5_caps_1 : decode cX5_caps 1 = .ok (.iload_n 1, 1) := dk_27 (dk_at dksX5_caps_0 1 rfl rfl)
theorem dX5_caps_2 : decode cX5_caps 2 = .ok (.invokestatic 112, 3) := dk_184 0 112 (dk_at dksX5_caps_0 2 rfl rfl)
theorem dX5_caps_5 : decode cX5_caps 5 = .ok (.ifCond .ne 7, 3) := dk_154 0 7 (dk_at dksX5_caps_0 5 rfl rfl)
theorem dX5_caps_8 : decode cX5_caps 8 = .ok (.iconst 1, 1) := dk_4 (dk_at dksX5_caps_0 8 rfl rfl)
theorem dX5_caps_9 : decode cX5_caps 9 = .ok (.goto 4, 3) := dk_167 0 4 (dk_at dksX5_caps_0 9 rfl rfl)
theorem dX5_caps_12 : decode cX5_caps 12 = .ok (.iconst 0, 1) := dk_3 (dk_at dksX5_caps_0 12 rfl rfl)
theorem dX5_caps_13 : decode cX5_caps 13 = .ok (.iconst 2, 1) := dk_5 (dk_at dksX5_caps_0 13 rfl rfl)
theorem dX5_caps_14 : decode cX5_caps 14 = .ok (.iload_n 1, 1) := dk_27 (dk_at dksX5_caps_0 14 rfl rfl)
theorem dX5_caps_15 : decode cX5_caps 15 = .ok (.invokevirtual 77, 3) := dk_182 0 77 (dk_at dksX5_caps_0 15 rfl rfl)
theorem dX5_caps_18 : decode cX5_caps 18 = .ok (.aload_n 0, 1) := dk_42 (dk_at dksX5_caps_0 18 rfl rfl)
theorem dX5_caps_19 : decode cX5_caps 19 = .ok (.iload_n 2, 1) := dk_28 (dk_at dksX5_caps_0 19 rfl rfl)
theorem dX5_caps_20 : decode cX5_caps 20 = .ok (.iconst 0, 1) := dk_3 (dk_at dksX5_caps_0 20 rfl rfl)
theorem dX5_caps_21 : decode cX5_caps 21 = .ok (.sipush 999, 3) := dk_17 3 231 (dk_at dksX5_caps_0 21 rfl rfl)
theorem dX5_caps_24 : decode cX5_caps 24 = .ok (.invokevirtual 81, 3) := dk_182 0 81 (dk_at dksX5_caps_1 0 rfl rfl)
theorem dX5_caps_27 : decode cX5_caps 27 = .ok (.aload_n 0, 1) := dk_42 (dk_at dksX5_caps_1 3 rfl rfl)
theorem dX5_caps_28 : decode cX5_caps 28 = .ok (.getfield 41, 3) := dk_180 0 41 (dk_at dksX5_caps_1 4 rfl rfl)
theorem dX5_caps_31 : decode cX5_caps 31 = .ok (.ifCond .ne 15, 3) := dk_154 0 15 (dk_at dksX5_caps_1 7 rfl rfl)
theorem dX5_caps_34 : decode cX5_caps 34 = .ok (.aload_n 0, 1) := dk_42 (dk_at dksX5_caps_1 10 rfl rfl)
theorem dX5_caps_35 : decode cX5_caps 35 = .ok (.getfield 9, 3) := dk_180 0 9 (dk_at dksX5_caps_1 11 rfl rfl)
theorem dX5_caps_38 : decode cX5_caps 38 = .ok (.bipush 10, 2) := dk_16 10 (dk_at dksX5_caps_1 14 rfl rfl)
theorem dX5_caps_40 : decode cX5_caps 40 = .ok (.iload_n 1, 1) := dk_27 (dk_at dksX5_caps_1 16 rfl rfl)
theorem dX5_caps_41 : decode cX5_caps 41 = .ok (.iadd, 1) := dk_96 (dk_at dksX5_caps_1 17 rfl rfl)
theorem dX5_caps_42 : decode cX5_caps 42 = .ok (.iaload, 1) := dk_46 (dk_at dksX5_caps_1 18 rfl rfl)
theorem dX5_caps_43 : decode cX5_caps 43 = .ok (.goto 4, 3) := dk_167 0 4 (dk_at dksX5_caps_1 19 rfl rfl)
theorem dX5_caps_46 : decode cX5_caps 46 = .ok (.iconst 0, 1) := dk_3 (dk_at dksX5_caps_1 22 rfl rfl)
theorem dX5_caps_47 : decode cX5_caps 47 = .ok (.istore_n 3, 1) := dk_62 (dk_at dksX5_caps_1 23 rfl rfl)
theorem dX5_caps_48 : decode cX5_caps 48 = .ok (.aload_n 0, 1) := dk_42 (dk_at dksX5_caps_2 0 rfl rfl)
theorem dX5_caps_49 : decode cX5_caps 49 = .ok (.getfield 41, 3) := dk_180 0 41 (dk_at dksX5_caps_2 1 rfl rfl)
theorem dX5_caps_52 : decode cX5_caps 52 = .ok (.ifCond .ne 13, 3) := dk_154 0 13 (dk_at dksX5_caps_2 4 rfl rfl)
theorem dX5_caps_55 : decode cX5_caps 55 = .ok (.aload_n 0, 1) := dk_42 (dk_at dksX5_caps_2 7 rfl rfl)
theorem dX5_caps_56 : decode cX5_caps 56 = .ok (.getfield 9, 3) := dk_180 0 9 (dk_at dksX5_caps_2 8 rfl rfl)
theorem dX5_caps_59 : decode cX5_caps 59 = .ok (.bipush 10, 2) := dk_16 10 (dk_at dksX5_caps_2 11 rfl rfl)
theorem dX5_caps_61 : decode cX5_caps 61 = .ok (.iload_n 1, 1) := dk_27 (dk_at dksX5_caps_2 13 rfl rfl)
theorem dX5_caps_62 : decode cX5_caps 62 = .ok (.iadd, 1) := dk_96 (dk_at dksX5_caps_2 14 rfl rfl)
theorem dX5_caps_63 : decode cX5_caps 63 = .ok (.iload_n 2, 1) := dk_28 (dk_at dksX5_caps_2 15 rfl rfl)
theorem dX5_caps_64 : decode cX5_caps 64 = .ok (.iastore, 1) := dk_79 (dk_at dksX5_caps_2 16 rfl rfl)
theorem dX5_caps_65 : decode cX5_caps 65 = .ok (.iload_n 3, 1) := dk_29 (dk_at dksX5_caps_2 17 rfl rfl)
theorem dX5_caps_66 : decode cX5_caps 66 = .ok (.ireturn, 1) := dk_172 (dk_at dksX5_caps_2 18 rfl rfl)
abbrev cX5_isKind : ByteArray := prog_12_method_14_code
def yX5_isKind : MethodName := ⟨RX5, "isKind", "(I)Z"⟩
def dkwX5_isKind_0 : List UInt8 := [26, 3, 5, 184, 0, 73, 172]
abbrev dktX5_isKind_0 : List UInt8 := dkwX5_isKind_0 ++ []
theorem dksX5_isKind_0 : cX5_isKind.data.toList.drop 0 = dktX5_isKind_0 := by decide +kernel
theorem dX5_isKind_0 : decode cX5_isKind 0 = .ok (.iload_n 0, 1) := dk_26 (dk_at dksX5_isKind_0 0 rfl rfl)
theorem dX5_isKind_1 : decode cX5_isKind 1 = .ok (.iconst 0, 1) := dk_3 (dk_at dksX5_isKind_0 1 rfl rfl)
theorem dX5_isKind_2 : decode cX5_isKind 2 = .ok (.iconst 2, 1) := dk_5 (dk_at dksX5_isKind_0 2 rfl rfl)
theorem dX5_isKind_3 : decode cX5_isKind 3 = .ok (.invokestatic 73, 3) := dk_184 0 73 (dk_at dksX5_isKind_0 3 rfl rfl)
theorem dX5_isKind_6 : decode cX5_isKind 6 = .ok (.ireturn, 1) := dk_172 (dk_at dksX5_isKind_0 6 rfl rfl)
abbrev cX5_citizen : ByteArray := prog_12_method_33_code
def yX5_citizen : MethodName := ⟨RX5, "citizen", "()I"⟩
def dkwX5_citizen_2 : List UInt8 := [182, 0, 96, 172]
abbrev dktX5_citizen_2 : List UInt8 := dkwX5_citizen_2 ++ []
def dkwX5_citizen_1 : List UInt8 := [182, 0, 77, 42, 180, 0, 9, 8, 92, 46, 4, 96, 79, 42, 42, 180, 0, 9, 8, 46, 4, 100]
abbrev dktX5_citizen_1 : List UInt8 := dkwX5_citizen_1 ++ dktX5_citizen_2
def dkwX5_citizen_0 : List UInt8 := [42, 182, 0, 89, 42, 42, 180, 0, 9, 8, 46, 16, 6, 160, 0, 7, 4, 167, 0, 4, 3, 4, 16, 6]
abbrev dktX5_citizen_0 : List UInt8 := dkwX5_citizen_0 ++ dktX5_citizen_1
theorem dksX5_citizen_0 : cX5_citizen.data.toList.drop 0 = dktX5_citizen_0 := by decide +kernel
theorem dksX5_citizen_1 : cX5_citizen.data.toList.drop 24 = dktX5_citizen_1 := dk_seg dksX5_citizen_0 24 rfl rfl
theorem dksX5_citizen_2 : cX5_citizen.data.toList.drop 46 = dktX5_citizen_2 := dk_seg dksX5_citizen_1 22 rfl rfl
theorem dX5_citizen_0 : decode cX5_citizen 0 = .ok (.aload_n 0, 1) := dk_42 (dk_at dksX5_citizen_0 0 rfl rfl)
theorem dX5_citizen_1 : decode cX5_citizen 1 = .ok (.invokevirtual 89, 3) := dk_182 0 89 (dk_at dksX5_citizen_0 1 rfl rfl)
theorem dX5_citizen_4 : decode cX5_citizen 4 = .ok (.aload_n 0, 1) := dk_42 (dk_at dksX5_citizen_0 4 rfl rfl)
theorem dX5_citizen_5 : decode cX5_citizen 5 = .ok (.aload_n 0, 1) := dk_42 (dk_at dksX5_citizen_0 5 rfl rfl)
theorem dX5_citizen_6 : decode cX5_citizen 6 = .ok (.getfield 9, 3) := dk_180 0 9 (dk_at dksX5_citizen_0 6 rfl rfl)
theorem dX5_citizen_9 : decode cX5_citizen 9 = .ok (.iconst 5, 1) := dk_8 (dk_at dksX5_citizen_0 9 rfl rfl)
theorem dX5_citizen_10 : decode cX5_citizen 10 = .ok (.iaload, 1) := dk_46 (dk_at dksX5_citizen_0 10 rfl rfl)
theorem dX5_citizen_11 : decode cX5_citizen 11 = .ok (.bipush 6, 2) := dk_16 6 (dk_at dksX5_citizen_0 11 rfl rfl)
theorem dX5_citizen_13 : decode cX5_citizen 13 = .ok (.if_icmp .ne 7, 3) := dk_160 0 7 (dk_at dksX5_citizen_0 13 rfl rfl)
theorem dX5_citizen_16 : decode cX5_citizen 16 = .ok (.iconst 1, 1) := dk_4 (dk_at dksX5_citizen_0 16 rfl rfl)
theorem dX5_citizen_17 : decode cX5_citizen 17 = .ok (.goto 4, 3) := dk_167 0 4 (dk_at dksX5_citizen_0 17 rfl rfl)
theorem dX5_citizen_20 : decode cX5_citizen 20 = .ok (.iconst 0, 1) := dk_3 (dk_at dksX5_citizen_0 20 rfl rfl)
theorem dX5_citizen_21 : decode cX5_citizen 21 = .ok (.iconst 1, 1) := dk_4 (dk_at dksX5_citizen_0 21 rfl rfl)
theorem dX5_citizen_22 : decode cX5_citizen 22 = .ok (.bipush 6, 2) := dk_16 6 (dk_at dksX5_citizen_0 22 rfl rfl)
theorem dX5_citizen_24 : decode cX5_citizen 24 = .ok (.invokevirtual 77, 3) := dk_182 0 77 (dk_at dksX5_citizen_1 0 rfl rfl)
theorem dX5_citizen_27 : decode cX5_citizen 27 = .ok (.aload_n 0, 1) := dk_42 (dk_at dksX5_citizen_1 3 rfl rfl)
theorem dX5_citizen_28 : decode cX5_citizen 28 = .ok (.getfield 9, 3) := dk_180 0 9 (dk_at dksX5_citizen_1 4 rfl rfl)
theorem dX5_citizen_31 : decode cX5_citizen 31 = .ok (.iconst 5, 1) := dk_8 (dk_at dksX5_citizen_1 7 rfl rfl)
theorem dX5_citizen_32 : decode cX5_citizen 32 = .ok (.dup2, 1) := dk_92 (dk_at dksX5_citizen_1 8 rfl rfl)
theorem dX5_citizen_33 : decode cX5_citizen 33 = .ok (.iaload, 1) := dk_46 (dk_at dksX5_citizen_1 9 rfl rfl)
theorem dX5_citizen_34 : decode cX5_citizen 34 = .ok (.iconst 1, 1) := dk_4 (dk_at dksX5_citizen_1 10 rfl rfl)
theorem dX5_citizen_35 : decode cX5_citizen 35 = .ok (.iadd, 1) := dk_96 (dk_at dksX5_citizen_1 11 rfl rfl)
theorem dX5_citizen_36 : decode cX5_citizen 36 = .ok (.iastore, 1) := dk_79 (dk_at dksX5_citizen_1 12 rfl rfl)
theorem dX5_citizen_37 : decode cX5_citizen 37 = .ok (.aload_n 0, 1) := dk_42 (dk_at dksX5_citizen_1 13 rfl rfl)
theorem dX5_citizen_38 : decode cX5_citizen 38 = .ok (.aload_n 0, 1) := dk_42 (dk_at dksX5_citizen_1 14 rfl rfl)
theorem dX5_citizen_39 : decode cX5_citizen 39 = .ok (.getfield 9, 3) := dk_180 0 9 (dk_at dksX5_citizen_1 15 rfl rfl)
theorem dX5_citizen_42 : decode cX5_citizen 42 = .ok (.iconst 5, 1) := dk_8 (dk_at dksX5_citizen_1 18 rfl rfl)
theorem dX5_citizen_43 : decode cX5_citizen 43 = .ok (.iaload, 1) := dk_46 (dk_at dksX5_citizen_1 19 rfl rfl)
theorem dX5_citizen_44 : decode cX5_citizen 44 = .ok (.iconst 1, 1) := dk_4 (dk_at dksX5_citizen_1 20 rfl rfl)
theorem dX5_citizen_45 : decode cX5_citizen 45 = .ok (.isub, 1) := dk_100 (dk_at dksX5_citizen_1 21 rfl rfl)
theorem dX5_citizen_46 : decode cX5_citizen 46 = .ok (.invokevirtual 96, 3) := dk_182 0 96 (dk_at dksX5_citizen_2 0 rfl rfl)
theorem dX5_citizen_49 : decode cX5_citizen 49 = .ok (.ireturn, 1) := dk_172 (dk_at dksX5_citizen_2 3 rfl rfl)
abbrev cX5_earn : ByteArray := prog_12_method_35_code
def yX5_earn : MethodName := ⟨RX5, "earn", "(II)I"⟩
def dkwX5_earn_0 : List UInt8 := [42, 182, 0, 89, 42, 42, 27, 28, 182, 0, 130, 182, 0, 96, 172]
abbrev dktX5_earn_0 : List UInt8 := dkwX5_earn_0 ++ []
theorem dksX5_earn_0 : cX5_earn.data.toList.drop 0 = dktX5_earn_0 := by decide +kernel
theorem dX5_earn_0 : decode cX5_earn 0 = .ok (.aload_n 0, 1) := dk_42 (dk_at dksX5_earn_0 0 rfl rfl)
theorem dX5_earn_1 : decode cX5_earn 1 = .ok (.invokevirtual 89, 3) := dk_182 0 89 (dk_at dksX5_earn_0 1 rfl rfl)
theorem dX5_earn_4 : decode cX5_earn 4 = .ok (.aload_n 0, 1) := dk_42 (dk_at dksX5_earn_0 4 rfl rfl)
theorem dX5_earn_5 : decode cX5_earn 5 = .ok (.aload_n 0, 1) := dk_42 (dk_at dksX5_earn_0 5 rfl rfl)
theorem dX5_earn_6 : decode cX5_earn 6 = .ok (.iload_n 1, 1) := dk_27 (dk_at dksX5_earn_0 6 rfl rfl)
theorem dX5_earn_7 : decode cX5_earn 7 = .ok (.iload_n 2, 1) := dk_28 (dk_at dksX5_earn_0 7 rfl rfl)
theorem dX5_earn_8 : decode cX5_earn 8 = .ok (.invokevirtual 130, 3) := dk_182 0 130 (dk_at dksX5_earn_0 8 rfl rfl)
theorem dX5_earn_11 : decode cX5_earn 11 = .ok (.invokevirtual 96, 3) := dk_182 0 96 (dk_at dksX5_earn_0 11 rfl rfl)
theorem dX5_earn_14 : decode cX5_earn 14 = .ok (.ireturn, 1) := dk_172 (dk_at dksX5_earn_0 14 rfl rfl)
abbrev cX5_earns : ByteArray := prog_12_method_34_code
def yX5_earns : MethodName := ⟨RX5, "earns", "(II)I"⟩
def dkwX5_earns_4 : List UInt8 := [42, 180, 0, 9, 16, 8, 92, 46, 28, 96, 79, 29, 172]
abbrev dktX5_earns_4 : List UInt8 := dkwX5_earns_4 ++ []
def dkwX5_earns_3 : List UInt8 := [182, 0, 77, 42, 180, 0, 41, 154, 0, 28, 42, 27, 3, 29, 182, 0, 124, 42, 27, 4, 28, 182, 0, 127]
abbrev dktX5_earns_3 : List UInt8 := dkwX5_earns_3 ++ dktX5_earns_4
def dkwX5_earns_2 : List UInt8 := [3, 62, 42, 29, 17, 39, 15, 164, 0, 7, 4, 167, 0, 4, 3, 16, 6, 29, 17, 39, 15, 100]
abbrev dktX5_earns_2 : List UInt8 := dkwX5_earns_2 ++ dktX5_earns_3
def dkwX5_earns_1 : List UInt8 := [17, 39, 15, 182, 0, 81, 42, 180, 0, 41, 154, 0, 14, 42, 27, 3, 182, 0, 118, 28, 96, 167, 0, 4]
abbrev dktX5_earns_1 : List UInt8 := dkwX5_earns_1 ++ dktX5_earns_2
def dkwX5_earns_0 : List UInt8 := [42, 42, 27, 182, 0, 121, 154, 0, 7, 4, 167, 0, 4, 3, 5, 27, 182, 0, 77, 42, 28, 4]
abbrev dktX5_earns_0 : List UInt8 := dkwX5_earns_0 ++ dktX5_earns_1
theorem dksX5_earns_0 : cX5_earns.data.toList.drop 0 = dktX5_earns_0 := by decide +kernel
theorem dksX5_earns_1 : cX5_earns.data.toList.drop 22 = dktX5_earns_1 := dk_seg dksX5_earns_0 22 rfl rfl
theorem dksX5_earns_2 : cX5_earns.data.toList.drop 46 = dktX5_earns_2 := dk_seg dksX5_earns_1 24 rfl rfl
theorem dksX5_earns_3 : cX5_earns.data.toList.drop 68 = dktX5_earns_3 := dk_seg dksX5_earns_2 22 rfl rfl
theorem dksX5_earns_4 : cX5_earns.data.toList.drop 92 = dktX5_earns_4 := dk_seg dksX5_earns_3 24 rfl rfl
theorem dX5_earns_0 : decode cX5_earns 0 = .ok (.aload_n 0, 1) := dk_42 (dk_at dksX5_earns_0 0 rfl rfl)
theorem dX5_earns_1 : decode cX5_earns 1 = .ok (.aload_n 0, 1) := dk_42 (dk_at dksX5_earns_0 1 rfl rfl)
theorem dX5_earns_2 : decode cX5_earns 2 = .ok (.iload_n 1, 1) := dk_27 (dk_at dksX5_earns_0 2 rfl rfl)
theorem dX5_earns_3 : decode cX5_earns 3 = .ok (.invokevirtual 121, 3) := dk_182 0 121 (dk_at dksX5_earns_0 3 rfl rfl)
theorem dX5_earns_6 : decode cX5_earns 6 = .ok (.ifCond .ne 7, 3) := dk_154 0 7 (dk_at dksX5_earns_0 6 rfl rfl)
theorem dX5_earns_9 : decode cX5_earns 9 = .ok (.iconst 1, 1) := dk_4 (dk_at dksX5_earns_0 9 rfl rfl)
theorem dX5_earns_10 : decode cX5_earns 10 = .ok (.goto 4, 3) := dk_167 0 4 (dk_at dksX5_earns_0 10 rfl rfl)
theorem dX5_earns_13 : decode cX5_earns 13 = .ok (.iconst 0, 1) := dk_3 (dk_at dksX5_earns_0 13 rfl rfl)
theorem dX5_earns_14 : decode cX5_earns 14 = .ok (.iconst 2, 1) := dk_5 (dk_at dksX5_earns_0 14 rfl rfl)
theorem dX5_earns_15 : decode cX5_earns 15 = .ok (.iload_n 1, 1) := dk_27 (dk_at dksX5_earns_0 15 rfl rfl)
theorem dX5_earns_16 : decode cX5_earns 16 = .ok (.invokevirtual 77, 3) := dk_182 0 77 (dk_at dksX5_earns_0 16 rfl rfl)
theorem dX5_earns_19 : decode cX5_earns 19 = .ok (.aload_n 0, 1) := dk_42 (dk_at dksX5_earns_0 19 rfl rfl)
theorem dX5_earns_20 : decode cX5_earns 20 = .ok (.iload_n 2, 1) := dk_28 (dk_at dksX5_earns_0 20 rfl rfl)
theorem dX5_earns_21 : decode cX5_earns 21 = .ok (.iconst 1, 1) := dk_4 (dk_at dksX5_earns_0 21 rfl rfl)
theorem dX5_earns_22 : decode cX5_earns 22 = .ok (.sipush 9999, 3) := dk_17 39 15 (dk_at dksX5_earns_1 0 rfl rfl)
theorem dX5_earns_25 : decode cX5_earns 25 = .ok (.invokevirtual 81, 3) := dk_182 0 81 (dk_at dksX5_earns_1 3 rfl rfl)
theorem dX5_earns_28 : decode cX5_earns 28 = .ok (.aload_n 0, 1) := dk_42 (dk_at dksX5_earns_1 6 rfl rfl)
theorem dX5_earns_29 : decode cX5_earns 29 = .ok (.getfield 41, 3) := dk_180 0 41 (dk_at dksX5_earns_1 7 rfl rfl)
theorem dX5_earns_32 : decode cX5_earns 32 = .ok (.ifCond .ne 14, 3) := dk_154 0 14 (dk_at dksX5_earns_1 10 rfl rfl)
theorem dX5_earns_35 : decode cX5_earns 35 = .ok (.aload_n 0, 1) := dk_42 (dk_at dksX5_earns_1 13 rfl rfl)
theorem dX5_earns_36 : decode cX5_earns 36 = .ok (.iload_n 1, 1) := dk_27 (dk_at dksX5_earns_1 14 rfl rfl)
theorem dX5_earns_37 : decode cX5_earns 37 = .ok (.iconst 0, 1) := dk_3 (dk_at dksX5_earns_1 15 rfl rfl)
theorem dX5_earns_38 : decode cX5_earns 38 = .ok (.invokevirtual 118, 3) := dk_182 0 118 (dk_at dksX5_earns_1 16 rfl rfl)
theorem dX5_earns_41 : decode cX5_earns 41 = .ok (.iload_n 2, 1) := dk_28 (dk_at dksX5_earns_1 19 rfl rfl)
theorem dX5_earns_42 : decode cX5_earns 42 = .ok (.iadd, 1) := dk_96 (dk_at dksX5_earns_1 20 rfl rfl)
theorem dX5_earns_43 : decode cX5_earns 43 = .ok (.goto 4, 3) := dk_167 0 4 (dk_at dksX5_earns_1 21 rfl rfl)
theorem dX5_earns_46 : decode cX5_earns 46 = .ok (.iconst 0, 1) := dk_3 (dk_at dksX5_earns_2 0 rfl rfl)
theorem dX5_earns_47 : decode cX5_earns 47 = .ok (.istore_n 3, 1) := dk_62 (dk_at dksX5_earns_2 1 rfl rfl)
theorem dX5_earns_48 : decode cX5_earns 48 = .ok (.aload_n 0, 1) := dk_42 (dk_at dksX5_earns_2 2 rfl rfl)
theorem dX5_earns_49 : decode cX5_earns 49 = .ok (.iload_n 3, 1) := dk_29 (dk_at dksX5_earns_2 3 rfl rfl)
theorem dX5_earns_50 : decode cX5_earns 50 = .ok (.sipush 9999, 3) := dk_17 39 15 (dk_at dksX5_earns_2 4 rfl rfl)
theorem dX5_earns_53 : decode cX5_earns 53 = .ok (.if_icmp .le 7, 3) := dk_164 0 7 (dk_at dksX5_earns_2 7 rfl rfl)
theorem dX5_earns_56 : decode cX5_earns 56 = .ok (.iconst 1, 1) := dk_4 (dk_at dksX5_earns_2 10 rfl rfl)
theorem dX5_earns_57 : decode cX5_earns 57 = .ok (.goto 4, 3) := dk_167 0 4 (dk_at dksX5_earns_2 11 rfl rfl)
theorem dX5_earns_60 : decode cX5_earns 60 = .ok (.iconst 0, 1) := dk_3 (dk_at dksX5_earns_2 14 rfl rfl)
theorem dX5_earns_61 : decode cX5_earns 61 = .ok (.bipush 6, 2) := dk_16 6 (dk_at dksX5_earns_2 15 rfl rfl)
theorem dX5_earns_63 : decode cX5_earns 63 = .ok (.iload_n 3, 1) := dk_29 (dk_at dksX5_earns_2 17 rfl rfl)
theorem dX5_earns_64 : decode cX5_earns 64 = .ok (.sipush 9999, 3) := dk_17 39 15 (dk_at dksX5_earns_2 18 rfl rfl)
theorem dX5_earns_67 : decode cX5_earns 67 = .ok (.isub, 1) := dk_100 (dk_at dksX5_earns_2 21 rfl rfl)
theorem dX5_earns_68 : decode cX5_earns 68 = .ok (.invokevirtual 77, 3) := dk_182 0 77 (dk_at dksX5_earns_3 0 rfl rfl)
theorem dX5_earns_71 : decode cX5_earns 71 = .ok (.aload_n 0, 1) := dk_42 (dk_at dksX5_earns_3 3 rfl rfl)
theorem dX5_earns_72 : decode cX5_earns 72 = .ok (.getfield 41, 3) := dk_180 0 41 (dk_at dksX5_earns_3 4 rfl rfl)
theorem dX5_earns_75 : decode cX5_earns 75 = .ok (.ifCond .ne 28, 3) := dk_154 0 28 (dk_at dksX5_earns_3 7 rfl rfl)
theorem dX5_earns_78 : decode cX5_earns 78 = .ok (.aload_n 0, 1) := dk_42 (dk_at dksX5_earns_3 10 rfl rfl)
theorem dX5_earns_79 : decode cX5_earns 79 = .ok (.iload_n 1, 1) := dk_27 (dk_at dksX5_earns_3 11 rfl rfl)
theorem dX5_earns_80 : decode cX5_earns 80 = .ok (.iconst 0, 1) := dk_3 (dk_at dksX5_earns_3 12 rfl rfl)
theorem dX5_earns_81 : decode cX5_earns 81 = .ok (.iload_n 3, 1) := dk_29 (dk_at dksX5_earns_3 13 rfl rfl)
theorem dX5_earns_82 : decode cX5_earns 82 = .ok (.invokevirtual 124, 3) := dk_182 0 124 (dk_at dksX5_earns_3 14 rfl rfl)
theorem dX5_earns_85 : decode cX5_earns 85 = .ok (.aload_n 0, 1) := dk_42 (dk_at dksX5_earns_3 17 rfl rfl)
theorem dX5_earns_86 : decode cX5_earns 86 = .ok (.iload_n 1, 1) := dk_27 (dk_at dksX5_earns_3 18 rfl rfl)
theorem dX5_earns_87 : decode cX5_earns 87 = .ok (.iconst 1, 1) := dk_4 (dk_at dksX5_earns_3 19 rfl rfl)
theorem dX5_earns_88 : decode cX5_earns 88 = .ok (.iload_n 2, 1) := dk_28 (dk_at dksX5_earns_3 20 rfl rfl)
theorem dX5_earns_89 : decode cX5_earns 89 = .ok (.invokevirtual 127, 3) := dk_182 0 127 (dk_at dksX5_earns_3 21 rfl rfl)
theorem dX5_earns_92 : decode cX5_earns 92 = .ok (.aload_n 0, 1) := dk_42 (dk_at dksX5_earns_4 0 rfl rfl)
theorem dX5_earns_93 : decode cX5_earns 93 = .ok (.getfield 9, 3) := dk_180 0 9 (dk_at dksX5_earns_4 1 rfl rfl)
theorem dX5_earns_96 : decode cX5_earns 96 = .ok (.bipush 8, 2) := dk_16 8 (dk_at dksX5_earns_4 4 rfl rfl)
theorem dX5_earns_98 : decode cX5_earns 98 = .ok (.dup2, 1) := dk_92 (dk_at dksX5_earns_4 6 rfl rfl)
theorem dX5_earns_99 : decode cX5_earns 99 = .ok (.iaload, 1) := dk_46 (dk_at dksX5_earns_4 7 rfl rfl)
theorem dX5_earns_100 : decode cX5_earns 100 = .ok (.iload_n 2, 1) := dk_28 (dk_at dksX5_earns_4 8 rfl rfl)
theorem dX5_earns_101 : decode cX5_earns 101 = .ok (.iadd, 1) := dk_96 (dk_at dksX5_earns_4 9 rfl rfl)
theorem dX5_earns_102 : decode cX5_earns 102 = .ok (.iastore, 1) := dk_79 (dk_at dksX5_earns_4 10 rfl rfl)
theorem dX5_earns_103 : decode cX5_earns 103 = .ok (.iload_n 3, 1) := dk_29 (dk_at dksX5_earns_4 11 rfl rfl)
theorem dX5_earns_104 : decode cX5_earns 104 = .ok (.ireturn, 1) := dk_172 (dk_at dksX5_earns_4 12 rfl rfl)
abbrev cX5_isCitizen : ByteArray := prog_12_method_15_code
def yX5_isCitizen : MethodName := ⟨RX5, "isCitizen", "(I)Z"⟩
def dkwX5_isCitizen_0 : List UInt8 := [27, 3, 42, 180, 0, 9, 8, 46, 4, 100, 184, 0, 73, 172]
abbrev dktX5_isCitizen_0 : List UInt8 := dkwX5_isCitizen_0 ++ []
theorem dksX5_isCitizen_0 : cX5_isCitizen.data.toList.drop 0 = dktX5_isCitizen_0 := by decide +kernel
theorem dX5_isCitizen_0 : decode cX5_isCitizen 0 = .ok (.iload_n 1, 1) := dk_27 (dk_at dksX5_isCitizen_0 0 rfl rfl)
theorem dX5_isCitizen_1 : decode cX5_isCitizen 1 = .ok (.iconst 0, 1) := dk_3 (dk_at dksX5_isCitizen_0 1 rfl rfl)
theorem dX5_isCitizen_2 : decode cX5_isCitizen 2 = .ok (.aload_n 0, 1) := dk_42 (dk_at dksX5_isCitizen_0 2 rfl rfl)
theorem dX5_isCitizen_3 : decode cX5_isCitizen 3 = .ok (.getfield 9, 3) := dk_180 0 9 (dk_at dksX5_isCitizen_0 3 rfl rfl)
theorem dX5_isCitizen_6 : decode cX5_isCitizen 6 = .ok (.iconst 5, 1) := dk_8 (dk_at dksX5_isCitizen_0 6 rfl rfl)
theorem dX5_isCitizen_7 : decode cX5_isCitizen 7 = .ok (.iaload, 1) := dk_46 (dk_at dksX5_isCitizen_0 7 rfl rfl)
theorem dX5_isCitizen_8 : decode cX5_isCitizen 8 = .ok (.iconst 1, 1) := dk_4 (dk_at dksX5_isCitizen_0 8 rfl rfl)
theorem dX5_isCitizen_9 : decode cX5_isCitizen 9 = .ok (.isub, 1) := dk_100 (dk_at dksX5_isCitizen_0 9 rfl rfl)
theorem dX5_isCitizen_10 : decode cX5_isCitizen 10 = .ok (.invokestatic 73, 3) := dk_184 0 73 (dk_at dksX5_isCitizen_0 10 rfl rfl)
theorem dX5_isCitizen_13 : decode cX5_isCitizen 13 = .ok (.ireturn, 1) := dk_172 (dk_at dksX5_isCitizen_0 13 rfl rfl)
abbrev cX5_of : ByteArray := prog_12_method_28_code
def yX5_of : MethodName := ⟨RX5, "of", "(II)I"⟩
def dkwX5_of_0 : List UInt8 := [42, 180, 0, 9, 16, 23, 16, 19, 27, 104, 96, 28, 96, 46, 172]
abbrev dktX5_of_0 : List UInt8 := dkwX5_of_0 ++ []
theorem dksX5_of_0 : cX5_of.data.toList.drop 0 = dktX5_of_0 := by decide +kernel
theorem dX5_of_0 : decode cX5_of 0 = .ok (.aload_n 0, 1) := dk_42 (dk_at dksX5_of_0 0 rfl rfl)
theorem dX5_of_1 : decode cX5_of 1 = .ok (.getfield 9, 3) := dk_180 0 9 (dk_at dksX5_of_0 1 rfl rfl)
theorem dX5_of_4 : decode cX5_of 4 = .ok (.bipush 23, 2) := dk_16 23 (dk_at dksX5_of_0 4 rfl rfl)
theorem dX5_of_6 : decode cX5_of 6 = .ok (.bipush 19, 2) := dk_16 19 (dk_at dksX5_of_0 6 rfl rfl)
theorem dX5_of_8 : decode cX5_of 8 = .ok (.iload_n 1, 1) := dk_27 (dk_at dksX5_of_0 8 rfl rfl)
theorem dX5_of_9 : decode cX5_of 9 = .ok (.imul, 1) := dk_104 (dk_at dksX5_of_0 9 rfl rfl)
theorem dX5_of_10 : decode cX5_of 10 = .ok (.iadd, 1) := dk_96 (dk_at dksX5_of_0 10 rfl rfl)
theorem dX5_of_11 : decode cX5_of 11 = .ok (.iload_n 2, 1) := dk_28 (dk_at dksX5_of_0 11 rfl rfl)
theorem dX5_of_12 : decode cX5_of 12 = .ok (.iadd, 1) := dk_96 (dk_at dksX5_of_0 12 rfl rfl)
theorem dX5_of_13 : decode cX5_of 13 = .ok (.iaload, 1) := dk_46 (dk_at dksX5_of_0 13 rfl rfl)
theorem dX5_of_14 : decode cX5_of 14 = .ok (.ireturn, 1) := dk_172 (dk_at dksX5_of_0 14 rfl rfl)
abbrev cX5_becomes : ByteArray := prog_12_method_29_code
def yX5_becomes : MethodName := ⟨RX5, "becomes", "(III)V"⟩
def dkwX5_becomes_0 : List UInt8 := [42, 180, 0, 9, 16, 23, 16, 19, 27, 104, 96, 28, 96, 29, 79, 177]
abbrev dktX5_becomes_0 : List UInt8 := dkwX5_becomes_0 ++ []
theorem dksX5_becomes_0 : cX5_becomes.data.toList.drop 0 = dktX5_becomes_0 := by decide +kernel
theorem dX5_becomes_0 : decode cX5_becomes 0 = .ok (.aload_n 0, 1) := dk_42 (dk_at dksX5_becomes_0 0 rfl rfl)
theorem dX5_becomes_1 : decode cX5_becomes 1 = .ok (.getfield 9, 3) := dk_180 0 9 (dk_at dksX5_becomes_0 1 rfl rfl)
theorem dX5_becomes_4 : decode cX5_becomes 4 = .ok (.bipush 23, 2) := dk_16 23 (dk_at dksX5_becomes_0 4 rfl rfl)
theorem dX5_becomes_6 : decode cX5_becomes 6 = .ok (.bipush 19, 2) := dk_16 19 (dk_at dksX5_becomes_0 6 rfl rfl)
theorem dX5_becomes_8 : decode cX5_becomes 8 = .ok (.iload_n 1, 1) := dk_27 (dk_at dksX5_becomes_0 8 rfl rfl)
theorem dX5_becomes_9 : decode cX5_becomes 9 = .ok (.imul, 1) := dk_104 (dk_at dksX5_becomes_0 9 rfl rfl)
theorem dX5_becomes_10 : decode cX5_becomes 10 = .ok (.iadd, 1) := dk_96 (dk_at dksX5_becomes_0 10 rfl rfl)
theorem dX5_becomes_11 : decode cX5_becomes 11 = .ok (.iload_n 2, 1) := dk_28 (dk_at dksX5_becomes_0 11 rfl rfl)
theorem dX5_becomes_12 : decode cX5_becomes 12 = .ok (.iadd, 1) := dk_96 (dk_at dksX5_becomes_0 12 rfl rfl)
theorem dX5_becomes_13 : decode cX5_becomes 13 = .ok (.iload_n 3, 1) := dk_29 (dk_at dksX5_becomes_0 13 rfl rfl)
theorem dX5_becomes_14 : decode cX5_becomes 14 = .ok (.iastore, 1) := dk_79 (dk_at dksX5_becomes_0 14 rfl rfl)
theorem dX5_becomes_15 : decode cX5_becomes 15 = .ok (.return_, 1) := dk_177 (dk_at dksX5_becomes_0 15 rfl rfl)
abbrev cX5_gets : ByteArray := prog_12_method_30_code
def yX5_gets : MethodName := ⟨RX5, "gets", "(III)V"⟩
def dkwX5_gets_0 : List UInt8 := [42, 180, 0, 9, 16, 23, 16, 19, 27, 104, 96, 28, 96, 92, 46, 29, 96, 79, 177]
abbrev dktX5_gets_0 : List UInt8 := dkwX5_gets_0 ++ []
theorem dksX5_gets_0 : cX5_gets.data.toList.drop 0 = dktX5_gets_0 := by decide +kernel
theorem dX5_gets_0 : decode cX5_gets 0 = .ok (.aload_n 0, 1) := dk_42 (dk_at dksX5_gets_0 0 rfl rfl)
theorem dX5_gets_1 : decode cX5_gets 1 = .ok (.getfield 9, 3) := dk_180 0 9 (dk_at dksX5_gets_0 1 rfl rfl)
theorem dX5_gets_4 : decode cX5_gets 4 = .ok (.bipush 23, 2) := dk_16 23 (dk_at dksX5_gets_0 4 rfl rfl)
theorem dX5_gets_6 : decode cX5_gets 6 = .ok (.bipush 19, 2) := dk_16 19 (dk_at dksX5_gets_0 6 rfl rfl)
theorem dX5_gets_8 : decode cX5_gets 8 = .ok (.iload_n 1, 1) := dk_27 (dk_at dksX5_gets_0 8 rfl rfl)
theorem dX5_gets_9 : decode cX5_gets 9 = .ok (.imul, 1) := dk_104 (dk_at dksX5_gets_0 9 rfl rfl)
theorem dX5_gets_10 : decode cX5_gets 10 = .ok (.iadd, 1) := dk_96 (dk_at dksX5_gets_0 10 rfl rfl)
theorem dX5_gets_11 : decode cX5_gets 11 = .ok (.iload_n 2, 1) := dk_28 (dk_at dksX5_gets_0 11 rfl rfl)
theorem dX5_gets_12 : decode cX5_gets 12 = .ok (.iadd, 1) := dk_96 (dk_at dksX5_gets_0 12 rfl rfl)
theorem dX5_gets_13 : decode cX5_gets 13 = .ok (.dup2, 1) := dk_92 (dk_at dksX5_gets_0 13 rfl rfl)
theorem dX5_gets_14 : decode cX5_gets 14 = .ok (.iaload, 1) := dk_46 (dk_at dksX5_gets_0 14 rfl rfl)
theorem dX5_gets_15 : decode cX5_gets 15 = .ok (.iload_n 3, 1) := dk_29 (dk_at dksX5_gets_0 15 rfl rfl)
theorem dX5_gets_16 : decode cX5_gets 16 = .ok (.iadd, 1) := dk_96 (dk_at dksX5_gets_0 16 rfl rfl)
theorem dX5_gets_17 : decode cX5_gets 17 = .ok (.iastore, 1) := dk_79 (dk_at dksX5_gets_0 17 rfl rfl)
theorem dX5_gets_18 : decode cX5_gets 18 = .ok (.return_, 1) := dk_177 (dk_at dksX5_gets_0 18 rfl rfl)
abbrev cX5_claim : ByteArray := prog_12_method_38_code
def yX5_claim : MethodName := ⟨RX5, "claim", "(IIIZ)I"⟩
def dkwX5_claim_0 : List UInt8 := [42, 182, 0, 89, 42, 42, 27, 28, 29, 21, 4, 182, 0, 148, 182, 0, 96, 172]
abbrev dktX5_claim_0 : List UInt8 := dkwX5_claim_0 ++ []
theorem dksX5_claim_0 : cX5_claim.data.toList.drop 0 = dktX5_claim_0 := by decide +kernel
theorem dX5_claim_0 : decode cX5_claim 0 = .ok (.aload_n 0, 1) := dk_42 (dk_at dksX5_claim_0 0 rfl rfl)
theorem dX5_claim_1 : decode cX5_claim 1 = .ok (.invokevirtual 89, 3) := dk_182 0 89 (dk_at dksX5_claim_0 1 rfl rfl)
theorem dX5_claim_4 : decode cX5_claim 4 = .ok (.aload_n 0, 1) := dk_42 (dk_at dksX5_claim_0 4 rfl rfl)
theorem dX5_claim_5 : decode cX5_claim 5 = .ok (.aload_n 0, 1) := dk_42 (dk_at dksX5_claim_0 5 rfl rfl)
theorem dX5_claim_6 : decode cX5_claim 6 = .ok (.iload_n 1, 1) := dk_27 (dk_at dksX5_claim_0 6 rfl rfl)
theorem dX5_claim_7 : decode cX5_claim 7 = .ok (.iload_n 2, 1) := dk_28 (dk_at dksX5_claim_0 7 rfl rfl)
theorem dX5_claim_8 : decode cX5_claim 8 = .ok (.iload_n 3, 1) := dk_29 (dk_at dksX5_claim_0 8 rfl rfl)
theorem dX5_claim_9 : decode cX5_claim 9 = .ok (.iload 4, 2) := dk_21 4 (dk_at dksX5_claim_0 9 rfl rfl)
theorem dX5_claim_11 : decode cX5_claim 11 = .ok (.invokevirtual 148, 3) := dk_182 0 148 (dk_at dksX5_claim_0 11 rfl rfl)
theorem dX5_claim_14 : decode cX5_claim 14 = .ok (.invokevirtual 96, 3) := dk_182 0 96 (dk_at dksX5_claim_0 14 rfl rfl)
theorem dX5_claim_17 : decode cX5_claim 17 = .ok (.ireturn, 1) := dk_172 (dk_at dksX5_claim_0 17 rfl rfl)
abbrev cX5_claims : ByteArray := prog_12_method_37_code
def yX5_claims : MethodName := ⟨RX5, "claims", "(IIIZ)I"⟩
def dkwX5_claims_6 : List UInt8 := [182, 0, 144, 172]
abbrev dktX5_claims_6 : List UInt8 := dkwX5_claims_6 ++ []
def dkwX5_claims_5 : List UInt8 := [167, 0, 4, 4, 96, 29, 182, 0, 127, 42, 180, 0, 9, 16, 9, 92, 46, 29, 96, 79, 42, 27, 28, 3]
abbrev dktX5_claims_5 : List UInt8 := dkwX5_claims_5 ++ dktX5_claims_6
def dkwX5_claims_4 : List UInt8 := [3, 172, 42, 27, 4, 29, 116, 182, 0, 127, 42, 27, 16, 13, 5, 28, 104, 96, 21, 4, 153, 0, 7, 3]
abbrev dktX5_claims_4 : List UInt8 := dkwX5_claims_4 ++ dktX5_claims_5
def dkwX5_claims_3 : List UInt8 := [162, 0, 7, 4, 167, 0, 4, 3, 16, 7, 29, 21, 5, 100, 182, 0, 77, 42, 180, 0, 41, 153, 0, 5]
abbrev dktX5_claims_3 : List UInt8 := dkwX5_claims_3 ++ dktX5_claims_4
def dkwX5_claims_2 : List UInt8 := [180, 0, 41, 154, 0, 12, 42, 27, 4, 182, 0, 118, 167, 0, 4, 29, 54, 5, 42, 21, 5, 29]
abbrev dktX5_claims_2 : List UInt8 := dkwX5_claims_2 ++ dktX5_claims_3
def dkwX5_claims_1 : List UInt8 := [154, 0, 7, 4, 167, 0, 4, 3, 5, 28, 182, 0, 77, 42, 29, 4, 17, 39, 15, 182, 0, 81, 42]
abbrev dktX5_claims_1 : List UInt8 := dkwX5_claims_1 ++ dktX5_claims_2
def dkwX5_claims_0 : List UInt8 := [42, 42, 27, 182, 0, 121, 154, 0, 7, 4, 167, 0, 4, 3, 5, 27, 182, 0, 77, 42, 28, 184, 0, 112]
abbrev dktX5_claims_0 : List UInt8 := dkwX5_claims_0 ++ dktX5_claims_1
theorem dksX5_claims_0 : cX5_claims.data.toList.drop 0 = dktX5_claims_0 := by decide +kernel
theorem dksX5_claims_1 : cX5_claims.data.toList.drop 24 = dktX5_claims_1 := dk_seg dksX5_claims_0 24 rfl rfl
theorem dksX5_claims_2 : cX5_claims.data.toList.drop 47 = dktX5_claims_2 := dk_seg dksX5_claims_1 23 rfl rfl
theorem dksX5_claims_3 : cX5_claims.data.toList.drop 69 = dktX5_claims_3 := dk_seg dksX5_claims_2 22 rfl rfl
theorem dksX5_claims_4 : cX5_claims.data.toList.drop 93 = dktX5_claims_4 := dk_seg dksX5_claims_3 24 rfl rfl
theorem dksX5_claims_5 : cX5_claims.data.toList.drop 117 = dktX5_claims_5 := dk_seg dksX5_claims_4 24 rfl rfl
theorem dksX5_claims_6 : cX5_claims.data.toList.drop 141 = dktX5_claims_6 := dk_seg dksX5_claims_5 24 rfl rfl
theorem dX5_claims_0 : decode cX5_claims 0 = .ok (.aload_n 0, 1) := dk_42 (dk_at dksX5_claims_0 0 rfl rfl)
theorem dX5_claims_1 : decode cX5_claims 1 = .ok (.aload_n 0, 1) := dk_42 (dk_at dksX5_claims_0 1 rfl rfl)
theorem dX5_claims_2 : decode cX5_claims 2 = .ok (.iload_n 1, 1) := dk_27 (dk_at dksX5_claims_0 2 rfl rfl)
theorem dX5_claims_3 : decode cX5_claims 3 = .ok (.invokevirtual 121, 3) := dk_182 0 121 (dk_at dksX5_claims_0 3 rfl rfl)
theorem dX5_claims_6 : decode cX5_claims 6 = .ok (.ifCond .ne 7, 3) := dk_154 0 7 (dk_at dksX5_claims_0 6 rfl rfl)
theorem dX5_claims_9 : decode cX5_claims 9 = .ok (.iconst 1, 1) := dk_4 (dk_at dksX5_claims_0 9 rfl rfl)
theorem dX5_claims_10 : decode cX5_claims 10 = .ok (.goto 4, 3) := dk_167 0 4 (dk_at dksX5_claims_0 10 rfl rfl)
theorem dX5_claims_13 : decode cX5_claims 13 = .ok (.iconst 0, 1) := dk_3 (dk_at dksX5_claims_0 13 rfl rfl)
theorem dX5_claims_14 : decode cX5_claims 14 = .ok (.iconst 2, 1) := dk_5 (dk_at dksX5_claims_0 14 rfl rfl)
theorem dX5_claims_15 : decode cX5_claims 15 = .ok (.iload_n 1, 1) := dk_27 (dk_at dksX5_claims_0 15 rfl rfl)
theorem dX5_claims_16 : decode cX5_claims 16 = .ok (.invokevirtual 77, 3) := dk_182 0 77 (dk_at dksX5_claims_0 16 rfl rfl)
theorem dX5_claims_19 : decode cX5_claims 19 = .ok (.aload_n 0, 1) := dk_42 (dk_at dksX5_claims_0 19 rfl rfl)
theorem dX5_claims_20 : decode cX5_claims 20 = .ok (.iload_n 2, 1) := dk_28 (dk_at dksX5_claims_0 20 rfl rfl)
theorem dX5_claims_21 : decode cX5_claims 21 = .ok (.invokestatic 112, 3) := dk_184 0 112 (dk_at dksX5_claims_0 21 rfl rfl)
theorem dX5_claims_24 : decode cX5_claims 24 = .ok (.ifCond .ne 7, 3) := dk_154 0 7 (dk_at dksX5_claims_1 0 rfl rfl)
theorem dX5_claims_27 : decode cX5_claims 27 = .ok (.iconst 1, 1) := dk_4 (dk_at dksX5_claims_1 3 rfl rfl)
theorem dX5_claims_28 : decode cX5_claims 28 = .ok (.goto 4, 3) := dk_167 0 4 (dk_at dksX5_claims_1 4 rfl rfl)
theorem dX5_claims_31 : decode cX5_claims 31 = .ok (.iconst 0, 1) := dk_3 (dk_at dksX5_claims_1 7 rfl rfl)
theorem dX5_claims_32 : decode cX5_claims 32 = .ok (.iconst 2, 1) := dk_5 (dk_at dksX5_claims_1 8 rfl rfl)
theorem dX5_claims_33 : decode cX5_claims 33 = .ok (.iload_n 2, 1) := dk_28 (dk_at dksX5_claims_1 9 rfl rfl)
theorem dX5_claims_34 : decode cX5_claims 34 = .ok (.invokevirtual 77, 3) := dk_182 0 77 (dk_at dksX5_claims_1 10 rfl rfl)
theorem dX5_claims_37 : decode cX5_claims 37 = .ok (.aload_n 0, 1) := dk_42 (dk_at dksX5_claims_1 13 rfl rfl)
theorem dX5_claims_38 : decode cX5_claims 38 = .ok (.iload_n 3, 1) := dk_29 (dk_at dksX5_claims_1 14 rfl rfl)
theorem dX5_claims_39 : decode cX5_claims 39 = .ok (.iconst 1, 1) := dk_4 (dk_at dksX5_claims_1 15 rfl rfl)
theorem dX5_claims_40 : decode cX5_claims 40 = .ok (.sipush 9999, 3) := dk_17 39 15 (dk_at dksX5_claims_1 16 rfl rfl)
theorem dX5_claims_43 : decode cX5_claims 43 = .ok (.invokevirtual 81, 3) := dk_182 0 81 (dk_at dksX5_claims_1 19 rfl rfl)
theorem dX5_claims_46 : decode cX5_claims 46 = .ok (.aload_n 0, 1) := dk_42 (dk_at dksX5_claims_1 22 rfl rfl)
theorem dX5_claims_47 : decode cX5_claims 47 = .ok (.getfield 41, 3) := dk_180 0 41 (dk_at dksX5_claims_2 0 rfl rfl)
theorem dX5_claims_50 : decode cX5_claims 50 = .ok (.ifCond .ne 12, 3) := dk_154 0 12 (dk_at dksX5_claims_2 3 rfl rfl)
theorem dX5_claims_53 : decode cX5_claims 53 = .ok (.aload_n 0, 1) := dk_42 (dk_at dksX5_claims_2 6 rfl rfl)
theorem dX5_claims_54 : decode cX5_claims 54 = .ok (.iload_n 1, 1) := dk_27 (dk_at dksX5_claims_2 7 rfl rfl)
theorem dX5_claims_55 : decode cX5_claims 55 = .ok (.iconst 1, 1) := dk_4 (dk_at dksX5_claims_2 8 rfl rfl)
theorem dX5_claims_56 : decode cX5_claims 56 = .ok (.invokevirtual 118, 3) := dk_182 0 118 (dk_at dksX5_claims_2 9 rfl rfl)
theorem dX5_claims_59 : decode cX5_claims 59 = .ok (.goto 4, 3) := dk_167 0 4 (dk_at dksX5_claims_2 12 rfl rfl)
theorem dX5_claims_62 : decode cX5_claims 62 = .ok (.iload_n 3, 1) := dk_29 (dk_at dksX5_claims_2 15 rfl rfl)
theorem dX5_claims_63 : decode cX5_claims 63 = .ok (.istore 5, 2) := dk_54 5 (dk_at dksX5_claims_2 16 rfl rfl)
theorem dX5_claims_65 : decode cX5_claims 65 = .ok (.aload_n 0, 1) := dk_42 (dk_at dksX5_claims_2 18 rfl rfl)
theorem dX5_claims_66 : decode cX5_claims 66 = .ok (.iload 5, 2) := dk_21 5 (dk_at dksX5_claims_2 19 rfl rfl)
theorem dX5_claims_68 : decode cX5_claims 68 = .ok (.iload_n 3, 1) := dk_29 (dk_at dksX5_claims_2 21 rfl rfl)
theorem dX5_claims_69 : decode cX5_claims 69 = .ok (.if_icmp .ge 7, 3) := dk_162 0 7 (dk_at dksX5_claims_3 0 rfl rfl)
theorem dX5_claims_72 : decode cX5_claims 72 = .ok (.iconst 1, 1) := dk_4 (dk_at dksX5_claims_3 3 rfl rfl)
theorem dX5_claims_73 : decode cX5_claims 73 = .ok (.goto 4, 3) := dk_167 0 4 (dk_at dksX5_claims_3 4 rfl rfl)
theorem dX5_claims_76 : decode cX5_claims 76 = .ok (.iconst 0, 1) := dk_3 (dk_at dksX5_claims_3 7 rfl rfl)
theorem dX5_claims_77 : decode cX5_claims 77 = .ok (.bipush 7, 2) := dk_16 7 (dk_at dksX5_claims_3 8 rfl rfl)
theorem dX5_claims_79 : decode cX5_claims 79 = .ok (.iload_n 3, 1) := dk_29 (dk_at dksX5_claims_3 10 rfl rfl)
theorem dX5_claims_80 : decode cX5_claims 80 = .ok (.iload 5, 2) := dk_21 5 (dk_at dksX5_claims_3 11 rfl rfl)
theorem dX5_claims_82 : decode cX5_claims 82 = .ok (.isub, 1) := dk_100 (dk_at dksX5_claims_3 13 rfl rfl)
theorem dX5_claims_83 : decode cX5_claims 83 = .ok (.invokevirtual 77, 3) := dk_182 0 77 (dk_at dksX5_claims_3 14 rfl rfl)
theorem dX5_claims_86 : decode cX5_claims 86 = .ok (.aload_n 0, 1) := dk_42 (dk_at dksX5_claims_3 17 rfl rfl)
theorem dX5_claims_87 : decode cX5_claims 87 = .ok (.getfield 41, 3) := dk_180 0 41 (dk_at dksX5_claims_3 18 rfl rfl)
theorem dX5_claims_90 : decode cX5_claims 90 = .ok (.ifCond .eq 5, 3) := dk_153 0 5 (dk_at dksX5_claims_3 21 rfl rfl)
theorem dX5_claims_93 : decode cX5_claims 93 = .ok (.iconst 0, 1) := dk_3 (dk_at dksX5_claims_4 0 rfl rfl)
theorem dX5_claims_94 : decode cX5_claims 94 = .ok (.ireturn, 1) := dk_172 (dk_at dksX5_claims_4 1 rfl rfl)
theorem dX5_claims_95 : decode cX5_claims 95 = .ok (.aload_n 0, 1) := dk_42 (dk_at dksX5_claims_4 2 rfl rfl)
theorem dX5_claims_96 : decode cX5_claims 96 = .ok (.iload_n 1, 1) := dk_27 (dk_at dksX5_claims_4 3 rfl rfl)
theorem dX5_claims_97 : decode cX5_claims 97 = .ok (.iconst 1, 1) := dk_4 (dk_at dksX5_claims_4 4 rfl rfl)
theorem dX5_claims_98 : decode cX5_claims 98 = .ok (.iload_n 3, 1) := dk_29 (dk_at dksX5_claims_4 5 rfl rfl)
theorem dX5_claims_99 : decode cX5_claims 99 = .ok (.ineg, 1) := dk_116 (dk_at dksX5_claims_4 6 rfl rfl)
theorem dX5_claims_100 : decode cX5_claims 100 = .ok (.invokevirtual 127, 3) := dk_182 0 127 (dk_at dksX5_claims_4 7 rfl rfl)
theorem dX5_claims_103 : decode cX5_claims 103 = .ok (.aload_n 0, 1) := dk_42 (dk_at dksX5_claims_4 10 rfl rfl)
theorem dX5_claims_104 : decode cX5_claims 104 = .ok (.iload_n 1, 1) := dk_27 (dk_at dksX5_claims_4 11 rfl rfl)
theorem dX5_claims_105 : decode cX5_claims 105 = .ok (.bipush 13, 2) := dk_16 13 (dk_at dksX5_claims_4 12 rfl rfl)
theorem dX5_claims_107 : decode cX5_claims 107 = .ok (.iconst 2, 1) := dk_5 (dk_at dksX5_claims_4 14 rfl rfl)
theorem dX5_claims_108 : decode cX5_claims 108 = .ok (.iload_n 2, 1) := dk_28 (dk_at dksX5_claims_4 15 rfl rfl)
theorem dX5_claims_109 : decode cX5_claims 109 = .ok (.imul, 1) := dk_104 (dk_at dksX5_claims_4 16 rfl rfl)
theorem dX5_claims_110 : decode cX5_claims 110 = .ok (.iadd, 1) := dk_96 (dk_at dksX5_claims_4 17 rfl rfl)
theorem dX5_claims_111 : decode cX5_claims 111 = .ok (.iload 4, 2) := dk_21 4 (dk_at dksX5_claims_4 18 rfl rfl)
theorem dX5_claims_113 : decode cX5_claims 113 = .ok (.ifCond .eq 7, 3) := dk_153 0 7 (dk_at dksX5_claims_4 20 rfl rfl)
theorem dX5_claims_116 : decode cX5_claims 116 = .ok (.iconst 0, 1) := dk_3 (dk_at dksX5_claims_4 23 rfl rfl)
theorem dX5_claims_117 : decode cX5_claims 117 = .ok (.goto 4, 3) := dk_167 0 4 (dk_at dksX5_claims_5 0 rfl rfl)
theorem dX5_claims_120 : decode cX5_claims 120 = .ok (.iconst 1, 1) := dk_4 (dk_at dksX5_claims_5 3 rfl rfl)
theorem dX5_claims_121 : decode cX5_claims 121 = .ok (.iadd, 1) := dk_96 (dk_at dksX5_claims_5 4 rfl rfl)
theorem dX5_claims_122 : decode cX5_claims 122 = .ok (.iload_n 3, 1) := dk_29 (dk_at dksX5_claims_5 5 rfl rfl)
theorem dX5_claims_123 : decode cX5_claims 123 = .ok (.invokevirtual 127, 3) := dk_182 0 127 (dk_at dksX5_claims_5 6 rfl rfl)
theorem dX5_claims_126 : decode cX5_claims 126 = .ok (.aload_n 0, 1) := dk_42 (dk_at dksX5_claims_5 9 rfl rfl)
theorem dX5_claims_127 : decode cX5_claims 127 = .ok (.getfield 9, 3) := dk_180 0 9 (dk_at dksX5_claims_5 10 rfl rfl)
theorem dX5_claims_130 : decode cX5_claims 130 = .ok (.bipush 9, 2) := dk_16 9 (dk_at dksX5_claims_5 13 rfl rfl)
theorem dX5_claims_132 : decode cX5_claims 132 = .ok (.dup2, 1) := dk_92 (dk_at dksX5_claims_5 15 rfl rfl)
theorem dX5_claims_133 : decode cX5_claims 133 = .ok (.iaload, 1) := dk_46 (dk_at dksX5_claims_5 16 rfl rfl)
theorem dX5_claims_134 : decode cX5_claims 134 = .ok (.iload_n 3, 1) := dk_29 (dk_at dksX5_claims_5 17 rfl rfl)
theorem dX5_claims_135 : decode cX5_claims 135 = .ok (.iadd, 1) := dk_96 (dk_at dksX5_claims_5 18 rfl rfl)
theorem dX5_claims_136 : decode cX5_claims 136 = .ok (.iastore, 1) := dk_79 (dk_at dksX5_claims_5 19 rfl rfl)
theorem dX5_claims_137 : decode cX5_claims 137 = .ok (.aload_n 0, 1) := dk_42 (dk_at dksX5_claims_5 20 rfl rfl)
theorem dX5_claims_138 : decode cX5_claims 138 = .ok (.iload_n 1, 1) := dk_27 (dk_at dksX5_claims_5 21 rfl rfl)
theorem dX5_claims_139 : decode cX5_claims 139 = .ok (.iload_n 2, 1) := dk_28 (dk_at dksX5_claims_5 22 rfl rfl)
theorem dX5_claims_140 : decode cX5_claims 140 = .ok (.iconst 0, 1) := dk_3 (dk_at dksX5_claims_5 23 rfl rfl)
theorem dX5_claims_141 : decode cX5_claims 141 = .ok (.invokevirtual 144, 3) := dk_182 0 144 (dk_at dksX5_claims_6 0 rfl rfl)
theorem dX5_claims_144 : decode cX5_claims 144 = .ok (.ireturn, 1) := dk_172 (dk_at dksX5_claims_6 3 rfl rfl)
abbrev cX5_countsOf : ByteArray := prog_12_method_36_code
def yX5_countsOf : MethodName := ⟨RX5, "countsOf", "(IIZ)I"⟩
def dkwX5_countsOf_1 : List UInt8 := [27, 28, 182, 0, 136, 96, 184, 0, 139, 172]
abbrev dktX5_countsOf_1 : List UInt8 := dkwX5_countsOf_1 ++ []
def dkwX5_countsOf_0 : List UInt8 := [42, 180, 0, 9, 16, 10, 28, 96, 46, 42, 27, 28, 182, 0, 133, 29, 153, 0, 7, 3, 167, 0, 9, 42]
abbrev dktX5_countsOf_0 : List UInt8 := dkwX5_countsOf_0 ++ dktX5_countsOf_1
theorem dksX5_countsOf_0 : cX5_countsOf.data.toList.drop 0 = dktX5_countsOf_0 := by decide +kernel
theorem dksX5_countsOf_1 : cX5_countsOf.data.toList.drop 24 = dktX5_countsOf_1 := dk_seg dksX5_countsOf_0 24 rfl rfl
theorem dX5_countsOf_0 : decode cX5_countsOf 0 = .ok (.aload_n 0, 1) := dk_42 (dk_at dksX5_countsOf_0 0 rfl rfl)
theorem dX5_countsOf_1 : decode cX5_countsOf 1 = .ok (.getfield 9, 3) := dk_180 0 9 (dk_at dksX5_countsOf_0 1 rfl rfl)
theorem dX5_countsOf_4 : decode cX5_countsOf 4 = .ok (.bipush 10, 2) := dk_16 10 (dk_at dksX5_countsOf_0 4 rfl rfl)
theorem dX5_countsOf_6 : decode cX5_countsOf 6 = .ok (.iload_n 2, 1) := dk_28 (dk_at dksX5_countsOf_0 6 rfl rfl)
theorem dX5_countsOf_7 : decode cX5_countsOf 7 = .ok (.iadd, 1) := dk_96 (dk_at dksX5_countsOf_0 7 rfl rfl)
theorem dX5_countsOf_8 : decode cX5_countsOf 8 = .ok (.iaload, 1) := dk_46 (dk_at dksX5_countsOf_0 8 rfl rfl)
theorem dX5_countsOf_9 : decode cX5_countsOf 9 = .ok (.aload_n 0, 1) := dk_42 (dk_at dksX5_countsOf_0 9 rfl rfl)
theorem dX5_countsOf_10 : decode cX5_countsOf 10 = .ok (.iload_n 1, 1) := dk_27 (dk_at dksX5_countsOf_0 10 rfl rfl)
theorem dX5_countsOf_11 : decode cX5_countsOf 11 = .ok (.iload_n 2, 1) := dk_28 (dk_at dksX5_countsOf_0 11 rfl rfl)
theorem dX5_countsOf_12 : decode cX5_countsOf 12 = .ok (.invokevirtual 133, 3) := dk_182 0 133 (dk_at dksX5_countsOf_0 12 rfl rfl)
theorem dX5_countsOf_15 : decode cX5_countsOf 15 = .ok (.iload_n 3, 1) := dk_29 (dk_at dksX5_countsOf_0 15 rfl rfl)
theorem dX5_countsOf_16 : decode cX5_countsOf 16 = .ok (.ifCond .eq 7, 3) := dk_153 0 7 (dk_at dksX5_countsOf_0 16 rfl rfl)
theorem dX5_countsOf_19 : decode cX5_countsOf 19 = .ok (.iconst 0, 1) := dk_3 (dk_at dksX5_countsOf_0 19 rfl rfl)
theorem dX5_countsOf_20 : decode cX5_countsOf 20 = .ok (.goto 9, 3) := dk_167 0 9 (dk_at dksX5_countsOf_0 20 rfl rfl)
theorem dX5_countsOf_23 : decode cX5_countsOf 23 = .ok (.aload_n 0, 1) := dk_42 (dk_at dksX5_countsOf_0 23 rfl rfl)
theorem dX5_countsOf_24 : decode cX5_countsOf 24 = .ok (.iload_n 1, 1) := dk_27 (dk_at dksX5_countsOf_1 0 rfl rfl)
theorem dX5_countsOf_25 : decode cX5_countsOf 25 = .ok (.iload_n 2, 1) := dk_28 (dk_at dksX5_countsOf_1 1 rfl rfl)
theorem dX5_countsOf_26 : decode cX5_countsOf 26 = .ok (.invokevirtual 136, 3) := dk_182 0 136 (dk_at dksX5_countsOf_1 2 rfl rfl)
theorem dX5_countsOf_29 : decode cX5_countsOf 29 = .ok (.iadd, 1) := dk_96 (dk_at dksX5_countsOf_1 5 rfl rfl)
theorem dX5_countsOf_30 : decode cX5_countsOf 30 = .ok (.invokestatic 139, 3) := dk_184 0 139 (dk_at dksX5_countsOf_1 6 rfl rfl)
theorem dX5_countsOf_33 : decode cX5_countsOf 33 = .ok (.ireturn, 1) := dk_172 (dk_at dksX5_countsOf_1 9 rfl rfl)
abbrev cX5_proved : ByteArray := prog_12_method_31_code
def yX5_proved : MethodName := ⟨RX5, "proved", "(II)I"⟩
def dkwX5_proved_0 : List UInt8 := [42, 27, 16, 13, 5, 28, 104, 96, 182, 0, 118, 172]
abbrev dktX5_proved_0 : List UInt8 := dkwX5_proved_0 ++ []
theorem dksX5_proved_0 : cX5_proved.data.toList.drop 0 = dktX5_proved_0 := by decide +kernel
theorem dX5_proved_0 : decode cX5_proved 0 = .ok (.aload_n 0, 1) := dk_42 (dk_at dksX5_proved_0 0 rfl rfl)
theorem dX5_proved_1 : decode cX5_proved 1 = .ok (.iload_n 1, 1) := dk_27 (dk_at dksX5_proved_0 1 rfl rfl)
theorem dX5_proved_2 : decode cX5_proved 2 = .ok (.bipush 13, 2) := dk_16 13 (dk_at dksX5_proved_0 2 rfl rfl)
theorem dX5_proved_4 : decode cX5_proved 4 = .ok (.iconst 2, 1) := dk_5 (dk_at dksX5_proved_0 4 rfl rfl)
theorem dX5_proved_5 : decode cX5_proved 5 = .ok (.iload_n 2, 1) := dk_28 (dk_at dksX5_proved_0 5 rfl rfl)
theorem dX5_proved_6 : decode cX5_proved 6 = .ok (.imul, 1) := dk_104 (dk_at dksX5_proved_0 6 rfl rfl)
theorem dX5_proved_7 : decode cX5_proved 7 = .ok (.iadd, 1) := dk_96 (dk_at dksX5_proved_0 7 rfl rfl)
theorem dX5_proved_8 : decode cX5_proved 8 = .ok (.invokevirtual 118, 3) := dk_182 0 118 (dk_at dksX5_proved_0 8 rfl rfl)
theorem dX5_proved_11 : decode cX5_proved 11 = .ok (.ireturn, 1) := dk_172 (dk_at dksX5_proved_0 11 rfl rfl)
abbrev cX5_unproved : ByteArray := prog_12_method_32_code
def yX5_unproved : MethodName := ⟨RX5, "unproved", "(II)I"⟩
def dkwX5_unproved_0 : List UInt8 := [42, 27, 16, 13, 5, 28, 104, 96, 4, 96, 182, 0, 118, 172]
abbrev dktX5_unproved_0 : List UInt8 := dkwX5_unproved_0 ++ []
theorem dksX5_unproved_0 : cX5_unproved.data.toList.drop 0 = dktX5_unproved_0 := by decide +kernel
theorem dX5_unproved_0 : decode cX5_unproved 0 = .ok (.aload_n 0, 1) := dk_42 (dk_at dksX5_unproved_0 0 rfl rfl)
theorem dX5_unproved_1 : decode cX5_unproved 1 = .ok (.iload_n 1, 1) := dk_27 (dk_at dksX5_unproved_0 1 rfl rfl)
theorem dX5_unproved_2 : decode cX5_unproved 2 = .ok (.bipush 13, 2) := dk_16 13 (dk_at dksX5_unproved_0 2 rfl rfl)
theorem dX5_unproved_4 : decode cX5_unproved 4 = .ok (.iconst 2, 1) := dk_5 (dk_at dksX5_unproved_0 4 rfl rfl)
theorem dX5_unproved_5 : decode cX5_unproved 5 = .ok (.iload_n 2, 1) := dk_28 (dk_at dksX5_unproved_0 5 rfl rfl)
theorem dX5_unproved_6 : decode cX5_unproved 6 = .ok (.imul, 1) := dk_104 (dk_at dksX5_unproved_0 6 rfl rfl)
theorem dX5_unproved_7 : decode cX5_unproved 7 = .ok (.iadd, 1) := dk_96 (dk_at dksX5_unproved_0 7 rfl rfl)
theorem dX5_unproved_8 : decode cX5_unproved 8 = .ok (.iconst 1, 1) := dk_4 (dk_at dksX5_unproved_0 8 rfl rfl)
theorem dX5_unproved_9 : decode cX5_unproved 9 = .ok (.iadd, 1) := dk_96 (dk_at dksX5_unproved_0 9 rfl rfl)
theorem dX5_unproved_10 : decode cX5_unproved 10 = .ok (.invokevirtual 118, 3) := dk_182 0 118 (dk_at dksX5_unproved_0 10 rfl rfl)
theorem dX5_unproved_13 : decode cX5_unproved 13 = .ok (.ireturn, 1) := dk_172 (dk_at dksX5_unproved_0 13 rfl rfl)
abbrev cX5_prove : ByteArray := prog_12_method_40_code
def yX5_prove : MethodName := ⟨RX5, "prove", "(II)I"⟩
def dkwX5_prove_0 : List UInt8 := [42, 182, 0, 89, 42, 42, 27, 28, 182, 0, 152, 182, 0, 96, 172]
abbrev dktX5_prove_0 : List UInt8 := dkwX5_prove_0 ++ []
theorem dksX5_prove_0 : cX5_prove.data.toList.drop 0 = dktX5_prove_0 := by decide +kernel
theorem dX5_prove_0 : decode cX5_prove 0 = .ok (.aload_n 0, 1) := dk_42 (dk_at dksX5_prove_0 0 rfl rfl)
theorem dX5_prove_1 : decode cX5_prove 1 = .ok (.invokevirtual 89, 3) := dk_182 0 89 (dk_at dksX5_prove_0 1 rfl rfl)
theorem dX5_prove_4 : decode cX5_prove 4 = .ok (.aload_n 0, 1) := dk_42 (dk_at dksX5_prove_0 4 rfl rfl)
theorem dX5_prove_5 : decode cX5_prove 5 = .ok (.aload_n 0, 1) := dk_42 (dk_at dksX5_prove_0 5 rfl rfl)
theorem dX5_prove_6 : decode cX5_prove 6 = .ok (.iload_n 1, 1) := dk_27 (dk_at dksX5_prove_0 6 rfl rfl)
theorem dX5_prove_7 : decode cX5_prove 7 = .ok (.iload_n 2, 1) := dk_28 (dk_at dksX5_prove_0 7 rfl rfl)
theorem dX5_prove_8 : decode cX5_prove 8 = .ok (.invokevirtual 152, 3) := dk_182 0 152 (dk_at dksX5_prove_0 8 rfl rfl)
theorem dX5_prove_11 : decode cX5_prove 11 = .ok (.invokevirtual 96, 3) := dk_182 0 96 (dk_at dksX5_prove_0 11 rfl rfl)
theorem dX5_prove_14 : decode cX5_prove 14 = .ok (.ireturn, 1) := dk_172 (dk_at dksX5_prove_0 14 rfl rfl)
abbrev cX5_proves : ByteArray := prog_12_method_39_code
def yX5_proves : MethodName := ⟨RX5, "proves", "(II)I"⟩
def dkwX5_proves_4 : List UInt8 := [28, 104, 96, 4, 96, 3, 182, 0, 124, 29, 172]
abbrev dktX5_proves_4 : List UInt8 := dkwX5_proves_4 ++ []
def dkwX5_proves_3 : List UInt8 := [42, 180, 0, 41, 154, 0, 29, 42, 27, 16, 13, 5, 28, 104, 96, 29, 182, 0, 127, 42, 27, 16, 13, 5]
abbrev dktX5_proves_3 : List UInt8 := dkwX5_proves_3 ++ dktX5_proves_4
def dkwX5_proves_2 : List UInt8 := [182, 0, 136, 167, 0, 4, 3, 62, 42, 29, 154, 0, 7, 4, 167, 0, 4, 3, 16, 8, 28, 182, 0, 77]
abbrev dktX5_proves_2 : List UInt8 := dkwX5_proves_2 ++ dktX5_proves_3
def dkwX5_proves_1 : List UInt8 := [154, 0, 7, 4, 167, 0, 4, 3, 5, 28, 182, 0, 77, 42, 180, 0, 41, 154, 0, 12, 42, 27, 28]
abbrev dktX5_proves_1 : List UInt8 := dkwX5_proves_1 ++ dktX5_proves_2
def dkwX5_proves_0 : List UInt8 := [42, 42, 27, 182, 0, 121, 154, 0, 7, 4, 167, 0, 4, 3, 5, 27, 182, 0, 77, 42, 28, 184, 0, 112]
abbrev dktX5_proves_0 : List UInt8 := dkwX5_proves_0 ++ dktX5_proves_1
theorem dksX5_proves_0 : cX5_proves.data.toList.drop 0 = dktX5_proves_0 := by decide +kernel
theorem dksX5_proves_1 : cX5_proves.data.toList.drop 24 = dktX5_proves_1 := dk_seg dksX5_proves_0 24 rfl rfl
theorem dksX5_proves_2 : cX5_proves.data.toList.drop 47 = dktX5_proves_2 := dk_seg dksX5_proves_1 23 rfl rfl
theorem dksX5_proves_3 : cX5_proves.data.toList.drop 71 = dktX5_proves_3 := dk_seg dksX5_proves_2 24 rfl rfl
theorem dksX5_proves_4 : cX5_proves.data.toList.drop 95 = dktX5_proves_4 := dk_seg dksX5_proves_3 24 rfl rfl
theorem dX5_proves_0 : decode cX5_proves 0 = .ok (.aload_n 0, 1) := dk_42 (dk_at dksX5_proves_0 0 rfl rfl)
theorem dX5_proves_1 : decode cX5_proves 1 = .ok (.aload_n 0, 1) := dk_42 (dk_at dksX5_proves_0 1 rfl rfl)
theorem dX5_proves_2 : decode cX5_proves 2 = .ok (.iload_n 1, 1) := dk_27 (dk_at dksX5_proves_0 2 rfl rfl)
theorem dX5_proves_3 : decode cX5_proves 3 = .ok (.invokevirtual 121, 3) := dk_182 0 121 (dk_at dksX5_proves_0 3 rfl rfl)
theorem dX5_proves_6 : decode cX5_proves 6 = .ok (.ifCond .ne 7, 3) := dk_154 0 7 (dk_at dksX5_proves_0 6 rfl rfl)
theorem dX5_proves_9 : decode cX5_proves 9 = .ok (.iconst 1, 1) := dk_4 (dk_at dksX5_proves_0 9 rfl rfl)
theorem dX5_proves_10 : decode cX5_proves 10 = .ok (.goto 4, 3) := dk_167 0 4 (dk_at dksX5_proves_0 10 rfl rfl)
theorem dX5_proves_13 : decode cX5_proves 13 = .ok (.iconst 0, 1) := dk_3 (dk_at dksX5_proves_0 13 rfl rfl)
theorem dX5_proves_14 : decode cX5_proves 14 = .ok (.iconst 2, 1) := dk_5 (dk_at dksX5_proves_0 14 rfl rfl)
theorem dX5_proves_15 : decode cX5_proves 15 = .ok (.iload_n 1, 1) := dk_27 (dk_at dksX5_proves_0 15 rfl rfl)
theorem dX5_proves_16 : decode cX5_proves 16 = .ok (.invokevirtual 77, 3) := dk_182 0 77 (dk_at dksX5_proves_0 16 rfl rfl)
theorem dX5_proves_19 : decode cX5_proves 19 = .ok (.aload_n 0, 1) := dk_42 (dk_at dksX5_proves_0 19 rfl rfl)
theorem dX5_proves_20 : decode cX5_proves 20 = .ok (.iload_n 2, 1) := dk_28 (dk_at dksX5_proves_0 20 rfl rfl)
theorem dX5_proves_21 : decode cX5_proves 21 = .ok (.invokestatic 112, 3) := dk_184 0 112 (dk_at dksX5_proves_0 21 rfl rfl)
theorem dX5_proves_24 : decode cX5_proves 24 = .ok (.ifCond .ne 7, 3) := dk_154 0 7 (dk_at dksX5_proves_1 0 rfl rfl)
theorem dX5_proves_27 : decode cX5_proves 27 = .ok (.iconst 1, 1) := dk_4 (dk_at dksX5_proves_1 3 rfl rfl)
theorem dX5_proves_28 : decode cX5_proves 28 = .ok (.goto 4, 3) := dk_167 0 4 (dk_at dksX5_proves_1 4 rfl rfl)
theorem dX5_proves_31 : decode cX5_proves 31 = .ok (.iconst 0, 1) := dk_3 (dk_at dksX5_proves_1 7 rfl rfl)
theorem dX5_proves_32 : decode cX5_proves 32 = .ok (.iconst 2, 1) := dk_5 (dk_at dksX5_proves_1 8 rfl rfl)
theorem dX5_proves_33 : decode cX5_proves 33 = .ok (.iload_n 2, 1) := dk_28 (dk_at dksX5_proves_1 9 rfl rfl)
theorem dX5_proves_34 : decode cX5_proves 34 = .ok (.invokevirtual 77, 3) := dk_182 0 77 (dk_at dksX5_proves_1 10 rfl rfl)
theorem dX5_proves_37 : decode cX5_proves 37 = .ok (.aload_n 0, 1) := dk_42 (dk_at dksX5_proves_1 13 rfl rfl)
theorem dX5_proves_38 : decode cX5_proves 38 = .ok (.getfield 41, 3) := dk_180 0 41 (dk_at dksX5_proves_1 14 rfl rfl)
theorem dX5_proves_41 : decode cX5_proves 41 = .ok (.ifCond .ne 12, 3) := dk_154 0 12 (dk_at dksX5_proves_1 17 rfl rfl)
theorem dX5_proves_44 : decode cX5_proves 44 = .ok (.aload_n 0, 1) := dk_42 (dk_at dksX5_proves_1 20 rfl rfl)
theorem dX5_proves_45 : decode cX5_proves 45 = .ok (.iload_n 1, 1) := dk_27 (dk_at dksX5_proves_1 21 rfl rfl)
theorem dX5_proves_46 : decode cX5_proves 46 = .ok (.iload_n 2, 1) := dk_28 (dk_at dksX5_proves_1 22 rfl rfl)
theorem dX5_proves_47 : decode cX5_proves 47 = .ok (.invokevirtual 136, 3) := dk_182 0 136 (dk_at dksX5_proves_2 0 rfl rfl)
theorem dX5_proves_50 : decode cX5_proves 50 = .ok (.goto 4, 3) := dk_167 0 4 (dk_at dksX5_proves_2 3 rfl rfl)
theorem dX5_proves_53 : decode cX5_proves 53 = .ok (.iconst 0, 1) := dk_3 (dk_at dksX5_proves_2 6 rfl rfl)
theorem dX5_proves_54 : decode cX5_proves 54 = .ok (.istore_n 3, 1) := dk_62 (dk_at dksX5_proves_2 7 rfl rfl)
theorem dX5_proves_55 : decode cX5_proves 55 = .ok (.aload_n 0, 1) := dk_42 (dk_at dksX5_proves_2 8 rfl rfl)
theorem dX5_proves_56 : decode cX5_proves 56 = .ok (.iload_n 3, 1) := dk_29 (dk_at dksX5_proves_2 9 rfl rfl)
theorem dX5_proves_57 : decode cX5_proves 57 = .ok (.ifCond .ne 7, 3) := dk_154 0 7 (dk_at dksX5_proves_2 10 rfl rfl)
theorem dX5_proves_60 : decode cX5_proves 60 = .ok (.iconst 1, 1) := dk_4 (dk_at dksX5_proves_2 13 rfl rfl)
theorem dX5_proves_61 : decode cX5_proves 61 = .ok (.goto 4, 3) := dk_167 0 4 (dk_at dksX5_proves_2 14 rfl rfl)
theorem dX5_proves_64 : decode cX5_proves 64 = .ok (.iconst 0, 1) := dk_3 (dk_at dksX5_proves_2 17 rfl rfl)
theorem dX5_proves_65 : decode cX5_proves 65 = .ok (.bipush 8, 2) := dk_16 8 (dk_at dksX5_proves_2 18 rfl rfl)
theorem dX5_proves_67 : decode cX5_proves 67 = .ok (.iload_n 2, 1) := dk_28 (dk_at dksX5_proves_2 20 rfl rfl)
theorem dX5_proves_68 : decode cX5_proves 68 = .ok (.invokevirtual 77, 3) := dk_182 0 77 (dk_at dksX5_proves_2 21 rfl rfl)
theorem dX5_proves_71 : decode cX5_proves 71 = .ok (.aload_n 0, 1) := dk_42 (dk_at dksX5_proves_3 0 rfl rfl)
theorem dX5_proves_72 : decode cX5_proves 72 = .ok (.getfield 41, 3) := dk_180 0 41 (dk_at dksX5_proves_3 1 rfl rfl)
theorem dX5_proves_75 : decode cX5_proves 75 = .ok (.ifCond .ne 29, 3) := dk_154 0 29 (dk_at dksX5_proves_3 4 rfl rfl)
theorem dX5_proves_78 : decode cX5_proves 78 = .ok (.aload_n 0, 1) := dk_42 (dk_at dksX5_proves_3 7 rfl rfl)
theorem dX5_proves_79 : decode cX5_proves 79 = .ok (.iload_n 1, 1) := dk_27 (dk_at dksX5_proves_3 8 rfl rfl)
theorem dX5_proves_80 : decode cX5_proves 80 = .ok (.bipush 13, 2) := dk_16 13 (dk_at dksX5_proves_3 9 rfl rfl)
theorem dX5_proves_82 : decode cX5_proves 82 = .ok (.iconst 2, 1) := dk_5 (dk_at dksX5_proves_3 11 rfl rfl)
theorem dX5_proves_83 : decode cX5_proves 83 = .ok (.iload_n 2, 1) := dk_28 (dk_at dksX5_proves_3 12 rfl rfl)
theorem dX5_proves_84 : decode cX5_proves 84 = .ok (.imul, 1) := dk_104 (dk_at dksX5_proves_3 13 rfl rfl)
theorem dX5_proves_85 : decode cX5_proves 85 = .ok (.iadd, 1) := dk_96 (dk_at dksX5_proves_3 14 rfl rfl)
theorem dX5_proves_86 : decode cX5_proves 86 = .ok (.iload_n 3, 1) := dk_29 (dk_at dksX5_proves_3 15 rfl rfl)
theorem dX5_proves_87 : decode cX5_proves 87 = .ok (.invokevirtual 127, 3) := dk_182 0 127 (dk_at dksX5_proves_3 16 rfl rfl)
theorem dX5_proves_90 : decode cX5_proves 90 = .ok (.aload_n 0, 1) := dk_42 (dk_at dksX5_proves_3 19 rfl rfl)
theorem dX5_proves_91 : decode cX5_proves 91 = .ok (.iload_n 1, 1) := dk_27 (dk_at dksX5_proves_3 20 rfl rfl)
theorem dX5_proves_92 : decode cX5_proves 92 = .ok (.bipush 13, 2) := dk_16 13 (dk_at dksX5_proves_3 21 rfl rfl)
theorem dX5_proves_94 : decode cX5_proves 94 = .ok (.iconst 2, 1) := dk_5 (dk_at dksX5_proves_3 23 rfl rfl)
theorem dX5_proves_95 : decode cX5_proves 95 = .ok (.iload_n 2, 1) := dk_28 (dk_at dksX5_proves_4 0 rfl rfl)
theorem dX5_proves_96 : decode cX5_proves 96 = .ok (.imul, 1) := dk_104 (dk_at dksX5_proves_4 1 rfl rfl)
theorem dX5_proves_97 : decode cX5_proves 97 = .ok (.iadd, 1) := dk_96 (dk_at dksX5_proves_4 2 rfl rfl)
theorem dX5_proves_98 : decode cX5_proves 98 = .ok (.iconst 1, 1) := dk_4 (dk_at dksX5_proves_4 3 rfl rfl)
theorem dX5_proves_99 : decode cX5_proves 99 = .ok (.iadd, 1) := dk_96 (dk_at dksX5_proves_4 4 rfl rfl)
theorem dX5_proves_100 : decode cX5_proves 100 = .ok (.iconst 0, 1) := dk_3 (dk_at dksX5_proves_4 5 rfl rfl)
theorem dX5_proves_101 : decode cX5_proves 101 = .ok (.invokevirtual 124, 3) := dk_182 0 124 (dk_at dksX5_proves_4 6 rfl rfl)
theorem dX5_proves_104 : decode cX5_proves 104 = .ok (.iload_n 3, 1) := dk_29 (dk_at dksX5_proves_4 9 rfl rfl)
theorem dX5_proves_105 : decode cX5_proves 105 = .ok (.ireturn, 1) := dk_172 (dk_at dksX5_proves_4 10 rfl rfl)
abbrev cX5_endYear : ByteArray := prog_12_method_52_code
def yX5_endYear : MethodName := ⟨RX5, "endYear", "()I"⟩
def dkwX5_endYear_0 : List UInt8 := [42, 182, 0, 89, 42, 42, 182, 0, 187, 182, 0, 96, 172]
abbrev dktX5_endYear_0 : List UInt8 := dkwX5_endYear_0 ++ []
theorem dksX5_endYear_0 : cX5_endYear.data.toList.drop 0 = dktX5_endYear_0 := by decide +kernel
theorem dX5_endYear_0 : decode cX5_endYear 0 = .ok (.aload_n 0, 1) := dk_42 (dk_at dksX5_endYear_0 0 rfl rfl)
theorem dX5_endYear_1 : decode cX5_endYear 1 = .ok (.invokevirtual 89, 3) := dk_182 0 89 (dk_at dksX5_endYear_0 1 rfl rfl)
theorem dX5_endYear_4 : decode cX5_endYear 4 = .ok (.aload_n 0, 1) := dk_42 (dk_at dksX5_endYear_0 4 rfl rfl)
theorem dX5_endYear_5 : decode cX5_endYear 5 = .ok (.aload_n 0, 1) := dk_42 (dk_at dksX5_endYear_0 5 rfl rfl)
theorem dX5_endYear_6 : decode cX5_endYear 6 = .ok (.invokevirtual 187, 3) := dk_182 0 187 (dk_at dksX5_endYear_0 6 rfl rfl)
theorem dX5_endYear_9 : decode cX5_endYear 9 = .ok (.invokevirtual 96, 3) := dk_182 0 96 (dk_at dksX5_endYear_0 9 rfl rfl)
theorem dX5_endYear_12 : decode cX5_endYear 12 = .ok (.ireturn, 1) := dk_172 (dk_at dksX5_endYear_0 12 rfl rfl)
abbrev cX5_endsYear : ByteArray := prog_12_method_51_code
def yX5_endsYear : MethodName := ⟨RX5, "endsYear", "()I"⟩
def dkwX5_endsYear_4 : List UInt8 := [180, 0, 9, 3, 92, 46, 4, 96, 79, 28, 172]
abbrev dktX5_endsYear_4 : List UInt8 := dkwX5_endsYear_4 ++ []
def dkwX5_endsYear_3 : List UInt8 := [3, 182, 0, 184, 96, 61, 132, 3, 1, 167, 255, 225, 42, 180, 0, 9, 16, 7, 92, 46, 28, 96, 79, 42]
abbrev dktX5_endsYear_3 : List UInt8 := dkwX5_endsYear_3 ++ dktX5_endsYear_4
def dkwX5_endsYear_2 : List UInt8 := [3, 62, 29, 42, 180, 0, 9, 8, 46, 162, 0, 27, 28, 42, 29, 29, 27, 160, 0, 7, 4, 167, 0, 4]
abbrev dktX5_endsYear_2 : List UInt8 := dkwX5_endsYear_2 ++ dktX5_endsYear_3
def dkwX5_endsYear_1 : List UInt8 := [154, 0, 7, 2, 167, 0, 17, 42, 180, 0, 9, 16, 6, 46, 42, 180, 0, 9, 8, 46, 112, 60, 3, 61]
abbrev dktX5_endsYear_1 : List UInt8 := dkwX5_endsYear_1 ++ dktX5_endsYear_2
def dkwX5_endsYear_0 : List UInt8 := [42, 180, 0, 9, 16, 6, 42, 180, 0, 9, 16, 6, 46, 184, 0, 181, 79, 42, 180, 0, 9, 8, 46]
abbrev dktX5_endsYear_0 : List UInt8 := dkwX5_endsYear_0 ++ dktX5_endsYear_1
theorem dksX5_endsYear_0 : cX5_endsYear.data.toList.drop 0 = dktX5_endsYear_0 := by decide +kernel
theorem dksX5_endsYear_1 : cX5_endsYear.data.toList.drop 23 = dktX5_endsYear_1 := dk_seg dksX5_endsYear_0 23 rfl rfl
theorem dksX5_endsYear_2 : cX5_endsYear.data.toList.drop 47 = dktX5_endsYear_2 := dk_seg dksX5_endsYear_1 24 rfl rfl
theorem dksX5_endsYear_3 : cX5_endsYear.data.toList.drop 71 = dktX5_endsYear_3 := dk_seg dksX5_endsYear_2 24 rfl rfl
theorem dksX5_endsYear_4 : cX5_endsYear.data.toList.drop 95 = dktX5_endsYear_4 := dk_seg dksX5_endsYear_3 24 rfl rfl
theorem dX5_endsYear_0 : decode cX5_endsYear 0 = .ok (.aload_n 0, 1) := dk_42 (dk_at dksX5_endsYear_0 0 rfl rfl)
theorem dX5_endsYear_1 : decode cX5_endsYear 1 = .ok (.getfield 9, 3) := dk_180 0 9 (dk_at dksX5_endsYear_0 1 rfl rfl)
theorem dX5_endsYear_4 : decode cX5_endsYear 4 = .ok (.bipush 6, 2) := dk_16 6 (dk_at dksX5_endsYear_0 4 rfl rfl)
theorem dX5_endsYear_6 : decode cX5_endsYear 6 = .ok (.aload_n 0, 1) := dk_42 (dk_at dksX5_endsYear_0 6 rfl rfl)
theorem dX5_endsYear_7 : decode cX5_endsYear 7 = .ok (.getfield 9, 3) := dk_180 0 9 (dk_at dksX5_endsYear_0 7 rfl rfl)
theorem dX5_endsYear_10 : decode cX5_endsYear 10 = .ok (.bipush 6, 2) := dk_16 6 (dk_at dksX5_endsYear_0 10 rfl rfl)
theorem dX5_endsYear_12 : decode cX5_endsYear 12 = .ok (.iaload, 1) := dk_46 (dk_at dksX5_endsYear_0 12 rfl rfl)
theorem dX5_endsYear_13 : decode cX5_endsYear 13 = .ok (.invokestatic 181, 3) := dk_184 0 181 (dk_at dksX5_endsYear_0 13 rfl rfl)
theorem dX5_endsYear_16 : decode cX5_endsYear 16 = .ok (.iastore, 1) := dk_79 (dk_at dksX5_endsYear_0 16 rfl rfl)
theorem dX5_endsYear_17 : decode cX5_endsYear 17 = .ok (.aload_n 0, 1) := dk_42 (dk_at dksX5_endsYear_0 17 rfl rfl)
theorem dX5_endsYear_18 : decode cX5_endsYear 18 = .ok (.getfield 9, 3) := dk_180 0 9 (dk_at dksX5_endsYear_0 18 rfl rfl)
theorem dX5_endsYear_21 : decode cX5_endsYear 21 = .ok (.iconst 5, 1) := dk_8 (dk_at dksX5_endsYear_0 21 rfl rfl)
theorem dX5_endsYear_22 : decode cX5_endsYear 22 = .ok (.iaload, 1) := dk_46 (dk_at dksX5_endsYear_0 22 rfl rfl)
theorem dX5_endsYear_23 : decode cX5_endsYear 23 = .ok (.ifCond .ne 7, 3) := dk_154 0 7 (dk_at dksX5_endsYear_1 0 rfl rfl)
theorem dX5_endsYear_26 : decode cX5_endsYear 26 = .ok (.iconst (-1), 1) := dk_2 (dk_at dksX5_endsYear_1 3 rfl rfl)
theorem dX5_endsYear_27 : decode cX5_endsYear 27 = .ok (.goto 17, 3) := dk_167 0 17 (dk_at dksX5_endsYear_1 4 rfl rfl)
theorem dX5_endsYear_30 : decode cX5_endsYear 30 = .ok (.aload_n 0, 1) := dk_42 (dk_at dksX5_endsYear_1 7 rfl rfl)
theorem dX5_endsYear_31 : decode cX5_endsYear 31 = .ok (.getfield 9, 3) := dk_180 0 9 (dk_at dksX5_endsYear_1 8 rfl rfl)
theorem dX5_endsYear_34 : decode cX5_endsYear 34 = .ok (.bipush 6, 2) := dk_16 6 (dk_at dksX5_endsYear_1 11 rfl rfl)
theorem dX5_endsYear_36 : decode cX5_endsYear 36 = .ok (.iaload, 1) := dk_46 (dk_at dksX5_endsYear_1 13 rfl rfl)
theorem dX5_endsYear_37 : decode cX5_endsYear 37 = .ok (.aload_n 0, 1) := dk_42 (dk_at dksX5_endsYear_1 14 rfl rfl)
theorem dX5_endsYear_38 : decode cX5_endsYear 38 = .ok (.getfield 9, 3) := dk_180 0 9 (dk_at dksX5_endsYear_1 15 rfl rfl)
theorem dX5_endsYear_41 : decode cX5_endsYear 41 = .ok (.iconst 5, 1) := dk_8 (dk_at dksX5_endsYear_1 18 rfl rfl)
theorem dX5_endsYear_42 : decode cX5_endsYear 42 = .ok (.iaload, 1) := dk_46 (dk_at dksX5_endsYear_1 19 rfl rfl)
theorem dX5_endsYear_43 : decode cX5_endsYear 43 = .ok (.irem, 1) := dk_112 (dk_at dksX5_endsYear_1 20 rfl rfl)
theorem dX5_endsYear_44 : decode cX5_endsYear 44 = .ok (.istore_n 1, 1) := dk_60 (dk_at dksX5_endsYear_1 21 rfl rfl)
theorem dX5_endsYear_45 : decode cX5_endsYear 45 = .ok (.iconst 0, 1) := dk_3 (dk_at dksX5_endsYear_1 22 rfl rfl)
theorem dX5_endsYear_46 : decode cX5_endsYear 46 = .ok (.istore_n 2, 1) := dk_61 (dk_at dksX5_endsYear_1 23 rfl rfl)
theorem dX5_endsYear_47 : decode cX5_endsYear 47 = .ok (.iconst 0, 1) := dk_3 (dk_at dksX5_endsYear_2 0 rfl rfl)
theorem dX5_endsYear_48 : decode cX5_endsYear 48 = .ok (.istore_n 3, 1) := dk_62 (dk_at dksX5_endsYear_2 1 rfl rfl)
theorem dX5_endsYear_49 : decode cX5_endsYear 49 = .ok (.iload_n 3, 1) := dk_29 (dk_at dksX5_endsYear_2 2 rfl rfl)
theorem dX5_endsYear_50 : decode cX5_endsYear 50 = .ok (.aload_n 0, 1) := dk_42 (dk_at dksX5_endsYear_2 3 rfl rfl)
theorem dX5_endsYear_51 : decode cX5_endsYear 51 = .ok (.getfield 9, 3) := dk_180 0 9 (dk_at dksX5_endsYear_2 4 rfl rfl)
theorem dX5_endsYear_54 : decode cX5_endsYear 54 = .ok (.iconst 5, 1) := dk_8 (dk_at dksX5_endsYear_2 7 rfl rfl)
theorem dX5_endsYear_55 : decode cX5_endsYear 55 = .ok (.iaload, 1) := dk_46 (dk_at dksX5_endsYear_2 8 rfl rfl)
theorem dX5_endsYear_56 : decode cX5_endsYear 56 = .ok (.if_icmp .ge 27, 3) := dk_162 0 27 (dk_at dksX5_endsYear_2 9 rfl rfl)
theorem dX5_endsYear_59 : decode cX5_endsYear 59 = .ok (.iload_n 2, 1) := dk_28 (dk_at dksX5_endsYear_2 12 rfl rfl)
theorem dX5_endsYear_60 : decode cX5_endsYear 60 = .ok (.aload_n 0, 1) := dk_42 (dk_at dksX5_endsYear_2 13 rfl rfl)
theorem dX5_endsYear_61 : decode cX5_endsYear 61 = .ok (.iload_n 3, 1) := dk_29 (dk_at dksX5_endsYear_2 14 rfl rfl)
theorem dX5_endsYear_62 : decode cX5_endsYear 62 = .ok (.iload_n 3, 1) := dk_29 (dk_at dksX5_endsYear_2 15 rfl rfl)
theorem dX5_endsYear_63 : decode cX5_endsYear 63 = .ok (.iload_n 1, 1) := dk_27 (dk_at dksX5_endsYear_2 16 rfl rfl)
theorem dX5_endsYear_64 : decode cX5_endsYear 64 = .ok (.if_icmp .ne 7, 3) := dk_160 0 7 (dk_at dksX5_endsYear_2 17 rfl rfl)
theorem dX5_endsYear_67 : decode cX5_endsYear 67 = .ok (.iconst 1, 1) := dk_4 (dk_at dksX5_endsYear_2 20 rfl rfl)
theorem dX5_endsYear_68 : decode cX5_endsYear 68 = .ok (.goto 4, 3) := dk_167 0 4 (dk_at dksX5_endsYear_2 21 rfl rfl)
theorem dX5_endsYear_71 : decode cX5_endsYear 71 = .ok (.iconst 0, 1) := dk_3 (dk_at dksX5_endsYear_3 0 rfl rfl)
theorem dX5_endsYear_72 : decode cX5_endsYear 72 = .ok (.invokevirtual 184, 3) := dk_182 0 184 (dk_at dksX5_endsYear_3 1 rfl rfl)
theorem dX5_endsYear_75 : decode cX5_endsYear 75 = .ok (.iadd, 1) := dk_96 (dk_at dksX5_endsYear_3 4 rfl rfl)
theorem dX5_endsYear_76 : decode cX5_endsYear 76 = .ok (.istore_n 2, 1) := dk_61 (dk_at dksX5_endsYear_3 5 rfl rfl)
theorem dX5_endsYear_77 : decode cX5_endsYear 77 = .ok (.iinc 3 1, 3) := dk_132 3 1 (dk_at dksX5_endsYear_3 6 rfl rfl)
theorem dX5_endsYear_80 : decode cX5_endsYear 80 = .ok (.goto (-31), 3) := dk_167 255 225 (dk_at dksX5_endsYear_3 9 rfl rfl)
theorem dX5_endsYear_83 : decode cX5_endsYear 83 = .ok (.aload_n 0, 1) := dk_42 (dk_at dksX5_endsYear_3 12 rfl rfl)
theorem dX5_endsYear_84 : decode cX5_endsYear 84 = .ok (.getfield 9, 3) := dk_180 0 9 (dk_at dksX5_endsYear_3 13 rfl rfl)
theorem dX5_endsYear_87 : decode cX5_endsYear 87 = .ok (.bipush 7, 2) := dk_16 7 (dk_at dksX5_endsYear_3 16 rfl rfl)
theorem dX5_endsYear_89 : decode cX5_endsYear 89 = .ok (.dup2, 1) := dk_92 (dk_at dksX5_endsYear_3 18 rfl rfl)
theorem dX5_endsYear_90 : decode cX5_endsYear 90 = .ok (.iaload, 1) := dk_46 (dk_at dksX5_endsYear_3 19 rfl rfl)
theorem dX5_endsYear_91 : decode cX5_endsYear 91 = .ok (.iload_n 2, 1) := dk_28 (dk_at dksX5_endsYear_3 20 rfl rfl)
theorem dX5_endsYear_92 : decode cX5_endsYear 92 = .ok (.iadd, 1) := dk_96 (dk_at dksX5_endsYear_3 21 rfl rfl)
theorem dX5_endsYear_93 : decode cX5_endsYear 93 = .ok (.iastore, 1) := dk_79 (dk_at dksX5_endsYear_3 22 rfl rfl)
theorem dX5_endsYear_94 : decode cX5_endsYear 94 = .ok (.aload_n 0, 1) := dk_42 (dk_at dksX5_endsYear_3 23 rfl rfl)
theorem dX5_endsYear_95 : decode cX5_endsYear 95 = .ok (.getfield 9, 3) := dk_180 0 9 (dk_at dksX5_endsYear_4 0 rfl rfl)
theorem dX5_endsYear_98 : decode cX5_endsYear 98 = .ok (.iconst 0, 1) := dk_3 (dk_at dksX5_endsYear_4 3 rfl rfl)
theorem dX5_endsYear_99 : decode cX5_endsYear 99 = .ok (.dup2, 1) := dk_92 (dk_at dksX5_endsYear_4 4 rfl rfl)
theorem dX5_endsYear_100 : decode cX5_endsYear 100 = .ok (.iaload, 1) := dk_46 (dk_at dksX5_endsYear_4 5 rfl rfl)
theorem dX5_endsYear_101 : decode cX5_endsYear 101 = .ok (.iconst 1, 1) := dk_4 (dk_at dksX5_endsYear_4 6 rfl rfl)
theorem dX5_endsYear_102 : decode cX5_endsYear 102 = .ok (.iadd, 1) := dk_96 (dk_at dksX5_endsYear_4 7 rfl rfl)
theorem dX5_endsYear_103 : decode cX5_endsYear 103 = .ok (.iastore, 1) := dk_79 (dk_at dksX5_endsYear_4 8 rfl rfl)
theorem dX5_endsYear_104 : decode cX5_endsYear 104 = .ok (.iload_n 2, 1) := dk_28 (dk_at dksX5_endsYear_4 9 rfl rfl)
theorem dX5_endsYear_105 : decode cX5_endsYear 105 = .ok (.ireturn, 1) := dk_172 (dk_at dksX5_endsYear_4 10 rfl rfl)
abbrev cX5_nextLot : ByteArray := prog_12_method_50_code
def yX5_nextLot : MethodName := ⟨RX5, "nextLot", "(I)I"⟩
def dkwX5_nextLot_0 : List UInt8 := [16, 41, 26, 104, 16, 17, 96, 17, 39, 16, 112, 172]
abbrev dktX5_nextLot_0 : List UInt8 := dkwX5_nextLot_0 ++ []
theorem dksX5_nextLot_0 : cX5_nextLot.data.toList.drop 0 = dktX5_nextLot_0 := by decide +kernel
theorem dX5_nextLot_0 : decode cX5_nextLot 0 = .ok (.bipush 41, 2) := dk_16 41 (dk_at dksX5_nextLot_0 0 rfl rfl)
theorem dX5_nextLot_2 : decode cX5_nextLot 2 = .ok (.iload_n 0, 1) := dk_26 (dk_at dksX5_nextLot_0 2 rfl rfl)
theorem dX5_nextLot_3 : decode cX5_nextLot 3 = .ok (.imul, 1) := dk_104 (dk_at dksX5_nextLot_0 3 rfl rfl)
theorem dX5_nextLot_4 : decode cX5_nextLot 4 = .ok (.bipush 17, 2) := dk_16 17 (dk_at dksX5_nextLot_0 4 rfl rfl)
theorem dX5_nextLot_6 : decode cX5_nextLot 6 = .ok (.iadd, 1) := dk_96 (dk_at dksX5_nextLot_0 6 rfl rfl)
theorem dX5_nextLot_7 : decode cX5_nextLot 7 = .ok (.sipush 10000, 3) := dk_17 39 16 (dk_at dksX5_nextLot_0 7 rfl rfl)
theorem dX5_nextLot_10 : decode cX5_nextLot 10 = .ok (.irem, 1) := dk_112 (dk_at dksX5_nextLot_0 10 rfl rfl)
theorem dX5_nextLot_11 : decode cX5_nextLot 11 = .ok (.ireturn, 1) := dk_172 (dk_at dksX5_nextLot_0 11 rfl rfl)
abbrev cX5_pays : ByteArray := prog_12_method_49_code
def yX5_pays : MethodName := ⟨RX5, "pays", "(IZ)I"⟩
def dkwX5_pays_8 : List UInt8 := [172]
abbrev dktX5_pays_8 : List UInt8 := dkwX5_pays_8 ++ []
def dkwX5_pays_7 : List UInt8 := [16, 6, 162, 0, 20, 42, 27, 16, 13, 21, 8, 96, 3, 182, 0, 124, 132, 8, 1, 167, 255, 235, 21, 7]
abbrev dktX5_pays_7 : List UInt8 := dkwX5_pays_7 ++ dktX5_pays_8
def dkwX5_pays_6 : List UInt8 := [153, 0, 7, 4, 167, 0, 4, 3, 182, 0, 127, 42, 27, 3, 3, 182, 0, 124, 3, 54, 8, 21, 8]
abbrev dktX5_pays_6 : List UInt8 := dkwX5_pays_6 ++ dktX5_pays_7
def dkwX5_pays_5 : List UInt8 := [100, 182, 0, 124, 42, 27, 6, 21, 5, 182, 0, 127, 42, 27, 7, 21, 4, 182, 0, 127, 42, 27, 8, 28]
abbrev dktX5_pays_5 : List UInt8 := dkwX5_pays_5 ++ dktX5_pays_6
def dkwX5_pays_4 : List UInt8 := [182, 0, 118, 184, 0, 139, 54, 7, 42, 27, 4, 21, 7, 116, 182, 0, 127, 42, 27, 5, 21, 6, 21, 7]
abbrev dktX5_pays_4 : List UInt8 := dkwX5_pays_4 ++ dktX5_pays_5
def dkwX5_pays_3 : List UInt8 := [182, 0, 177, 42, 27, 5, 182, 0, 118, 21, 5, 96, 21, 4, 96, 54, 6, 21, 6, 42, 27, 4]
abbrev dktX5_pays_3 : List UInt8 := dkwX5_pays_3 ++ dktX5_pays_4
def dkwX5_pays_2 : List UInt8 := [182, 0, 174, 167, 0, 4, 3, 54, 5, 42, 27, 29, 158, 0, 7, 3, 167, 0, 8, 29, 116, 16, 100, 108]
abbrev dktX5_pays_2 : List UInt8 := dkwX5_pays_2 ++ dktX5_pays_3
def dkwX5_pays_1 : List UInt8 := [182, 0, 171, 16, 10, 108, 167, 0, 4, 3, 54, 4, 29, 158, 0, 15, 42, 27, 29, 16, 100, 108]
abbrev dktX5_pays_1 : List UInt8 := dkwX5_pays_1 ++ dktX5_pays_2
def dkwX5_pays_0 : List UInt8 := [42, 42, 27, 3, 182, 0, 118, 42, 27, 28, 182, 0, 161, 182, 0, 165, 62, 28, 153, 0, 14, 42, 27]
abbrev dktX5_pays_0 : List UInt8 := dkwX5_pays_0 ++ dktX5_pays_1
theorem dksX5_pays_0 : cX5_pays.data.toList.drop 0 = dktX5_pays_0 := by decide +kernel
theorem dksX5_pays_1 : cX5_pays.data.toList.drop 23 = dktX5_pays_1 := dk_seg dksX5_pays_0 23 rfl rfl
theorem dksX5_pays_2 : cX5_pays.data.toList.drop 45 = dktX5_pays_2 := dk_seg dksX5_pays_1 22 rfl rfl
theorem dksX5_pays_3 : cX5_pays.data.toList.drop 69 = dktX5_pays_3 := dk_seg dksX5_pays_2 24 rfl rfl
theorem dksX5_pays_4 : cX5_pays.data.toList.drop 91 = dktX5_pays_4 := dk_seg dksX5_pays_3 22 rfl rfl
theorem dksX5_pays_5 : cX5_pays.data.toList.drop 115 = dktX5_pays_5 := dk_seg dksX5_pays_4 24 rfl rfl
theorem dksX5_pays_6 : cX5_pays.data.toList.drop 139 = dktX5_pays_6 := dk_seg dksX5_pays_5 24 rfl rfl
theorem dksX5_pays_7 : cX5_pays.data.toList.drop 162 = dktX5_pays_7 := dk_seg dksX5_pays_6 23 rfl rfl
theorem dksX5_pays_8 : cX5_pays.data.toList.drop 186 = dktX5_pays_8 := dk_seg dksX5_pays_7 24 rfl rfl
theorem dX5_pays_0 : decode cX5_pays 0 = .ok (.aload_n 0, 1) := dk_42 (dk_at dksX5_pays_0 0 rfl rfl)
theorem dX5_pays_1 : decode cX5_pays 1 = .ok (.aload_n 0, 1) := dk_42 (dk_at dksX5_pays_0 1 rfl rfl)
theorem dX5_pays_2 : decode cX5_pays 2 = .ok (.iload_n 1, 1) := dk_27 (dk_at dksX5_pays_0 2 rfl rfl)
theorem dX5_pays_3 : decode cX5_pays 3 = .ok (.iconst 0, 1) := dk_3 (dk_at dksX5_pays_0 3 rfl rfl)
theorem dX5_pays_4 : decode cX5_pays 4 = .ok (.invokevirtual 118, 3) := dk_182 0 118 (dk_at dksX5_pays_0 4 rfl rfl)
theorem dX5_pays_7 : decode cX5_pays 7 = .ok (.aload_n 0, 1) := dk_42 (dk_at dksX5_pays_0 7 rfl rfl)
theorem dX5_pays_8 : decode cX5_pays 8 = .ok (.iload_n 1, 1) := dk_27 (dk_at dksX5_pays_0 8 rfl rfl)
theorem dX5_pays_9 : decode cX5_pays 9 = .ok (.iload_n 2, 1) := dk_28 (dk_at dksX5_pays_0 9 rfl rfl)
theorem dX5_pays_10 : decode cX5_pays 10 = .ok (.invokevirtual 161, 3) := dk_182 0 161 (dk_at dksX5_pays_0 10 rfl rfl)
theorem dX5_pays_13 : decode cX5_pays 13 = .ok (.invokevirtual 165, 3) := dk_182 0 165 (dk_at dksX5_pays_0 13 rfl rfl)
theorem dX5_pays_16 : decode cX5_pays 16 = .ok (.istore_n 3, 1) := dk_62 (dk_at dksX5_pays_0 16 rfl rfl)
theorem dX5_pays_17 : decode cX5_pays 17 = .ok (.iload_n 2, 1) := dk_28 (dk_at dksX5_pays_0 17 rfl rfl)
theorem dX5_pays_18 : decode cX5_pays 18 = .ok (.ifCond .eq 14, 3) := dk_153 0 14 (dk_at dksX5_pays_0 18 rfl rfl)
theorem dX5_pays_21 : decode cX5_pays 21 = .ok (.aload_n 0, 1) := dk_42 (dk_at dksX5_pays_0 21 rfl rfl)
theorem dX5_pays_22 : decode cX5_pays 22 = .ok (.iload_n 1, 1) := dk_27 (dk_at dksX5_pays_0 22 rfl rfl)
theorem dX5_pays_23 : decode cX5_pays 23 = .ok (.invokevirtual 171, 3) := dk_182 0 171 (dk_at dksX5_pays_1 0 rfl rfl)
theorem dX5_pays_26 : decode cX5_pays 26 = .ok (.bipush 10, 2) := dk_16 10 (dk_at dksX5_pays_1 3 rfl rfl)
theorem dX5_pays_28 : decode cX5_pays 28 = .ok (.idiv, 1) := dk_108 (dk_at dksX5_pays_1 5 rfl rfl)
theorem dX5_pays_29 : decode cX5_pays 29 = .ok (.goto 4, 3) := dk_167 0 4 (dk_at dksX5_pays_1 6 rfl rfl)
theorem dX5_pays_32 : decode cX5_pays 32 = .ok (.iconst 0, 1) := dk_3 (dk_at dksX5_pays_1 9 rfl rfl)
theorem dX5_pays_33 : decode cX5_pays 33 = .ok (.istore 4, 2) := dk_54 4 (dk_at dksX5_pays_1 10 rfl rfl)
theorem dX5_pays_35 : decode cX5_pays 35 = .ok (.iload_n 3, 1) := dk_29 (dk_at dksX5_pays_1 12 rfl rfl)
theorem dX5_pays_36 : decode cX5_pays 36 = .ok (.ifCond .le 15, 3) := dk_158 0 15 (dk_at dksX5_pays_1 13 rfl rfl)
theorem dX5_pays_39 : decode cX5_pays 39 = .ok (.aload_n 0, 1) := dk_42 (dk_at dksX5_pays_1 16 rfl rfl)
theorem dX5_pays_40 : decode cX5_pays 40 = .ok (.iload_n 1, 1) := dk_27 (dk_at dksX5_pays_1 17 rfl rfl)
theorem dX5_pays_41 : decode cX5_pays 41 = .ok (.iload_n 3, 1) := dk_29 (dk_at dksX5_pays_1 18 rfl rfl)
theorem dX5_pays_42 : decode cX5_pays 42 = .ok (.bipush 100, 2) := dk_16 100 (dk_at dksX5_pays_1 19 rfl rfl)
theorem dX5_pays_44 : decode cX5_pays 44 = .ok (.idiv, 1) := dk_108 (dk_at dksX5_pays_1 21 rfl rfl)
theorem dX5_pays_45 : decode cX5_pays 45 = .ok (.invokevirtual 174, 3) := dk_182 0 174 (dk_at dksX5_pays_2 0 rfl rfl)
theorem dX5_pays_48 : decode cX5_pays 48 = .ok (.goto 4, 3) := dk_167 0 4 (dk_at dksX5_pays_2 3 rfl rfl)
theorem dX5_pays_51 : decode cX5_pays 51 = .ok (.iconst 0, 1) := dk_3 (dk_at dksX5_pays_2 6 rfl rfl)
theorem dX5_pays_52 : decode cX5_pays 52 = .ok (.istore 5, 2) := dk_54 5 (dk_at dksX5_pays_2 7 rfl rfl)
theorem dX5_pays_54 : decode cX5_pays 54 = .ok (.aload_n 0, 1) := dk_42 (dk_at dksX5_pays_2 9 rfl rfl)
theorem dX5_pays_55 : decode cX5_pays 55 = .ok (.iload_n 1, 1) := dk_27 (dk_at dksX5_pays_2 10 rfl rfl)
theorem dX5_pays_56 : decode cX5_pays 56 = .ok (.iload_n 3, 1) := dk_29 (dk_at dksX5_pays_2 11 rfl rfl)
theorem dX5_pays_57 : decode cX5_pays 57 = .ok (.ifCond .le 7, 3) := dk_158 0 7 (dk_at dksX5_pays_2 12 rfl rfl)
theorem dX5_pays_60 : decode cX5_pays 60 = .ok (.iconst 0, 1) := dk_3 (dk_at dksX5_pays_2 15 rfl rfl)
theorem dX5_pays_61 : decode cX5_pays 61 = .ok (.goto 8, 3) := dk_167 0 8 (dk_at dksX5_pays_2 16 rfl rfl)
theorem dX5_pays_64 : decode cX5_pays 64 = .ok (.iload_n 3, 1) := dk_29 (dk_at dksX5_pays_2 19 rfl rfl)
theorem dX5_pays_65 : decode cX5_pays 65 = .ok (.ineg, 1) := dk_116 (dk_at dksX5_pays_2 20 rfl rfl)
theorem dX5_pays_66 : decode cX5_pays 66 = .ok (.bipush 100, 2) := dk_16 100 (dk_at dksX5_pays_2 21 rfl rfl)
theorem dX5_pays_68 : decode cX5_pays 68 = .ok (.idiv, 1) := dk_108 (dk_at dksX5_pays_2 23 rfl rfl)
theorem dX5_pays_69 : decode cX5_pays 69 = .ok (.invokevirtual 177, 3) := dk_182 0 177 (dk_at dksX5_pays_3 0 rfl rfl)
theorem dX5_pays_72 : decode cX5_pays 72 = .ok (.aload_n 0, 1) := dk_42 (dk_at dksX5_pays_3 3 rfl rfl)
theorem dX5_pays_73 : decode cX5_pays 73 = .ok (.iload_n 1, 1) := dk_27 (dk_at dksX5_pays_3 4 rfl rfl)
theorem dX5_pays_74 : decode cX5_pays 74 = .ok (.iconst 2, 1) := dk_5 (dk_at dksX5_pays_3 5 rfl rfl)
theorem dX5_pays_75 : decode cX5_pays 75 = .ok (.invokevirtual 118, 3) := dk_182 0 118 (dk_at dksX5_pays_3 6 rfl rfl)
theorem dX5_pays_78 : decode cX5_pays 78 = .ok (.iload 5, 2) := dk_21 5 (dk_at dksX5_pays_3 9 rfl rfl)
theorem dX5_pays_80 : decode cX5_pays 80 = .ok (.iadd, 1) := dk_96 (dk_at dksX5_pays_3 11 rfl rfl)
theorem dX5_pays_81 : decode cX5_pays 81 = .ok (.iload 4, 2) := dk_21 4 (dk_at dksX5_pays_3 12 rfl rfl)
theorem dX5_pays_83 : decode cX5_pays 83 = .ok (.iadd, 1) := dk_96 (dk_at dksX5_pays_3 14 rfl rfl)
theorem dX5_pays_84 : decode cX5_pays 84 = .ok (.istore 6, 2) := dk_54 6 (dk_at dksX5_pays_3 15 rfl rfl)
theorem dX5_pays_86 : decode cX5_pays 86 = .ok (.iload 6, 2) := dk_21 6 (dk_at dksX5_pays_3 17 rfl rfl)
theorem dX5_pays_88 : decode cX5_pays 88 = .ok (.aload_n 0, 1) := dk_42 (dk_at dksX5_pays_3 19 rfl rfl)
theorem dX5_pays_89 : decode cX5_pays 89 = .ok (.iload_n 1, 1) := dk_27 (dk_at dksX5_pays_3 20 rfl rfl)
theorem dX5_pays_90 : decode cX5_pays 90 = .ok (.iconst 1, 1) := dk_4 (dk_at dksX5_pays_3 21 rfl rfl)
theorem dX5_pays_91 : decode cX5_pays 91 = .ok (.invokevirtual 118, 3) := dk_182 0 118 (dk_at dksX5_pays_4 0 rfl rfl)
theorem dX5_pays_94 : decode cX5_pays 94 = .ok (.invokestatic 139, 3) := dk_184 0 139 (dk_at dksX5_pays_4 3 rfl rfl)
theorem dX5_pays_97 : decode cX5_pays 97 = .ok (.istore 7, 2) := dk_54 7 (dk_at dksX5_pays_4 6 rfl rfl)
theorem dX5_pays_99 : decode cX5_pays 99 = .ok (.aload_n 0, 1) := dk_42 (dk_at dksX5_pays_4 8 rfl rfl)
theorem dX5_pays_100 : decode cX5_pays 100 = .ok (.iload_n 1, 1) := dk_27 (dk_at dksX5_pays_4 9 rfl rfl)
theorem dX5_pays_101 : decode cX5_pays 101 = .ok (.iconst 1, 1) := dk_4 (dk_at dksX5_pays_4 10 rfl rfl)
theorem dX5_pays_102 : decode cX5_pays 102 = .ok (.iload 7, 2) := dk_21 7 (dk_at dksX5_pays_4 11 rfl rfl)
theorem dX5_pays_104 : decode cX5_pays 104 = .ok (.ineg, 1) := dk_116 (dk_at dksX5_pays_4 13 rfl rfl)
theorem dX5_pays_105 : decode cX5_pays 105 = .ok (.invokevirtual 127, 3) := dk_182 0 127 (dk_at dksX5_pays_4 14 rfl rfl)
theorem dX5_pays_108 : decode cX5_pays 108 = .ok (.aload_n 0, 1) := dk_42 (dk_at dksX5_pays_4 17 rfl rfl)
theorem dX5_pays_109 : decode cX5_pays 109 = .ok (.iload_n 1, 1) := dk_27 (dk_at dksX5_pays_4 18 rfl rfl)
theorem dX5_pays_110 : decode cX5_pays 110 = .ok (.iconst 2, 1) := dk_5 (dk_at dksX5_pays_4 19 rfl rfl)
theorem dX5_pays_111 : decode cX5_pays 111 = .ok (.iload 6, 2) := dk_21 6 (dk_at dksX5_pays_4 20 rfl rfl)
theorem dX5_pays_113 : decode cX5_pays 113 = .ok (.iload 7, 2) := dk_21 7 (dk_at dksX5_pays_4 22 rfl rfl)
theorem dX5_pays_115 : decode cX5_pays 115 = .ok (.isub, 1) := dk_100 (dk_at dksX5_pays_5 0 rfl rfl)
theorem dX5_pays_116 : decode cX5_pays 116 = .ok (.invokevirtual 124, 3) := dk_182 0 124 (dk_at dksX5_pays_5 1 rfl rfl)
theorem dX5_pays_119 : decode cX5_pays 119 = .ok (.aload_n 0, 1) := dk_42 (dk_at dksX5_pays_5 4 rfl rfl)
theorem dX5_pays_120 : decode cX5_pays 120 = .ok (.iload_n 1, 1) := dk_27 (dk_at dksX5_pays_5 5 rfl rfl)
theorem dX5_pays_121 : decode cX5_pays 121 = .ok (.iconst 3, 1) := dk_6 (dk_at dksX5_pays_5 6 rfl rfl)
theorem dX5_pays_122 : decode cX5_pays 122 = .ok (.iload 5, 2) := dk_21 5 (dk_at dksX5_pays_5 7 rfl rfl)
theorem dX5_pays_124 : decode cX5_pays 124 = .ok (.invokevirtual 127, 3) := dk_182 0 127 (dk_at dksX5_pays_5 9 rfl rfl)
theorem dX5_pays_127 : decode cX5_pays 127 = .ok (.aload_n 0, 1) := dk_42 (dk_at dksX5_pays_5 12 rfl rfl)
theorem dX5_pays_128 : decode cX5_pays 128 = .ok (.iload_n 1, 1) := dk_27 (dk_at dksX5_pays_5 13 rfl rfl)
theorem dX5_pays_129 : decode cX5_pays 129 = .ok (.iconst 4, 1) := dk_7 (dk_at dksX5_pays_5 14 rfl rfl)
theorem dX5_pays_130 : decode cX5_pays 130 = .ok (.iload 4, 2) := dk_21 4 (dk_at dksX5_pays_5 15 rfl rfl)
theorem dX5_pays_132 : decode cX5_pays 132 = .ok (.invokevirtual 127, 3) := dk_182 0 127 (dk_at dksX5_pays_5 17 rfl rfl)
theorem dX5_pays_135 : decode cX5_pays 135 = .ok (.aload_n 0, 1) := dk_42 (dk_at dksX5_pays_5 20 rfl rfl)
theorem dX5_pays_136 : decode cX5_pays 136 = .ok (.iload_n 1, 1) := dk_27 (dk_at dksX5_pays_5 21 rfl rfl)
theorem dX5_pays_137 : decode cX5_pays 137 = .ok (.iconst 5, 1) := dk_8 (dk_at dksX5_pays_5 22 rfl rfl)
theorem dX5_pays_138 : decode cX5_pays 138 = .ok (.iload_n 2, 1) := dk_28 (dk_at dksX5_pays_5 23 rfl rfl)
theorem dX5_pays_139 : decode cX5_pays 139 = .ok (.ifCond .eq 7, 3) := dk_153 0 7 (dk_at dksX5_pays_6 0 rfl rfl)
theorem dX5_pays_142 : decode cX5_pays 142 = .ok (.iconst 1, 1) := dk_4 (dk_at dksX5_pays_6 3 rfl rfl)
theorem dX5_pays_143 : decode cX5_pays 143 = .ok (.goto 4, 3) := dk_167 0 4 (dk_at dksX5_pays_6 4 rfl rfl)
theorem dX5_pays_146 : decode cX5_pays 146 = .ok (.iconst 0, 1) := dk_3 (dk_at dksX5_pays_6 7 rfl rfl)
theorem dX5_pays_147 : decode cX5_pays 147 = .ok (.invokevirtual 127, 3) := dk_182 0 127 (dk_at dksX5_pays_6 8 rfl rfl)
theorem dX5_pays_150 : decode cX5_pays 150 = .ok (.aload_n 0, 1) := dk_42 (dk_at dksX5_pays_6 11 rfl rfl)
theorem dX5_pays_151 : decode cX5_pays 151 = .ok (.iload_n 1, 1) := dk_27 (dk_at dksX5_pays_6 12 rfl rfl)
theorem dX5_pays_152 : decode cX5_pays 152 = .ok (.iconst 0, 1) := dk_3 (dk_at dksX5_pays_6 13 rfl rfl)
theorem dX5_pays_153 : decode cX5_pays 153 = .ok (.iconst 0, 1) := dk_3 (dk_at dksX5_pays_6 14 rfl rfl)
theorem dX5_pays_154 : decode cX5_pays 154 = .ok (.invokevirtual 124, 3) := dk_182 0 124 (dk_at dksX5_pays_6 15 rfl rfl)
theorem dX5_pays_157 : decode cX5_pays 157 = .ok (.iconst 0, 1) := dk_3 (dk_at dksX5_pays_6 18 rfl rfl)
theorem dX5_pays_158 : decode cX5_pays 158 = .ok (.istore 8, 2) := dk_54 8 (dk_at dksX5_pays_6 19 rfl rfl)
theorem dX5_pays_160 : decode cX5_pays 160 = .ok (.iload 8, 2) := dk_21 8 (dk_at dksX5_pays_6 21 rfl rfl)
theorem dX5_pays_162 : decode cX5_pays 162 = .ok (.bipush 6, 2) := dk_16 6 (dk_at dksX5_pays_7 0 rfl rfl)
theorem dX5_pays_164 : decode cX5_pays 164 = .ok (.if_icmp .ge 20, 3) := dk_162 0 20 (dk_at dksX5_pays_7 2 rfl rfl)
theorem dX5_pays_167 : decode cX5_pays 167 = .ok (.aload_n 0, 1) := dk_42 (dk_at dksX5_pays_7 5 rfl rfl)
theorem dX5_pays_168 : decode cX5_pays 168 = .ok (.iload_n 1, 1) := dk_27 (dk_at dksX5_pays_7 6 rfl rfl)
theorem dX5_pays_169 : decode cX5_pays 169 = .ok (.bipush 13, 2) := dk_16 13 (dk_at dksX5_pays_7 7 rfl rfl)
theorem dX5_pays_171 : decode cX5_pays 171 = .ok (.iload 8, 2) := dk_21 8 (dk_at dksX5_pays_7 9 rfl rfl)
theorem dX5_pays_173 : decode cX5_pays 173 = .ok (.iadd, 1) := dk_96 (dk_at dksX5_pays_7 11 rfl rfl)
theorem dX5_pays_174 : decode cX5_pays 174 = .ok (.iconst 0, 1) := dk_3 (dk_at dksX5_pays_7 12 rfl rfl)
theorem dX5_pays_175 : decode cX5_pays 175 = .ok (.invokevirtual 124, 3) := dk_182 0 124 (dk_at dksX5_pays_7 13 rfl rfl)
theorem dX5_pays_178 : decode cX5_pays 178 = .ok (.iinc 8 1, 3) := dk_132 8 1 (dk_at dksX5_pays_7 16 rfl rfl)
theorem dX5_pays_181 : decode cX5_pays 181 = .ok (.goto (-21), 3) := dk_167 255 235 (dk_at dksX5_pays_7 19 rfl rfl)
theorem dX5_pays_184 : decode cX5_pays 184 = .ok (.iload 7, 2) := dk_21 7 (dk_at dksX5_pays_7 22 rfl rfl)
theorem dX5_pays_186 : decode cX5_pays 186 = .ok (.ireturn, 1) := dk_172 (dk_at dksX5_pays_8 0 rfl rfl)
abbrev cX5_counts : ByteArray := prog_12_method_41_code
def yX5_counts : MethodName := ⟨RX5, "counts", "(IZ)I"⟩
def dkwX5_counts_1 : List UInt8 := [132, 4, 1, 167, 255, 236, 29, 172]
abbrev dktX5_counts_1 : List UInt8 := dkwX5_counts_1 ++ []
def dkwX5_counts_0 : List UInt8 := [3, 62, 3, 54, 4, 21, 4, 6, 162, 0, 20, 29, 42, 27, 21, 4, 28, 182, 0, 144, 96, 62]
abbrev dktX5_counts_0 : List UInt8 := dkwX5_counts_0 ++ dktX5_counts_1
theorem dksX5_counts_0 : cX5_counts.data.toList.drop 0 = dktX5_counts_0 := by decide +kernel
theorem dksX5_counts_1 : cX5_counts.data.toList.drop 22 = dktX5_counts_1 := dk_seg dksX5_counts_0 22 rfl rfl
theorem dX5_counts_0 : decode cX5_counts 0 = .ok (.iconst 0, 1) := dk_3 (dk_at dksX5_counts_0 0 rfl rfl)
theorem dX5_counts_1 : decode cX5_counts 1 = .ok (.istore_n 3, 1) := dk_62 (dk_at dksX5_counts_0 1 rfl rfl)
theorem dX5_counts_2 : decode cX5_counts 2 = .ok (.iconst 0, 1) := dk_3 (dk_at dksX5_counts_0 2 rfl rfl)
theorem dX5_counts_3 : decode cX5_counts 3 = .ok (.istore 4, 2) := dk_54 4 (dk_at dksX5_counts_0 3 rfl rfl)
theorem dX5_counts_5 : decode cX5_counts 5 = .ok (.iload 4, 2) := dk_21 4 (dk_at dksX5_counts_0 5 rfl rfl)
theorem dX5_counts_7 : decode cX5_counts 7 = .ok (.iconst 3, 1) := dk_6 (dk_at dksX5_counts_0 7 rfl rfl)
theorem dX5_counts_8 : decode cX5_counts 8 = .ok (.if_icmp .ge 20, 3) := dk_162 0 20 (dk_at dksX5_counts_0 8 rfl rfl)
theorem dX5_counts_11 : decode cX5_counts 11 = .ok (.iload_n 3, 1) := dk_29 (dk_at dksX5_counts_0 11 rfl rfl)
theorem dX5_counts_12 : decode cX5_counts 12 = .ok (.aload_n 0, 1) := dk_42 (dk_at dksX5_counts_0 12 rfl rfl)
theorem dX5_counts_13 : decode cX5_counts 13 = .ok (.iload_n 1, 1) := dk_27 (dk_at dksX5_counts_0 13 rfl rfl)
theorem dX5_counts_14 : decode cX5_counts 14 = .ok (.iload 4, 2) := dk_21 4 (dk_at dksX5_counts_0 14 rfl rfl)
theorem dX5_counts_16 : decode cX5_counts 16 = .ok (.iload_n 2, 1) := dk_28 (dk_at dksX5_counts_0 16 rfl rfl)
theorem dX5_counts_17 : decode cX5_counts 17 = .ok (.invokevirtual 144, 3) := dk_182 0 144 (dk_at dksX5_counts_0 17 rfl rfl)
theorem dX5_counts_20 : decode cX5_counts 20 = .ok (.iadd, 1) := dk_96 (dk_at dksX5_counts_0 20 rfl rfl)
theorem dX5_counts_21 : decode cX5_counts 21 = .ok (.istore_n 3, 1) := dk_62 (dk_at dksX5_counts_0 21 rfl rfl)
theorem dX5_counts_22 : decode cX5_counts 22 = .ok (.iinc 4 1, 3) := dk_132 4 1 (dk_at dksX5_counts_1 0 rfl rfl)
theorem dX5_counts_25 : decode cX5_counts 25 = .ok (.goto (-20), 3) := dk_167 255 236 (dk_at dksX5_counts_1 3 rfl rfl)
theorem dX5_counts_28 : decode cX5_counts 28 = .ok (.iload_n 3, 1) := dk_29 (dk_at dksX5_counts_1 6 rfl rfl)
theorem dX5_counts_29 : decode cX5_counts 29 = .ok (.ireturn, 1) := dk_172 (dk_at dksX5_counts_1 7 rfl rfl)
abbrev cX5_dues : ByteArray := prog_12_method_44_code
def yX5_dues : MethodName := ⟨RX5, "dues", "(II)I"⟩
def dkwX5_dues_4 : List UInt8 := [182, 0, 158, 100, 172]
abbrev dktX5_dues_4 : List UInt8 := dkwX5_dues_4 ++ []
def dkwX5_dues_3 : List UInt8 := [184, 0, 155, 42, 21, 5, 182, 0, 103, 104, 96, 54, 4, 132, 5, 1, 167, 255, 186, 21, 4, 42, 27]
abbrev dktX5_dues_3 : List UInt8 := dkwX5_dues_3 ++ dktX5_dues_4
def dkwX5_dues_2 : List UInt8 := [182, 0, 85, 184, 0, 139, 167, 0, 4, 29, 54, 6, 21, 4, 3, 21, 6, 42, 21, 5, 182, 0, 85, 100]
abbrev dktX5_dues_2 : List UInt8 := dkwX5_dues_2 ++ dktX5_dues_3
def dkwX5_dues_1 : List UInt8 := [162, 0, 65, 21, 5, 4, 96, 42, 180, 0, 9, 4, 46, 162, 0, 18, 29, 42, 21, 5, 4, 96]
abbrev dktX5_dues_1 : List UInt8 := dkwX5_dues_1 ++ dktX5_dues_2
def dkwX5_dues_0 : List UInt8 := [3, 27, 28, 100, 184, 0, 155, 62, 3, 54, 4, 3, 54, 5, 21, 5, 42, 180, 0, 9, 4, 46]
abbrev dktX5_dues_0 : List UInt8 := dkwX5_dues_0 ++ dktX5_dues_1
theorem dksX5_dues_0 : cX5_dues.data.toList.drop 0 = dktX5_dues_0 := by decide +kernel
theorem dksX5_dues_1 : cX5_dues.data.toList.drop 22 = dktX5_dues_1 := dk_seg dksX5_dues_0 22 rfl rfl
theorem dksX5_dues_2 : cX5_dues.data.toList.drop 44 = dktX5_dues_2 := dk_seg dksX5_dues_1 22 rfl rfl
theorem dksX5_dues_3 : cX5_dues.data.toList.drop 68 = dktX5_dues_3 := dk_seg dksX5_dues_2 24 rfl rfl
theorem dksX5_dues_4 : cX5_dues.data.toList.drop 91 = dktX5_dues_4 := dk_seg dksX5_dues_3 23 rfl rfl
theorem dX5_dues_0 : decode cX5_dues 0 = .ok (.iconst 0, 1) := dk_3 (dk_at dksX5_dues_0 0 rfl rfl)
theorem dX5_dues_1 : decode cX5_dues 1 = .ok (.iload_n 1, 1) := dk_27 (dk_at dksX5_dues_0 1 rfl rfl)
theorem dX5_dues_2 : decode cX5_dues 2 = .ok (.iload_n 2, 1) := dk_28 (dk_at dksX5_dues_0 2 rfl rfl)
theorem dX5_dues_3 : decode cX5_dues 3 = .ok (.isub, 1) := dk_100 (dk_at dksX5_dues_0 3 rfl rfl)
theorem dX5_dues_4 : decode cX5_dues 4 = .ok (.invokestatic 155, 3) := dk_184 0 155 (dk_at dksX5_dues_0 4 rfl rfl)
theorem dX5_dues_7 : decode cX5_dues 7 = .ok (.istore_n 3, 1) := dk_62 (dk_at dksX5_dues_0 7 rfl rfl)
theorem dX5_dues_8 : decode cX5_dues 8 = .ok (.iconst 0, 1) := dk_3 (dk_at dksX5_dues_0 8 rfl rfl)
theorem dX5_dues_9 : decode cX5_dues 9 = .ok (.istore 4, 2) := dk_54 4 (dk_at dksX5_dues_0 9 rfl rfl)
theorem dX5_dues_11 : decode cX5_dues 11 = .ok (.iconst 0, 1) := dk_3 (dk_at dksX5_dues_0 11 rfl rfl)
theorem dX5_dues_12 : decode cX5_dues 12 = .ok (.istore 5, 2) := dk_54 5 (dk_at dksX5_dues_0 12 rfl rfl)
theorem dX5_dues_14 : decode cX5_dues 14 = .ok (.iload 5, 2) := dk_21 5 (dk_at dksX5_dues_0 14 rfl rfl)
theorem dX5_dues_16 : decode cX5_dues 16 = .ok (.aload_n 0, 1) := dk_42 (dk_at dksX5_dues_0 16 rfl rfl)
theorem dX5_dues_17 : decode cX5_dues 17 = .ok (.getfield 9, 3) := dk_180 0 9 (dk_at dksX5_dues_0 17 rfl rfl)
theorem dX5_dues_20 : decode cX5_dues 20 = .ok (.iconst 1, 1) := dk_4 (dk_at dksX5_dues_0 20 rfl rfl)
theorem dX5_dues_21 : decode cX5_dues 21 = .ok (.iaload, 1) := dk_46 (dk_at dksX5_dues_0 21 rfl rfl)
theorem dX5_dues_22 : decode cX5_dues 22 = .ok (.if_icmp .ge 65, 3) := dk_162 0 65 (dk_at dksX5_dues_1 0 rfl rfl)
theorem dX5_dues_25 : decode cX5_dues 25 = .ok (.iload 5, 2) := dk_21 5 (dk_at dksX5_dues_1 3 rfl rfl)
theorem dX5_dues_27 : decode cX5_dues 27 = .ok (.iconst 1, 1) := dk_4 (dk_at dksX5_dues_1 5 rfl rfl)
theorem dX5_dues_28 : decode cX5_dues 28 = .ok (.iadd, 1) := dk_96 (dk_at dksX5_dues_1 6 rfl rfl)
theorem dX5_dues_29 : decode cX5_dues 29 = .ok (.aload_n 0, 1) := dk_42 (dk_at dksX5_dues_1 7 rfl rfl)
theorem dX5_dues_30 : decode cX5_dues 30 = .ok (.getfield 9, 3) := dk_180 0 9 (dk_at dksX5_dues_1 8 rfl rfl)
theorem dX5_dues_33 : decode cX5_dues 33 = .ok (.iconst 1, 1) := dk_4 (dk_at dksX5_dues_1 11 rfl rfl)
theorem dX5_dues_34 : decode cX5_dues 34 = .ok (.iaload, 1) := dk_46 (dk_at dksX5_dues_1 12 rfl rfl)
theorem dX5_dues_35 : decode cX5_dues 35 = .ok (.if_icmp .ge 18, 3) := dk_162 0 18 (dk_at dksX5_dues_1 13 rfl rfl)
theorem dX5_dues_38 : decode cX5_dues 38 = .ok (.iload_n 3, 1) := dk_29 (dk_at dksX5_dues_1 16 rfl rfl)
theorem dX5_dues_39 : decode cX5_dues 39 = .ok (.aload_n 0, 1) := dk_42 (dk_at dksX5_dues_1 17 rfl rfl)
theorem dX5_dues_40 : decode cX5_dues 40 = .ok (.iload 5, 2) := dk_21 5 (dk_at dksX5_dues_1 18 rfl rfl)
theorem dX5_dues_42 : decode cX5_dues 42 = .ok (.iconst 1, 1) := dk_4 (dk_at dksX5_dues_1 20 rfl rfl)
theorem dX5_dues_43 : decode cX5_dues 43 = .ok (.iadd, 1) := dk_96 (dk_at dksX5_dues_1 21 rfl rfl)
theorem dX5_dues_44 : decode cX5_dues 44 = .ok (.invokevirtual 85, 3) := dk_182 0 85 (dk_at dksX5_dues_2 0 rfl rfl)
theorem dX5_dues_47 : decode cX5_dues 47 = .ok (.invokestatic 139, 3) := dk_184 0 139 (dk_at dksX5_dues_2 3 rfl rfl)
theorem dX5_dues_50 : decode cX5_dues 50 = .ok (.goto 4, 3) := dk_167 0 4 (dk_at dksX5_dues_2 6 rfl rfl)
theorem dX5_dues_53 : decode cX5_dues 53 = .ok (.iload_n 3, 1) := dk_29 (dk_at dksX5_dues_2 9 rfl rfl)
theorem dX5_dues_54 : decode cX5_dues 54 = .ok (.istore 6, 2) := dk_54 6 (dk_at dksX5_dues_2 10 rfl rfl)
theorem dX5_dues_56 : decode cX5_dues 56 = .ok (.iload 4, 2) := dk_21 4 (dk_at dksX5_dues_2 12 rfl rfl)
theorem dX5_dues_58 : decode cX5_dues 58 = .ok (.iconst 0, 1) := dk_3 (dk_at dksX5_dues_2 14 rfl rfl)
theorem dX5_dues_59 : decode cX5_dues 59 = .ok (.iload 6, 2) := dk_21 6 (dk_at dksX5_dues_2 15 rfl rfl)
theorem dX5_dues_61 : decode cX5_dues 61 = .ok (.aload_n 0, 1) := dk_42 (dk_at dksX5_dues_2 17 rfl rfl)
theorem dX5_dues_62 : decode cX5_dues 62 = .ok (.iload 5, 2) := dk_21 5 (dk_at dksX5_dues_2 18 rfl rfl)
theorem dX5_dues_64 : decode cX5_dues 64 = .ok (.invokevirtual 85, 3) := dk_182 0 85 (dk_at dksX5_dues_2 20 rfl rfl)
theorem dX5_dues_67 : decode cX5_dues 67 = .ok (.isub, 1) := dk_100 (dk_at dksX5_dues_2 23 rfl rfl)
theorem dX5_dues_68 : decode cX5_dues 68 = .ok (.invokestatic 155, 3) := dk_184 0 155 (dk_at dksX5_dues_3 0 rfl rfl)
theorem dX5_dues_71 : decode cX5_dues 71 = .ok (.aload_n 0, 1) := dk_42 (dk_at dksX5_dues_3 3 rfl rfl)
theorem dX5_dues_72 : decode cX5_dues 72 = .ok (.iload 5, 2) := dk_21 5 (dk_at dksX5_dues_3 4 rfl rfl)
theorem dX5_dues_74 : decode cX5_dues 74 = .ok (.invokevirtual 103, 3) := dk_182 0 103 (dk_at dksX5_dues_3 6 rfl rfl)
theorem dX5_dues_77 : decode cX5_dues 77 = .ok (.imul, 1) := dk_104 (dk_at dksX5_dues_3 9 rfl rfl)
theorem dX5_dues_78 : decode cX5_dues 78 = .ok (.iadd, 1) := dk_96 (dk_at dksX5_dues_3 10 rfl rfl)
theorem dX5_dues_79 : decode cX5_dues 79 = .ok (.istore 4, 2) := dk_54 4 (dk_at dksX5_dues_3 11 rfl rfl)
theorem dX5_dues_81 : decode cX5_dues 81 = .ok (.iinc 5 1, 3) := dk_132 5 1 (dk_at dksX5_dues_3 13 rfl rfl)
theorem dX5_dues_84 : decode cX5_dues 84 = .ok (.goto (-70), 3) := dk_167 255 186 (dk_at dksX5_dues_3 16 rfl rfl)
theorem dX5_dues_87 : decode cX5_dues 87 = .ok (.iload 4, 2) := dk_21 4 (dk_at dksX5_dues_3 19 rfl rfl)
theorem dX5_dues_89 : decode cX5_dues 89 = .ok (.aload_n 0, 1) := dk_42 (dk_at dksX5_dues_3 21 rfl rfl)
theorem dX5_dues_90 : decode cX5_dues 90 = .ok (.iload_n 1, 1) := dk_27 (dk_at dksX5_dues_3 22 rfl rfl)
theorem dX5_dues_91 : decode cX5_dues 91 = .ok (.invokevirtual 158, 3) := dk_182 0 158 (dk_at dksX5_dues_4 0 rfl rfl)
theorem dX5_dues_94 : decode cX5_dues 94 = .ok (.isub, 1) := dk_100 (dk_at dksX5_dues_4 3 rfl rfl)
theorem dX5_dues_95 : decode cX5_dues 95 = .ok (.ireturn, 1) := dk_172 (dk_at dksX5_dues_4 4 rfl rfl)
abbrev cX5_leftOfCredit : ByteArray := prog_12_method_43_code
def yX5_leftOfCredit : MethodName := ⟨RX5, "leftOfCredit", "(I)I"⟩
def dkwX5_leftOfCredit_1 : List UInt8 := [100, 184, 0, 155, 104, 100, 184, 0, 155, 172]
abbrev dktX5_leftOfCredit_1 : List UInt8 := dkwX5_leftOfCredit_1 ++ []
def dkwX5_leftOfCredit_0 : List UInt8 := [3, 16, 100, 42, 180, 0, 9, 5, 46, 104, 42, 180, 0, 9, 7, 46, 3, 27, 42, 180, 0, 9, 6, 46]
abbrev dktX5_leftOfCredit_0 : List UInt8 := dkwX5_leftOfCredit_0 ++ dktX5_leftOfCredit_1
theorem dksX5_leftOfCredit_0 : cX5_leftOfCredit.data.toList.drop 0 = dktX5_leftOfCredit_0 := by decide +kernel
theorem dksX5_leftOfCredit_1 : cX5_leftOfCredit.data.toList.drop 24 = dktX5_leftOfCredit_1 := dk_seg dksX5_leftOfCredit_0 24 rfl rfl
theorem dX5_leftOfCredit_0 : decode cX5_leftOfCredit 0 = .ok (.iconst 0, 1) := dk_3 (dk_at dksX5_leftOfCredit_0 0 rfl rfl)
theorem dX5_leftOfCredit_1 : decode cX5_leftOfCredit 1 = .ok (.bipush 100, 2) := dk_16 100 (dk_at dksX5_leftOfCredit_0 1 rfl rfl)
theorem dX5_leftOfCredit_3 : decode cX5_leftOfCredit 3 = .ok (.aload_n 0, 1) := dk_42 (dk_at dksX5_leftOfCredit_0 3 rfl rfl)
theorem dX5_leftOfCredit_4 : decode cX5_leftOfCredit 4 = .ok (.getfield 9, 3) := dk_180 0 9 (dk_at dksX5_leftOfCredit_0 4 rfl rfl)
theorem dX5_leftOfCredit_7 : decode cX5_leftOfCredit 7 = .ok (.iconst 2, 1) := dk_5 (dk_at dksX5_leftOfCredit_0 7 rfl rfl)
theorem dX5_leftOfCredit_8 : decode cX5_leftOfCredit 8 = .ok (.iaload, 1) := dk_46 (dk_at dksX5_leftOfCredit_0 8 rfl rfl)
theorem dX5_leftOfCredit_9 : decode cX5_leftOfCredit 9 = .ok (.imul, 1) := dk_104 (dk_at dksX5_leftOfCredit_0 9 rfl rfl)
theorem dX5_leftOfCredit_10 : decode cX5_leftOfCredit 10 = .ok (.aload_n 0, 1) := dk_42 (dk_at dksX5_leftOfCredit_0 10 rfl rfl)
theorem dX5_leftOfCredit_11 : decode cX5_leftOfCredit 11 = .ok (.getfield 9, 3) := dk_180 0 9 (dk_at dksX5_leftOfCredit_0 11 rfl rfl)
theorem dX5_leftOfCredit_14 : decode cX5_leftOfCredit 14 = .ok (.iconst 4, 1) := dk_7 (dk_at dksX5_leftOfCredit_0 14 rfl rfl)
theorem dX5_leftOfCredit_15 : decode cX5_leftOfCredit 15 = .ok (.iaload, 1) := dk_46 (dk_at dksX5_leftOfCredit_0 15 rfl rfl)
theorem dX5_leftOfCredit_16 : decode cX5_leftOfCredit 16 = .ok (.iconst 0, 1) := dk_3 (dk_at dksX5_leftOfCredit_0 16 rfl rfl)
theorem dX5_leftOfCredit_17 : decode cX5_leftOfCredit 17 = .ok (.iload_n 1, 1) := dk_27 (dk_at dksX5_leftOfCredit_0 17 rfl rfl)
theorem dX5_leftOfCredit_18 : decode cX5_leftOfCredit 18 = .ok (.aload_n 0, 1) := dk_42 (dk_at dksX5_leftOfCredit_0 18 rfl rfl)
theorem dX5_leftOfCredit_19 : decode cX5_leftOfCredit 19 = .ok (.getfield 9, 3) := dk_180 0 9 (dk_at dksX5_leftOfCredit_0 19 rfl rfl)
theorem dX5_leftOfCredit_22 : decode cX5_leftOfCredit 22 = .ok (.iconst 3, 1) := dk_6 (dk_at dksX5_leftOfCredit_0 22 rfl rfl)
theorem dX5_leftOfCredit_23 : decode cX5_leftOfCredit 23 = .ok (.iaload, 1) := dk_46 (dk_at dksX5_leftOfCredit_0 23 rfl rfl)
theorem dX5_leftOfCredit_24 : decode cX5_leftOfCredit 24 = .ok (.isub, 1) := dk_100 (dk_at dksX5_leftOfCredit_1 0 rfl rfl)
theorem dX5_leftOfCredit_25 : decode cX5_leftOfCredit 25 = .ok (.invokestatic 155, 3) := dk_184 0 155 (dk_at dksX5_leftOfCredit_1 1 rfl rfl)
theorem dX5_leftOfCredit_28 : decode cX5_leftOfCredit 28 = .ok (.imul, 1) := dk_104 (dk_at dksX5_leftOfCredit_1 4 rfl rfl)
theorem dX5_leftOfCredit_29 : decode cX5_leftOfCredit 29 = .ok (.isub, 1) := dk_100 (dk_at dksX5_leftOfCredit_1 5 rfl rfl)
theorem dX5_leftOfCredit_30 : decode cX5_leftOfCredit 30 = .ok (.invokestatic 155, 3) := dk_184 0 155 (dk_at dksX5_leftOfCredit_1 6 rfl rfl)
theorem dX5_leftOfCredit_33 : decode cX5_leftOfCredit 33 = .ok (.ireturn, 1) := dk_172 (dk_at dksX5_leftOfCredit_1 9 rfl rfl)
abbrev cX5_allUnproved : ByteArray := prog_12_method_42_code
def yX5_allUnproved : MethodName := ⟨RX5, "allUnproved", "(I)I"⟩
def dkwX5_allUnproved_1 : List UInt8 := [28, 172]
abbrev dktX5_allUnproved_1 : List UInt8 := dkwX5_allUnproved_1 ++ []
def dkwX5_allUnproved_0 : List UInt8 := [3, 61, 3, 62, 29, 6, 162, 0, 18, 28, 42, 27, 29, 182, 0, 136, 96, 61, 132, 3, 1, 167, 255, 239]
abbrev dktX5_allUnproved_0 : List UInt8 := dkwX5_allUnproved_0 ++ dktX5_allUnproved_1
theorem dksX5_allUnproved_0 : cX5_allUnproved.data.toList.drop 0 = dktX5_allUnproved_0 := by decide +kernel
theorem dksX5_allUnproved_1 : cX5_allUnproved.data.toList.drop 24 = dktX5_allUnproved_1 := dk_seg dksX5_allUnproved_0 24 rfl rfl
theorem dX5_allUnproved_0 : decode cX5_allUnproved 0 = .ok (.iconst 0, 1) := dk_3 (dk_at dksX5_allUnproved_0 0 rfl rfl)
theorem dX5_allUnproved_1 : decode cX5_allUnproved 1 = .ok (.istore_n 2, 1) := dk_61 (dk_at dksX5_allUnproved_0 1 rfl rfl)
theorem dX5_allUnproved_2 : decode cX5_allUnproved 2 = .ok (.iconst 0, 1) := dk_3 (dk_at dksX5_allUnproved_0 2 rfl rfl)
theorem dX5_allUnproved_3 : decode cX5_allUnproved 3 = .ok (.istore_n 3, 1) := dk_62 (dk_at dksX5_allUnproved_0 3 rfl rfl)
theorem dX5_allUnproved_4 : decode cX5_allUnproved 4 = .ok (.iload_n 3, 1) := dk_29 (dk_at dksX5_allUnproved_0 4 rfl rfl)
theorem dX5_allUnproved_5 : decode cX5_allUnproved 5 = .ok (.iconst 3, 1) := dk_6 (dk_at dksX5_allUnproved_0 5 rfl rfl)
theorem dX5_allUnproved_6 : decode cX5_allUnproved 6 = .ok (.if_icmp .ge 18, 3) := dk_162 0 18 (dk_at dksX5_allUnproved_0 6 rfl rfl)
theorem dX5_allUnproved_9 : decode cX5_allUnproved 9 = .ok (.iload_n 2, 1) := dk_28 (dk_at dksX5_allUnproved_0 9 rfl rfl)
theorem dX5_allUnproved_10 : decode cX5_allUnproved 10 = .ok (.aload_n 0, 1) := dk_42 (dk_at dksX5_allUnproved_0 10 rfl rfl)
theorem dX5_allUnproved_11 : decode cX5_allUnproved 11 = .ok (.iload_n 1, 1) := dk_27 (dk_at dksX5_allUnproved_0 11 rfl rfl)
theorem dX5_allUnproved_12 : decode cX5_allUnproved 12 = .ok (.iload_n 3, 1) := dk_29 (dk_at dksX5_allUnproved_0 12 rfl rfl)
theorem dX5_allUnproved_13 : decode cX5_allUnproved 13 = .ok (.invokevirtual 136, 3) := dk_182 0 136 (dk_at dksX5_allUnproved_0 13 rfl rfl)
theorem dX5_allUnproved_16 : decode cX5_allUnproved 16 = .ok (.iadd, 1) := dk_96 (dk_at dksX5_allUnproved_0 16 rfl rfl)
theorem dX5_allUnproved_17 : decode cX5_allUnproved 17 = .ok (.istore_n 2, 1) := dk_61 (dk_at dksX5_allUnproved_0 17 rfl rfl)
theorem dX5_allUnproved_18 : decode cX5_allUnproved 18 = .ok (.iinc 3 1, 3) := dk_132 3 1 (dk_at dksX5_allUnproved_0 18 rfl rfl)
theorem dX5_allUnproved_21 : decode cX5_allUnproved 21 = .ok (.goto (-17), 3) := dk_167 255 239 (dk_at dksX5_allUnproved_0 21 rfl rfl)
theorem dX5_allUnproved_24 : decode cX5_allUnproved 24 = .ok (.iload_n 2, 1) := dk_28 (dk_at dksX5_allUnproved_1 0 rfl rfl)
theorem dX5_allUnproved_25 : decode cX5_allUnproved 25 = .ok (.ireturn, 1) := dk_172 (dk_at dksX5_allUnproved_1 1 rfl rfl)
abbrev cX5_uses : ByteArray := prog_12_method_47_code
def yX5_uses : MethodName := ⟨RX5, "uses", "(II)I"⟩
def dkwX5_uses_2 : List UInt8 := [182, 0, 127, 29, 21, 5, 100, 62, 132, 4, 1, 167, 255, 203, 29, 172]
abbrev dktX5_uses_2 : List UInt8 := dkwX5_uses_2 ++ []
def dkwX5_uses_1 : List UInt8 := [21, 4, 104, 96, 182, 0, 118, 184, 0, 139, 54, 5, 42, 27, 16, 7, 5, 21, 4, 104, 96, 21, 5, 116]
abbrev dktX5_uses_1 : List UInt8 := dkwX5_uses_1 ++ dktX5_uses_2
def dkwX5_uses_0 : List UInt8 := [28, 62, 3, 54, 4, 21, 4, 42, 27, 16, 6, 182, 0, 118, 162, 0, 47, 29, 42, 27, 16, 7, 5]
abbrev dktX5_uses_0 : List UInt8 := dkwX5_uses_0 ++ dktX5_uses_1
theorem dksX5_uses_0 : cX5_uses.data.toList.drop 0 = dktX5_uses_0 := by decide +kernel
theorem dksX5_uses_1 : cX5_uses.data.toList.drop 23 = dktX5_uses_1 := dk_seg dksX5_uses_0 23 rfl rfl
theorem dksX5_uses_2 : cX5_uses.data.toList.drop 47 = dktX5_uses_2 := dk_seg dksX5_uses_1 24 rfl rfl
theorem dX5_uses_0 : decode cX5_uses 0 = .ok (.iload_n 2, 1) := dk_28 (dk_at dksX5_uses_0 0 rfl rfl)
theorem dX5_uses_1 : decode cX5_uses 1 = .ok (.istore_n 3, 1) := dk_62 (dk_at dksX5_uses_0 1 rfl rfl)
theorem dX5_uses_2 : decode cX5_uses 2 = .ok (.iconst 0, 1) := dk_3 (dk_at dksX5_uses_0 2 rfl rfl)
theorem dX5_uses_3 : decode cX5_uses 3 = .ok (.istore 4, 2) := dk_54 4 (dk_at dksX5_uses_0 3 rfl rfl)
theorem dX5_uses_5 : decode cX5_uses 5 = .ok (.iload 4, 2) := dk_21 4 (dk_at dksX5_uses_0 5 rfl rfl)
theorem dX5_uses_7 : decode cX5_uses 7 = .ok (.aload_n 0, 1) := dk_42 (dk_at dksX5_uses_0 7 rfl rfl)
theorem dX5_uses_8 : decode cX5_uses 8 = .ok (.iload_n 1, 1) := dk_27 (dk_at dksX5_uses_0 8 rfl rfl)
theorem dX5_uses_9 : decode cX5_uses 9 = .ok (.bipush 6, 2) := dk_16 6 (dk_at dksX5_uses_0 9 rfl rfl)
theorem dX5_uses_11 : decode cX5_uses 11 = .ok (.invokevirtual 118, 3) := dk_182 0 118 (dk_at dksX5_uses_0 11 rfl rfl)
theorem dX5_uses_14 : decode cX5_uses 14 = .ok (.if_icmp .ge 47, 3) := dk_162 0 47 (dk_at dksX5_uses_0 14 rfl rfl)
theorem dX5_uses_17 : decode cX5_uses 17 = .ok (.iload_n 3, 1) := dk_29 (dk_at dksX5_uses_0 17 rfl rfl)
theorem dX5_uses_18 : decode cX5_uses 18 = .ok (.aload_n 0, 1) := dk_42 (dk_at dksX5_uses_0 18 rfl rfl)
theorem dX5_uses_19 : decode cX5_uses 19 = .ok (.iload_n 1, 1) := dk_27 (dk_at dksX5_uses_0 19 rfl rfl)
theorem dX5_uses_20 : decode cX5_uses 20 = .ok (.bipush 7, 2) := dk_16 7 (dk_at dksX5_uses_0 20 rfl rfl)
theorem dX5_uses_22 : decode cX5_uses 22 = .ok (.iconst 2, 1) := dk_5 (dk_at dksX5_uses_0 22 rfl rfl)
theorem dX5_uses_23 : decode cX5_uses 23 = .ok (.iload 4, 2) := dk_21 4 (dk_at dksX5_uses_1 0 rfl rfl)
theorem dX5_uses_25 : decode cX5_uses 25 = .ok (.imul, 1) := dk_104 (dk_at dksX5_uses_1 2 rfl rfl)
theorem dX5_uses_26 : decode cX5_uses 26 = .ok (.iadd, 1) := dk_96 (dk_at dksX5_uses_1 3 rfl rfl)
theorem dX5_uses_27 : decode cX5_uses 27 = .ok (.invokevirtual 118, 3) := dk_182 0 118 (dk_at dksX5_uses_1 4 rfl rfl)
theorem dX5_uses_30 : decode cX5_uses 30 = .ok (.invokestatic 139, 3) := dk_184 0 139 (dk_at dksX5_uses_1 7 rfl rfl)
theorem dX5_uses_33 : decode cX5_uses 33 = .ok (.istore 5, 2) := dk_54 5 (dk_at dksX5_uses_1 10 rfl rfl)
theorem dX5_uses_35 : decode cX5_uses 35 = .ok (.aload_n 0, 1) := dk_42 (dk_at dksX5_uses_1 12 rfl rfl)
theorem dX5_uses_36 : decode cX5_uses 36 = .ok (.iload_n 1, 1) := dk_27 (dk_at dksX5_uses_1 13 rfl rfl)
theorem dX5_uses_37 : decode cX5_uses 37 = .ok (.bipush 7, 2) := dk_16 7 (dk_at dksX5_uses_1 14 rfl rfl)
theorem dX5_uses_39 : decode cX5_uses 39 = .ok (.iconst 2, 1) := dk_5 (dk_at dksX5_uses_1 16 rfl rfl)
theorem dX5_uses_40 : decode cX5_uses 40 = .ok (.iload 4, 2) := dk_21 4 (dk_at dksX5_uses_1 17 rfl rfl)
theorem dX5_uses_42 : decode cX5_uses 42 = .ok (.imul, 1) := dk_104 (dk_at dksX5_uses_1 19 rfl rfl)
theorem dX5_uses_43 : decode cX5_uses 43 = .ok (.iadd, 1) := dk_96 (dk_at dksX5_uses_1 20 rfl rfl)
theorem dX5_uses_44 : decode cX5_uses 44 = .ok (.iload 5, 2) := dk_21 5 (dk_at dksX5_uses_1 21 rfl rfl)
theorem dX5_uses_46 : decode cX5_uses 46 = .ok (.ineg, 1) := dk_116 (dk_at dksX5_uses_1 23 rfl rfl)
theorem dX5_uses_47 : decode cX5_uses 47 = .ok (.invokevirtual 127, 3) := dk_182 0 127 (dk_at dksX5_uses_2 0 rfl rfl)
theorem dX5_uses_50 : decode cX5_uses 50 = .ok (.iload_n 3, 1) := dk_29 (dk_at dksX5_uses_2 3 rfl rfl)
theorem dX5_uses_51 : decode cX5_uses 51 = .ok (.iload 5, 2) := dk_21 5 (dk_at dksX5_uses_2 4 rfl rfl)
theorem dX5_uses_53 : decode cX5_uses 53 = .ok (.isub, 1) := dk_100 (dk_at dksX5_uses_2 6 rfl rfl)
theorem dX5_uses_54 : decode cX5_uses 54 = .ok (.istore_n 3, 1) := dk_62 (dk_at dksX5_uses_2 7 rfl rfl)
theorem dX5_uses_55 : decode cX5_uses 55 = .ok (.iinc 4 1, 3) := dk_132 4 1 (dk_at dksX5_uses_2 8 rfl rfl)
theorem dX5_uses_58 : decode cX5_uses 58 = .ok (.goto (-53), 3) := dk_167 255 203 (dk_at dksX5_uses_2 11 rfl rfl)
theorem dX5_uses_61 : decode cX5_uses 61 = .ok (.iload_n 3, 1) := dk_29 (dk_at dksX5_uses_2 14 rfl rfl)
theorem dX5_uses_62 : decode cX5_uses 62 = .ok (.ireturn, 1) := dk_172 (dk_at dksX5_uses_2 15 rfl rfl)
abbrev cX5_ages : ByteArray := prog_12_method_48_code
def yX5_ages : MethodName := ⟨RX5, "ages", "(II)V"⟩
def dkwX5_ages_7 : List UInt8 := [167, 255, 235, 177]
abbrev dktX5_ages_7 : List UInt8 := dkwX5_ages_7 ++ []
def dkwX5_ages_6 : List UInt8 := [54, 4, 21, 4, 16, 6, 162, 0, 20, 42, 27, 16, 7, 21, 4, 96, 3, 182, 0, 124, 132, 4, 1]
abbrev dktX5_ages_6 : List UInt8 := dkwX5_ages_6 ++ dktX5_ages_7
def dkwX5_ages_5 : List UInt8 := [29, 104, 96, 4, 96, 3, 182, 0, 124, 132, 3, 1, 42, 27, 16, 6, 29, 182, 0, 124, 5, 29, 104]
abbrev dktX5_ages_5 : List UInt8 := dkwX5_ages_5 ++ dktX5_ages_6
def dkwX5_ages_4 : List UInt8 := [167, 255, 167, 28, 158, 0, 32, 42, 27, 16, 7, 5, 29, 104, 96, 28, 182, 0, 124, 42, 27, 16, 7, 5]
abbrev dktX5_ages_4 : List UInt8 := dkwX5_ages_4 ++ dktX5_ages_5
def dkwX5_ages_3 : List UInt8 := [182, 0, 124, 42, 27, 16, 7, 5, 29, 104, 96, 4, 96, 21, 6, 182, 0, 124, 132, 3, 1, 132, 4, 1]
abbrev dktX5_ages_3 : List UInt8 := dkwX5_ages_3 ++ dktX5_ages_4
def dkwX5_ages_2 : List UInt8 := [54, 6, 21, 5, 158, 0, 40, 21, 6, 6, 162, 0, 34, 42, 27, 16, 7, 5, 29, 104, 96, 21, 5]
abbrev dktX5_ages_2 : List UInt8 := dkwX5_ages_2 ++ dktX5_ages_3
def dkwX5_ages_1 : List UInt8 := [104, 96, 182, 0, 118, 54, 5, 42, 27, 16, 7, 5, 21, 4, 104, 96, 4, 96, 182, 0, 118, 4, 96]
abbrev dktX5_ages_1 : List UInt8 := dkwX5_ages_1 ++ dktX5_ages_2
def dkwX5_ages_0 : List UInt8 := [3, 62, 3, 54, 4, 21, 4, 42, 27, 16, 6, 182, 0, 118, 162, 0, 83, 42, 27, 16, 7, 5, 21, 4]
abbrev dktX5_ages_0 : List UInt8 := dkwX5_ages_0 ++ dktX5_ages_1
theorem dksX5_ages_0 : cX5_ages.data.toList.drop 0 = dktX5_ages_0 := by decide +kernel
theorem dksX5_ages_1 : cX5_ages.data.toList.drop 24 = dktX5_ages_1 := dk_seg dksX5_ages_0 24 rfl rfl
theorem dksX5_ages_2 : cX5_ages.data.toList.drop 47 = dktX5_ages_2 := dk_seg dksX5_ages_1 23 rfl rfl
theorem dksX5_ages_3 : cX5_ages.data.toList.drop 70 = dktX5_ages_3 := dk_seg dksX5_ages_2 23 rfl rfl
theorem dksX5_ages_4 : cX5_ages.data.toList.drop 94 = dktX5_ages_4 := dk_seg dksX5_ages_3 24 rfl rfl
theorem dksX5_ages_5 : cX5_ages.data.toList.drop 118 = dktX5_ages_5 := dk_seg dksX5_ages_4 24 rfl rfl
theorem dksX5_ages_6 : cX5_ages.data.toList.drop 141 = dktX5_ages_6 := dk_seg dksX5_ages_5 23 rfl rfl
theorem dksX5_ages_7 : cX5_ages.data.toList.drop 164 = dktX5_ages_7 := dk_seg dksX5_ages_6 23 rfl rfl
theorem dX5_ages_0 : decode cX5_ages 0 = .ok (.iconst 0, 1) := dk_3 (dk_at dksX5_ages_0 0 rfl rfl)
theorem dX5_ages_1 : decode cX5_ages 1 = .ok (.istore_n 3, 1) := dk_62 (dk_at dksX5_ages_0 1 rfl rfl)
theorem dX5_ages_2 : decode cX5_ages 2 = .ok (.iconst 0, 1) := dk_3 (dk_at dksX5_ages_0 2 rfl rfl)
theorem dX5_ages_3 : decode cX5_ages 3 = .ok (.istore 4, 2) := dk_54 4 (dk_at dksX5_ages_0 3 rfl rfl)
theorem dX5_ages_5 : decode cX5_ages 5 = .ok (.iload 4, 2) := dk_21 4 (dk_at dksX5_ages_0 5 rfl rfl)
theorem dX5_ages_7 : decode cX5_ages 7 = .ok (.aload_n 0, 1) := dk_42 (dk_at dksX5_ages_0 7 rfl rfl)
theorem dX5_ages_8 : decode cX5_ages 8 = .ok (.iload_n 1, 1) := dk_27 (dk_at dksX5_ages_0 8 rfl rfl)
theorem dX5_ages_9 : decode cX5_ages 9 = .ok (.bipush 6, 2) := dk_16 6 (dk_at dksX5_ages_0 9 rfl rfl)
theorem dX5_ages_11 : decode cX5_ages 11 = .ok (.invokevirtual 118, 3) := dk_182 0 118 (dk_at dksX5_ages_0 11 rfl rfl)
theorem dX5_ages_14 : decode cX5_ages 14 = .ok (.if_icmp .ge 83, 3) := dk_162 0 83 (dk_at dksX5_ages_0 14 rfl rfl)
theorem dX5_ages_17 : decode cX5_ages 17 = .ok (.aload_n 0, 1) := dk_42 (dk_at dksX5_ages_0 17 rfl rfl)
theorem dX5_ages_18 : decode cX5_ages 18 = .ok (.iload_n 1, 1) := dk_27 (dk_at dksX5_ages_0 18 rfl rfl)
theorem dX5_ages_19 : decode cX5_ages 19 = .ok (.bipush 7, 2) := dk_16 7 (dk_at dksX5_ages_0 19 rfl rfl)
theorem dX5_ages_21 : decode cX5_ages 21 = .ok (.iconst 2, 1) := dk_5 (dk_at dksX5_ages_0 21 rfl rfl)
theorem dX5_ages_22 : decode cX5_ages 22 = .ok (.iload 4, 2) := dk_21 4 (dk_at dksX5_ages_0 22 rfl rfl)
theorem dX5_ages_24 : decode cX5_ages 24 = .ok (.imul, 1) := dk_104 (dk_at dksX5_ages_1 0 rfl rfl)
theorem dX5_ages_25 : decode cX5_ages 25 = .ok (.iadd, 1) := dk_96 (dk_at dksX5_ages_1 1 rfl rfl)
theorem dX5_ages_26 : decode cX5_ages 26 = .ok (.invokevirtual 118, 3) := dk_182 0 118 (dk_at dksX5_ages_1 2 rfl rfl)
theorem dX5_ages_29 : decode cX5_ages 29 = .ok (.istore 5, 2) := dk_54 5 (dk_at dksX5_ages_1 5 rfl rfl)
theorem dX5_ages_31 : decode cX5_ages 31 = .ok (.aload_n 0, 1) := dk_42 (dk_at dksX5_ages_1 7 rfl rfl)
theorem dX5_ages_32 : decode cX5_ages 32 = .ok (.iload_n 1, 1) := dk_27 (dk_at dksX5_ages_1 8 rfl rfl)
theorem dX5_ages_33 : decode cX5_ages 33 = .ok (.bipush 7, 2) := dk_16 7 (dk_at dksX5_ages_1 9 rfl rfl)
theorem dX5_ages_35 : decode cX5_ages 35 = .ok (.iconst 2, 1) := dk_5 (dk_at dksX5_ages_1 11 rfl rfl)
theorem dX5_ages_36 : decode cX5_ages 36 = .ok (.iload 4, 2) := dk_21 4 (dk_at dksX5_ages_1 12 rfl rfl)
theorem dX5_ages_38 : decode cX5_ages 38 = .ok (.imul, 1) := dk_104 (dk_at dksX5_ages_1 14 rfl rfl)
theorem dX5_ages_39 : decode cX5_ages 39 = .ok (.iadd, 1) := dk_96 (dk_at dksX5_ages_1 15 rfl rfl)
theorem dX5_ages_40 : decode cX5_ages 40 = .ok (.iconst 1, 1) := dk_4 (dk_at dksX5_ages_1 16 rfl rfl)
theorem dX5_ages_41 : decode cX5_ages 41 = .ok (.iadd, 1) := dk_96 (dk_at dksX5_ages_1 17 rfl rfl)
theorem dX5_ages_42 : decode cX5_ages 42 = .ok (.invokevirtual 118, 3) := dk_182 0 118 (dk_at dksX5_ages_1 18 rfl rfl)
theorem dX5_ages_45 : decode cX5_ages 45 = .ok (.iconst 1, 1) := dk_4 (dk_at dksX5_ages_1 21 rfl rfl)
theorem dX5_ages_46 : decode cX5_ages 46 = .ok (.iadd, 1) := dk_96 (dk_at dksX5_ages_1 22 rfl rfl)
theorem dX5_ages_47 : decode cX5_ages 47 = .ok (.istore 6, 2) := dk_54 6 (dk_at dksX5_ages_2 0 rfl rfl)
theorem dX5_ages_49 : decode cX5_ages 49 = .ok (.iload 5, 2) := dk_21 5 (dk_at dksX5_ages_2 2 rfl rfl)
theorem dX5_ages_51 : decode cX5_ages 51 = .ok (.ifCond .le 40, 3) := dk_158 0 40 (dk_at dksX5_ages_2 4 rfl rfl)
theorem dX5_ages_54 : decode cX5_ages 54 = .ok (.iload 6, 2) := dk_21 6 (dk_at dksX5_ages_2 7 rfl rfl)
theorem dX5_ages_56 : decode cX5_ages 56 = .ok (.iconst 3, 1) := dk_6 (dk_at dksX5_ages_2 9 rfl rfl)
theorem dX5_ages_57 : decode cX5_ages 57 = .ok (.if_icmp .ge 34, 3) := dk_162 0 34 (dk_at dksX5_ages_2 10 rfl rfl)
theorem dX5_ages_60 : decode cX5_ages 60 = .ok (.aload_n 0, 1) := dk_42 (dk_at dksX5_ages_2 13 rfl rfl)
theorem dX5_ages_61 : decode cX5_ages 61 = .ok (.iload_n 1, 1) := dk_27 (dk_at dksX5_ages_2 14 rfl rfl)
theorem dX5_ages_62 : decode cX5_ages 62 = .ok (.bipush 7, 2) := dk_16 7 (dk_at dksX5_ages_2 15 rfl rfl)
theorem dX5_ages_64 : decode cX5_ages 64 = .ok (.iconst 2, 1) := dk_5 (dk_at dksX5_ages_2 17 rfl rfl)
theorem dX5_ages_65 : decode cX5_ages 65 = .ok (.iload_n 3, 1) := dk_29 (dk_at dksX5_ages_2 18 rfl rfl)
theorem dX5_ages_66 : decode cX5_ages 66 = .ok (.imul, 1) := dk_104 (dk_at dksX5_ages_2 19 rfl rfl)
theorem dX5_ages_67 : decode cX5_ages 67 = .ok (.iadd, 1) := dk_96 (dk_at dksX5_ages_2 20 rfl rfl)
theorem dX5_ages_68 : decode cX5_ages 68 = .ok (.iload 5, 2) := dk_21 5 (dk_at dksX5_ages_2 21 rfl rfl)
theorem dX5_ages_70 : decode cX5_ages 70 = .ok (.invokevirtual 124, 3) := dk_182 0 124 (dk_at dksX5_ages_3 0 rfl rfl)
theorem dX5_ages_73 : decode cX5_ages 73 = .ok (.aload_n 0, 1) := dk_42 (dk_at dksX5_ages_3 3 rfl rfl)
theorem dX5_ages_74 : decode cX5_ages 74 = .ok (.iload_n 1, 1) := dk_27 (dk_at dksX5_ages_3 4 rfl rfl)
theorem dX5_ages_75 : decode cX5_ages 75 = .ok (.bipush 7, 2) := dk_16 7 (dk_at dksX5_ages_3 5 rfl rfl)
theorem dX5_ages_77 : decode cX5_ages 77 = .ok (.iconst 2, 1) := dk_5 (dk_at dksX5_ages_3 7 rfl rfl)
theorem dX5_ages_78 : decode cX5_ages 78 = .ok (.iload_n 3, 1) := dk_29 (dk_at dksX5_ages_3 8 rfl rfl)
theorem dX5_ages_79 : decode cX5_ages 79 = .ok (.imul, 1) := dk_104 (dk_at dksX5_ages_3 9 rfl rfl)
theorem dX5_ages_80 : decode cX5_ages 80 = .ok (.iadd, 1) := dk_96 (dk_at dksX5_ages_3 10 rfl rfl)
theorem dX5_ages_81 : decode cX5_ages 81 = .ok (.iconst 1, 1) := dk_4 (dk_at dksX5_ages_3 11 rfl rfl)
theorem dX5_ages_82 : decode cX5_ages 82 = .ok (.iadd, 1) := dk_96 (dk_at dksX5_ages_3 12 rfl rfl)
theorem dX5_ages_83 : decode cX5_ages 83 = .ok (.iload 6, 2) := dk_21 6 (dk_at dksX5_ages_3 13 rfl rfl)
theorem dX5_ages_85 : decode cX5_ages 85 = .ok (.invokevirtual 124, 3) := dk_182 0 124 (dk_at dksX5_ages_3 15 rfl rfl)
theorem dX5_ages_88 : decode cX5_ages 88 = .ok (.iinc 3 1, 3) := dk_132 3 1 (dk_at dksX5_ages_3 18 rfl rfl)
theorem dX5_ages_91 : decode cX5_ages 91 = .ok (.iinc 4 1, 3) := dk_132 4 1 (dk_at dksX5_ages_3 21 rfl rfl)
theorem dX5_ages_94 : decode cX5_ages 94 = .ok (.goto (-89), 3) := dk_167 255 167 (dk_at dksX5_ages_4 0 rfl rfl)
theorem dX5_ages_97 : decode cX5_ages 97 = .ok (.iload_n 2, 1) := dk_28 (dk_at dksX5_ages_4 3 rfl rfl)
theorem dX5_ages_98 : decode cX5_ages 98 = .ok (.ifCond .le 32, 3) := dk_158 0 32 (dk_at dksX5_ages_4 4 rfl rfl)
theorem dX5_ages_101 : decode cX5_ages 101 = .ok (.aload_n 0, 1) := dk_42 (dk_at dksX5_ages_4 7 rfl rfl)
theorem dX5_ages_102 : decode cX5_ages 102 = .ok (.iload_n 1, 1) := dk_27 (dk_at dksX5_ages_4 8 rfl rfl)
theorem dX5_ages_103 : decode cX5_ages 103 = .ok (.bipush 7, 2) := dk_16 7 (dk_at dksX5_ages_4 9 rfl rfl)
theorem dX5_ages_105 : decode cX5_ages 105 = .ok (.iconst 2, 1) := dk_5 (dk_at dksX5_ages_4 11 rfl rfl)
theorem dX5_ages_106 : decode cX5_ages 106 = .ok (.iload_n 3, 1) := dk_29 (dk_at dksX5_ages_4 12 rfl rfl)
theorem dX5_ages_107 : decode cX5_ages 107 = .ok (.imul, 1) := dk_104 (dk_at dksX5_ages_4 13 rfl rfl)
theorem dX5_ages_108 : decode cX5_ages 108 = .ok (.iadd, 1) := dk_96 (dk_at dksX5_ages_4 14 rfl rfl)
theorem dX5_ages_109 : decode cX5_ages 109 = .ok (.iload_n 2, 1) := dk_28 (dk_at dksX5_ages_4 15 rfl rfl)
theorem dX5_ages_110 : decode cX5_ages 110 = .ok (.invokevirtual 124, 3) := dk_182 0 124 (dk_at dksX5_ages_4 16 rfl rfl)
theorem dX5_ages_113 : decode cX5_ages 113 = .ok (.aload_n 0, 1) := dk_42 (dk_at dksX5_ages_4 19 rfl rfl)
theorem dX5_ages_114 : decode cX5_ages 114 = .ok (.iload_n 1, 1) := dk_27 (dk_at dksX5_ages_4 20 rfl rfl)
theorem dX5_ages_115 : decode cX5_ages 115 = .ok (.bipush 7, 2) := dk_16 7 (dk_at dksX5_ages_4 21 rfl rfl)
theorem dX5_ages_117 : decode cX5_ages 117 = .ok (.iconst 2, 1) := dk_5 (dk_at dksX5_ages_4 23 rfl rfl)
theorem dX5_ages_118 : decode cX5_ages 118 = .ok (.iload_n 3, 1) := dk_29 (dk_at dksX5_ages_5 0 rfl rfl)
theorem dX5_ages_119 : decode cX5_ages 119 = .ok (.imul, 1) := dk_104 (dk_at dksX5_ages_5 1 rfl rfl)
theorem dX5_ages_120 : decode cX5_ages 120 = .ok (.iadd, 1) := dk_96 (dk_at dksX5_ages_5 2 rfl rfl)
theorem dX5_ages_121 : decode cX5_ages 121 = .ok (.iconst 1, 1) := dk_4 (dk_at dksX5_ages_5 3 rfl rfl)
theorem dX5_ages_122 : decode cX5_ages 122 = .ok (.iadd, 1) := dk_96 (dk_at dksX5_ages_5 4 rfl rfl)
theorem dX5_ages_123 : decode cX5_ages 123 = .ok (.iconst 0, 1) := dk_3 (dk_at dksX5_ages_5 5 rfl rfl)
theorem dX5_ages_124 : decode cX5_ages 124 = .ok (.invokevirtual 124, 3) := dk_182 0 124 (dk_at dksX5_ages_5 6 rfl rfl)
theorem dX5_ages_127 : decode cX5_ages 127 = .ok (.iinc 3 1, 3) := dk_132 3 1 (dk_at dksX5_ages_5 9 rfl rfl)
theorem dX5_ages_130 : decode cX5_ages 130 = .ok (.aload_n 0, 1) := dk_42 (dk_at dksX5_ages_5 12 rfl rfl)
theorem dX5_ages_131 : decode cX5_ages 131 = .ok (.iload_n 1, 1) := dk_27 (dk_at dksX5_ages_5 13 rfl rfl)
theorem dX5_ages_132 : decode cX5_ages 132 = .ok (.bipush 6, 2) := dk_16 6 (dk_at dksX5_ages_5 14 rfl rfl)
theorem dX5_ages_134 : decode cX5_ages 134 = .ok (.iload_n 3, 1) := dk_29 (dk_at dksX5_ages_5 16 rfl rfl)
theorem dX5_ages_135 : decode cX5_ages 135 = .ok (.invokevirtual 124, 3) := dk_182 0 124 (dk_at dksX5_ages_5 17 rfl rfl)
theorem dX5_ages_138 : decode cX5_ages 138 = .ok (.iconst 2, 1) := dk_5 (dk_at dksX5_ages_5 20 rfl rfl)
theorem dX5_ages_139 : decode cX5_ages 139 = .ok (.iload_n 3, 1) := dk_29 (dk_at dksX5_ages_5 21 rfl rfl)
theorem dX5_ages_140 : decode cX5_ages 140 = .ok (.imul, 1) := dk_104 (dk_at dksX5_ages_5 22 rfl rfl)
theorem dX5_ages_141 : decode cX5_ages 141 = .ok (.istore 4, 2) := dk_54 4 (dk_at dksX5_ages_6 0 rfl rfl)
theorem dX5_ages_143 : decode cX5_ages 143 = .ok (.iload 4, 2) := dk_21 4 (dk_at dksX5_ages_6 2 rfl rfl)
theorem dX5_ages_145 : decode cX5_ages 145 = .ok (.bipush 6, 2) := dk_16 6 (dk_at dksX5_ages_6 4 rfl rfl)
theorem dX5_ages_147 : decode cX5_ages 147 = .ok (.if_icmp .ge 20, 3) := dk_162 0 20 (dk_at dksX5_ages_6 6 rfl rfl)
theorem dX5_ages_150 : decode cX5_ages 150 = .ok (.aload_n 0, 1) := dk_42 (dk_at dksX5_ages_6 9 rfl rfl)
theorem dX5_ages_151 : decode cX5_ages 151 = .ok (.iload_n 1, 1) := dk_27 (dk_at dksX5_ages_6 10 rfl rfl)
theorem dX5_ages_152 : decode cX5_ages 152 = .ok (.bipush 7, 2) := dk_16 7 (dk_at dksX5_ages_6 11 rfl rfl)
theorem dX5_ages_154 : decode cX5_ages 154 = .ok (.iload 4, 2) := dk_21 4 (dk_at dksX5_ages_6 13 rfl rfl)
theorem dX5_ages_156 : decode cX5_ages 156 = .ok (.iadd, 1) := dk_96 (dk_at dksX5_ages_6 15 rfl rfl)
theorem dX5_ages_157 : decode cX5_ages 157 = .ok (.iconst 0, 1) := dk_3 (dk_at dksX5_ages_6 16 rfl rfl)
theorem dX5_ages_158 : decode cX5_ages 158 = .ok (.invokevirtual 124, 3) := dk_182 0 124 (dk_at dksX5_ages_6 17 rfl rfl)
theorem dX5_ages_161 : decode cX5_ages 161 = .ok (.iinc 4 1, 3) := dk_132 4 1 (dk_at dksX5_ages_6 20 rfl rfl)
theorem dX5_ages_164 : decode cX5_ages 164 = .ok (.goto (-21), 3) := dk_167 255 235 (dk_at dksX5_ages_7 0 rfl rfl)
theorem dX5_ages_167 : decode cX5_ages 167 = .ok (.return_, 1) := dk_177 (dk_at dksX5_ages_7 3 rfl rfl)
abbrev cX5_bracketOf : ByteArray := prog_12_method_54_code
def yX5_bracketOf : MethodName := ⟨RX5, "bracketOf", "(II)I"⟩
def dkwX5_bracketOf_1 : List UInt8 := [16, 13, 5, 27, 104, 96, 28, 96, 46, 167, 0, 4, 3, 172]
abbrev dktX5_bracketOf_1 : List UInt8 := dkwX5_bracketOf_1 ++ []
def dkwX5_bracketOf_0 : List UInt8 := [42, 42, 27, 182, 0, 99, 4, 28, 3, 4, 184, 0, 73, 5, 182, 0, 191, 153, 0, 19, 42, 180, 0, 9]
abbrev dktX5_bracketOf_0 : List UInt8 := dkwX5_bracketOf_0 ++ dktX5_bracketOf_1
theorem dksX5_bracketOf_0 : cX5_bracketOf.data.toList.drop 0 = dktX5_bracketOf_0 := by decide +kernel
theorem dksX5_bracketOf_1 : cX5_bracketOf.data.toList.drop 24 = dktX5_bracketOf_1 := dk_seg dksX5_bracketOf_0 24 rfl rfl
theorem dX5_bracketOf_0 : decode cX5_bracketOf 0 = .ok (.aload_n 0, 1) := dk_42 (dk_at dksX5_bracketOf_0 0 rfl rfl)
theorem dX5_bracketOf_1 : decode cX5_bracketOf 1 = .ok (.aload_n 0, 1) := dk_42 (dk_at dksX5_bracketOf_0 1 rfl rfl)
theorem dX5_bracketOf_2 : decode cX5_bracketOf 2 = .ok (.iload_n 1, 1) := dk_27 (dk_at dksX5_bracketOf_0 2 rfl rfl)
theorem dX5_bracketOf_3 : decode cX5_bracketOf 3 = .ok (.invokevirtual 99, 3) := dk_182 0 99 (dk_at dksX5_bracketOf_0 3 rfl rfl)
theorem dX5_bracketOf_6 : decode cX5_bracketOf 6 = .ok (.iconst 1, 1) := dk_4 (dk_at dksX5_bracketOf_0 6 rfl rfl)
theorem dX5_bracketOf_7 : decode cX5_bracketOf 7 = .ok (.iload_n 2, 1) := dk_28 (dk_at dksX5_bracketOf_0 7 rfl rfl)
theorem dX5_bracketOf_8 : decode cX5_bracketOf 8 = .ok (.iconst 0, 1) := dk_3 (dk_at dksX5_bracketOf_0 8 rfl rfl)
theorem dX5_bracketOf_9 : decode cX5_bracketOf 9 = .ok (.iconst 1, 1) := dk_4 (dk_at dksX5_bracketOf_0 9 rfl rfl)
theorem dX5_bracketOf_10 : decode cX5_bracketOf 10 = .ok (.invokestatic 73, 3) := dk_184 0 73 (dk_at dksX5_bracketOf_0 10 rfl rfl)
theorem dX5_bracketOf_13 : decode cX5_bracketOf 13 = .ok (.iconst 2, 1) := dk_5 (dk_at dksX5_bracketOf_0 13 rfl rfl)
theorem dX5_bracketOf_14 : decode cX5_bracketOf 14 = .ok (.invokevirtual 191, 3) := dk_182 0 191 (dk_at dksX5_bracketOf_0 14 rfl rfl)
theorem dX5_bracketOf_17 : decode cX5_bracketOf 17 = .ok (.ifCond .eq 19, 3) := dk_153 0 19 (dk_at dksX5_bracketOf_0 17 rfl rfl)
theorem dX5_bracketOf_20 : decode cX5_bracketOf 20 = .ok (.aload_n 0, 1) := dk_42 (dk_at dksX5_bracketOf_0 20 rfl rfl)
theorem dX5_bracketOf_21 : decode cX5_bracketOf 21 = .ok (.getfield 9, 3) := dk_180 0 9 (dk_at dksX5_bracketOf_0 21 rfl rfl)
theorem dX5_bracketOf_24 : decode cX5_bracketOf 24 = .ok (.bipush 13, 2) := dk_16 13 (dk_at dksX5_bracketOf_1 0 rfl rfl)
theorem dX5_bracketOf_26 : decode cX5_bracketOf 26 = .ok (.iconst 2, 1) := dk_5 (dk_at dksX5_bracketOf_1 2 rfl rfl)
theorem dX5_bracketOf_27 : decode cX5_bracketOf 27 = .ok (.iload_n 1, 1) := dk_27 (dk_at dksX5_bracketOf_1 3 rfl rfl)
theorem dX5_bracketOf_28 : decode cX5_bracketOf 28 = .ok (.imul, 1) := dk_104 (dk_at dksX5_bracketOf_1 4 rfl rfl)
theorem dX5_bracketOf_29 : decode cX5_bracketOf 29 = .ok (.iadd, 1) := dk_96 (dk_at dksX5_bracketOf_1 5 rfl rfl)
theorem dX5_bracketOf_30 : decode cX5_bracketOf 30 = .ok (.iload_n 2, 1) := dk_28 (dk_at dksX5_bracketOf_1 6 rfl rfl)
theorem dX5_bracketOf_31 : decode cX5_bracketOf 31 = .ok (.iadd, 1) := dk_96 (dk_at dksX5_bracketOf_1 7 rfl rfl)
theorem dX5_bracketOf_32 : decode cX5_bracketOf 32 = .ok (.iaload, 1) := dk_46 (dk_at dksX5_bracketOf_1 8 rfl rfl)
theorem dX5_bracketOf_33 : decode cX5_bracketOf 33 = .ok (.goto 4, 3) := dk_167 0 4 (dk_at dksX5_bracketOf_1 9 rfl rfl)
theorem dX5_bracketOf_36 : decode cX5_bracketOf 36 = .ok (.iconst 0, 1) := dk_3 (dk_at dksX5_bracketOf_1 12 rfl rfl)
theorem dX5_bracketOf_37 : decode cX5_bracketOf 37 = .ok (.ireturn, 1) := dk_172 (dk_at dksX5_bracketOf_1 13 rfl rfl)
abbrev cX5_goes : ByteArray := prog_12_method_53_code
def yX5_goes : MethodName := ⟨RX5, "goes", "(ZIZI)Z"⟩
def dkwX5_goes_1 : List UInt8 := [180, 0, 38, 154, 0, 7, 4, 167, 0, 4, 3, 172]
abbrev dktX5_goes_1 : List UInt8 := dkwX5_goes_1 ++ []
def dkwX5_goes_0 : List UInt8 := [42, 27, 154, 0, 7, 28, 167, 0, 13, 29, 154, 0, 8, 21, 4, 167, 0, 4, 3, 181, 0, 38, 42]
abbrev dktX5_goes_0 : List UInt8 := dkwX5_goes_0 ++ dktX5_goes_1
theorem dksX5_goes_0 : cX5_goes.data.toList.drop 0 = dktX5_goes_0 := by decide +kernel
theorem dksX5_goes_1 : cX5_goes.data.toList.drop 23 = dktX5_goes_1 := dk_seg dksX5_goes_0 23 rfl rfl
theorem dX5_goes_0 : decode cX5_goes 0 = .ok (.aload_n 0, 1) := dk_42 (dk_at dksX5_goes_0 0 rfl rfl)
theorem dX5_goes_1 : decode cX5_goes 1 = .ok (.iload_n 1, 1) := dk_27 (dk_at dksX5_goes_0 1 rfl rfl)
theorem dX5_goes_2 : decode cX5_goes 2 = .ok (.ifCond .ne 7, 3) := dk_154 0 7 (dk_at dksX5_goes_0 2 rfl rfl)
theorem dX5_goes_5 : decode cX5_goes 5 = .ok (.iload_n 2, 1) := dk_28 (dk_at dksX5_goes_0 5 rfl rfl)
theorem dX5_goes_6 : decode cX5_goes 6 = .ok (.goto 13, 3) := dk_167 0 13 (dk_at dksX5_goes_0 6 rfl rfl)
theorem dX5_goes_9 : decode cX5_goes 9 = .ok (.iload_n 3, 1) := dk_29 (dk_at dksX5_goes_0 9 rfl rfl)
theorem dX5_goes_10 : decode cX5_goes 10 = .ok (.ifCond .ne 8, 3) := dk_154 0 8 (dk_at dksX5_goes_0 10 rfl rfl)
theorem dX5_goes_13 : decode cX5_goes 13 = .ok (.iload 4, 2) := dk_21 4 (dk_at dksX5_goes_0 13 rfl rfl)
theorem dX5_goes_15 : decode cX5_goes 15 = .ok (.goto 4, 3) := dk_167 0 4 (dk_at dksX5_goes_0 15 rfl rfl)
theorem dX5_goes_18 : decode cX5_goes 18 = .ok (.iconst 0, 1) := dk_3 (dk_at dksX5_goes_0 18 rfl rfl)
theorem dX5_goes_19 : decode cX5_goes 19 = .ok (.putfield 38, 3) := dk_181 0 38 (dk_at dksX5_goes_0 19 rfl rfl)
theorem dX5_goes_22 : decode cX5_goes 22 = .ok (.aload_n 0, 1) := dk_42 (dk_at dksX5_goes_0 22 rfl rfl)
theorem dX5_goes_23 : decode cX5_goes 23 = .ok (.getfield 38, 3) := dk_180 0 38 (dk_at dksX5_goes_1 0 rfl rfl)
theorem dX5_goes_26 : decode cX5_goes 26 = .ok (.ifCond .ne 7, 3) := dk_154 0 7 (dk_at dksX5_goes_1 3 rfl rfl)
theorem dX5_goes_29 : decode cX5_goes 29 = .ok (.iconst 1, 1) := dk_4 (dk_at dksX5_goes_1 6 rfl rfl)
theorem dX5_goes_30 : decode cX5_goes 30 = .ok (.goto 4, 3) := dk_167 0 4 (dk_at dksX5_goes_1 7 rfl rfl)
theorem dX5_goes_33 : decode cX5_goes 33 = .ok (.iconst 0, 1) := dk_3 (dk_at dksX5_goes_1 10 rfl rfl)
theorem dX5_goes_34 : decode cX5_goes 34 = .ok (.ireturn, 1) := dk_172 (dk_at dksX5_goes_1 11 rfl rfl)
abbrev cX5_bracketAt : ByteArray := prog_12_method_55_code
def yX5_bracketAt : MethodName := ⟨RX5, "bracketAt", "(I)I"⟩
def dkwX5_bracketAt_2 : List UInt8 := [61, 132, 3, 1, 167, 255, 228, 42, 180, 0, 38, 154, 0, 7, 28, 167, 0, 4, 3, 172]
abbrev dktX5_bracketAt_2 : List UInt8 := dkwX5_bracketAt_2 ++ []
def dkwX5_bracketAt_1 : List UInt8 := [29, 42, 180, 0, 9, 4, 46, 162, 0, 24, 42, 29, 182, 0, 85, 27, 162, 0, 7, 29, 167, 0, 4, 28]
abbrev dktX5_bracketAt_1 : List UInt8 := dkwX5_bracketAt_1 ++ dktX5_bracketAt_2
def dkwX5_bracketAt_0 : List UInt8 := [42, 27, 4, 17, 39, 15, 184, 0, 73, 153, 0, 7, 3, 167, 0, 4, 4, 181, 0, 38, 3, 61, 3, 62]
abbrev dktX5_bracketAt_0 : List UInt8 := dkwX5_bracketAt_0 ++ dktX5_bracketAt_1
theorem dksX5_bracketAt_0 : cX5_bracketAt.data.toList.drop 0 = dktX5_bracketAt_0 := by decide +kernel
theorem dksX5_bracketAt_1 : cX5_bracketAt.data.toList.drop 24 = dktX5_bracketAt_1 := dk_seg dksX5_bracketAt_0 24 rfl rfl
theorem dksX5_bracketAt_2 : cX5_bracketAt.data.toList.drop 48 = dktX5_bracketAt_2 := dk_seg dksX5_bracketAt_1 24 rfl rfl
theorem dX5_bracketAt_0 : decode cX5_bracketAt 0 = .ok (.aload_n 0, 1) := dk_42 (dk_at dksX5_bracketAt_0 0 rfl rfl)
theorem dX5_bracketAt_1 : decode cX5_bracketAt 1 = .ok (.iload_n 1, 1) := dk_27 (dk_at dksX5_bracketAt_0 1 rfl rfl)
theorem dX5_bracketAt_2 : decode cX5_bracketAt 2 = .ok (.iconst 1, 1) := dk_4 (dk_at dksX5_bracketAt_0 2 rfl rfl)
theorem dX5_bracketAt_3 : decode cX5_bracketAt 3 = .ok (.sipush 9999, 3) := dk_17 39 15 (dk_at dksX5_bracketAt_0 3 rfl rfl)
theorem dX5_bracketAt_6 : decode cX5_bracketAt 6 = .ok (.invokestatic 73, 3) := dk_184 0 73 (dk_at dksX5_bracketAt_0 6 rfl rfl)
theorem dX5_bracketAt_9 : decode cX5_bracketAt 9 = .ok (.ifCond .eq 7, 3) := dk_153 0 7 (dk_at dksX5_bracketAt_0 9 rfl rfl)
theorem dX5_bracketAt_12 : decode cX5_bracketAt 12 = .ok (.iconst 0, 1) := dk_3 (dk_at dksX5_bracketAt_0 12 rfl rfl)
theorem dX5_bracketAt_13 : decode cX5_bracketAt 13 = .ok (.goto 4, 3) := dk_167 0 4 (dk_at dksX5_bracketAt_0 13 rfl rfl)
theorem dX5_bracketAt_16 : decode cX5_bracketAt 16 = .ok (.iconst 1, 1) := dk_4 (dk_at dksX5_bracketAt_0 16 rfl rfl)
theorem dX5_bracketAt_17 : decode cX5_bracketAt 17 = .ok (.putfield 38, 3) := dk_181 0 38 (dk_at dksX5_bracketAt_0 17 rfl rfl)
theorem dX5_bracketAt_20 : decode cX5_bracketAt 20 = .ok (.iconst 0, 1) := dk_3 (dk_at dksX5_bracketAt_0 20 rfl rfl)
theorem dX5_bracketAt_21 : decode cX5_bracketAt 21 = .ok (.istore_n 2, 1) := dk_61 (dk_at dksX5_bracketAt_0 21 rfl rfl)
theorem dX5_bracketAt_22 : decode cX5_bracketAt 22 = .ok (.iconst 0, 1) := dk_3 (dk_at dksX5_bracketAt_0 22 rfl rfl)
theorem dX5_bracketAt_23 : decode cX5_bracketAt 23 = .ok (.istore_n 3, 1) := dk_62 (dk_at dksX5_bracketAt_0 23 rfl rfl)
theorem dX5_bracketAt_24 : decode cX5_bracketAt 24 = .ok (.iload_n 3, 1) := dk_29 (dk_at dksX5_bracketAt_1 0 rfl rfl)
theorem dX5_bracketAt_25 : decode cX5_bracketAt 25 = .ok (.aload_n 0, 1) := dk_42 (dk_at dksX5_bracketAt_1 1 rfl rfl)
theorem dX5_bracketAt_26 : decode cX5_bracketAt 26 = .ok (.getfield 9, 3) := dk_180 0 9 (dk_at dksX5_bracketAt_1 2 rfl rfl)
theorem dX5_bracketAt_29 : decode cX5_bracketAt 29 = .ok (.iconst 1, 1) := dk_4 (dk_at dksX5_bracketAt_1 5 rfl rfl)
theorem dX5_bracketAt_30 : decode cX5_bracketAt 30 = .ok (.iaload, 1) := dk_46 (dk_at dksX5_bracketAt_1 6 rfl rfl)
theorem dX5_bracketAt_31 : decode cX5_bracketAt 31 = .ok (.if_icmp .ge 24, 3) := dk_162 0 24 (dk_at dksX5_bracketAt_1 7 rfl rfl)
theorem dX5_bracketAt_34 : decode cX5_bracketAt 34 = .ok (.aload_n 0, 1) := dk_42 (dk_at dksX5_bracketAt_1 10 rfl rfl)
theorem dX5_bracketAt_35 : decode cX5_bracketAt 35 = .ok (.iload_n 3, 1) := dk_29 (dk_at dksX5_bracketAt_1 11 rfl rfl)
theorem dX5_bracketAt_36 : decode cX5_bracketAt 36 = .ok (.invokevirtual 85, 3) := dk_182 0 85 (dk_at dksX5_bracketAt_1 12 rfl rfl)
theorem dX5_bracketAt_39 : decode cX5_bracketAt 39 = .ok (.iload_n 1, 1) := dk_27 (dk_at dksX5_bracketAt_1 15 rfl rfl)
theorem dX5_bracketAt_40 : decode cX5_bracketAt 40 = .ok (.if_icmp .ge 7, 3) := dk_162 0 7 (dk_at dksX5_bracketAt_1 16 rfl rfl)
theorem dX5_bracketAt_43 : decode cX5_bracketAt 43 = .ok (.iload_n 3, 1) := dk_29 (dk_at dksX5_bracketAt_1 19 rfl rfl)
theorem dX5_bracketAt_44 : decode cX5_bracketAt 44 = .ok (.goto 4, 3) := dk_167 0 4 (dk_at dksX5_bracketAt_1 20 rfl rfl)
theorem dX5_bracketAt_47 : decode cX5_bracketAt 47 = .ok (.iload_n 2, 1) := dk_28 (dk_at dksX5_bracketAt_1 23 rfl rfl)
theorem dX5_bracketAt_48 : decode cX5_bracketAt 48 = .ok (.istore_n 2, 1) := dk_61 (dk_at dksX5_bracketAt_2 0 rfl rfl)
theorem dX5_bracketAt_49 : decode cX5_bracketAt 49 = .ok (.iinc 3 1, 3) := dk_132 3 1 (dk_at dksX5_bracketAt_2 1 rfl rfl)
theorem dX5_bracketAt_52 : decode cX5_bracketAt 52 = .ok (.goto (-28), 3) := dk_167 255 228 (dk_at dksX5_bracketAt_2 4 rfl rfl)
theorem dX5_bracketAt_55 : decode cX5_bracketAt 55 = .ok (.aload_n 0, 1) := dk_42 (dk_at dksX5_bracketAt_2 7 rfl rfl)
theorem dX5_bracketAt_56 : decode cX5_bracketAt 56 = .ok (.getfield 38, 3) := dk_180 0 38 (dk_at dksX5_bracketAt_2 8 rfl rfl)
theorem dX5_bracketAt_59 : decode cX5_bracketAt 59 = .ok (.ifCond .ne 7, 3) := dk_154 0 7 (dk_at dksX5_bracketAt_2 11 rfl rfl)
theorem dX5_bracketAt_62 : decode cX5_bracketAt 62 = .ok (.iload_n 2, 1) := dk_28 (dk_at dksX5_bracketAt_2 14 rfl rfl)
theorem dX5_bracketAt_63 : decode cX5_bracketAt 63 = .ok (.goto 4, 3) := dk_167 0 4 (dk_at dksX5_bracketAt_2 15 rfl rfl)
theorem dX5_bracketAt_66 : decode cX5_bracketAt 66 = .ok (.iconst 0, 1) := dk_3 (dk_at dksX5_bracketAt_2 18 rfl rfl)
theorem dX5_bracketAt_67 : decode cX5_bracketAt 67 = .ok (.ireturn, 1) := dk_172 (dk_at dksX5_bracketAt_2 19 rfl rfl)
abbrev cX5_citizenOf : ByteArray := prog_12_method_56_code
def yX5_citizenOf : MethodName := ⟨RX5, "citizenOf", "(II)I"⟩
def dkwX5_citizenOf_3 : List UInt8 := [182, 0, 168, 172, 42, 27, 6, 28, 96, 16, 6, 100, 182, 0, 118, 172]
abbrev dktX5_citizenOf_3 : List UInt8 := dkwX5_citizenOf_3 ++ []
def dkwX5_citizenOf_2 : List UInt8 := [42, 27, 28, 182, 0, 118, 172, 42, 27, 3, 182, 0, 161, 172, 42, 27, 182, 0, 171, 172, 42, 27]
abbrev dktX5_citizenOf_2 : List UInt8 := dkwX5_citizenOf_2 ++ dktX5_citizenOf_3
def dkwX5_citizenOf_1 : List UInt8 := [170, 0, 0, 0, 0, 0, 0, 66, 0, 0, 0, 0, 0, 0, 0, 5, 0, 0, 0, 40, 0, 0, 0, 40, 0, 0, 0, 40, 0, 0, 0, 47, 0, 0, 0, 54, 0, 0, 0, 60]
abbrev dktX5_citizenOf_1 : List UInt8 := dkwX5_citizenOf_1 ++ dktX5_citizenOf_2
def dkwX5_citizenOf_0 : List UInt8 := [42, 42, 27, 182, 0, 121, 4, 28, 3, 16, 8, 184, 0, 73, 5, 182, 0, 191, 154, 0, 5, 3, 172, 28]
abbrev dktX5_citizenOf_0 : List UInt8 := dkwX5_citizenOf_0 ++ dktX5_citizenOf_1
theorem dksX5_citizenOf_0 : cX5_citizenOf.data.toList.drop 0 = dktX5_citizenOf_0 := by decide +kernel
theorem dksX5_citizenOf_1 : cX5_citizenOf.data.toList.drop 24 = dktX5_citizenOf_1 := dk_seg dksX5_citizenOf_0 24 rfl rfl
theorem dksX5_citizenOf_2 : cX5_citizenOf.data.toList.drop 64 = dktX5_citizenOf_2 := dk_seg dksX5_citizenOf_1 40 rfl rfl
theorem dksX5_citizenOf_3 : cX5_citizenOf.data.toList.drop 86 = dktX5_citizenOf_3 := dk_seg dksX5_citizenOf_2 22 rfl rfl
theorem dX5_citizenOf_0 : decode cX5_citizenOf 0 = .ok (.aload_n 0, 1) := dk_42 (dk_at dksX5_citizenOf_0 0 rfl rfl)
theorem dX5_citizenOf_1 : decode cX5_citizenOf 1 = .ok (.aload_n 0, 1) := dk_42 (dk_at dksX5_citizenOf_0 1 rfl rfl)
theorem dX5_citizenOf_2 : decode cX5_citizenOf 2 = .ok (.iload_n 1, 1) := dk_27 (dk_at dksX5_citizenOf_0 2 rfl rfl)
theorem dX5_citizenOf_3 : decode cX5_citizenOf 3 = .ok (.invokevirtual 121, 3) := dk_182 0 121 (dk_at dksX5_citizenOf_0 3 rfl rfl)
theorem dX5_citizenOf_6 : decode cX5_citizenOf 6 = .ok (.iconst 1, 1) := dk_4 (dk_at dksX5_citizenOf_0 6 rfl rfl)
theorem dX5_citizenOf_7 : decode cX5_citizenOf 7 = .ok (.iload_n 2, 1) := dk_28 (dk_at dksX5_citizenOf_0 7 rfl rfl)
theorem dX5_citizenOf_8 : decode cX5_citizenOf 8 = .ok (.iconst 0, 1) := dk_3 (dk_at dksX5_citizenOf_0 8 rfl rfl)
theorem dX5_citizenOf_9 : decode cX5_citizenOf 9 = .ok (.bipush 8, 2) := dk_16 8 (dk_at dksX5_citizenOf_0 9 rfl rfl)
theorem dX5_citizenOf_11 : decode cX5_citizenOf 11 = .ok (.invokestatic 73, 3) := dk_184 0 73 (dk_at dksX5_citizenOf_0 11 rfl rfl)
theorem dX5_citizenOf_14 : decode cX5_citizenOf 14 = .ok (.iconst 2, 1) := dk_5 (dk_at dksX5_citizenOf_0 14 rfl rfl)
theorem dX5_citizenOf_15 : decode cX5_citizenOf 15 = .ok (.invokevirtual 191, 3) := dk_182 0 191 (dk_at dksX5_citizenOf_0 15 rfl rfl)
theorem dX5_citizenOf_18 : decode cX5_citizenOf 18 = .ok (.ifCond .ne 5, 3) := dk_154 0 5 (dk_at dksX5_citizenOf_0 18 rfl rfl)
theorem dX5_citizenOf_21 : decode cX5_citizenOf 21 = .ok (.iconst 0, 1) := dk_3 (dk_at dksX5_citizenOf_0 21 rfl rfl)
theorem dX5_citizenOf_22 : decode cX5_citizenOf 22 = .ok (.ireturn, 1) := dk_172 (dk_at dksX5_citizenOf_0 22 rfl rfl)
theorem dX5_citizenOf_23 : decode cX5_citizenOf 23 = .ok (.iload_n 2, 1) := dk_28 (dk_at dksX5_citizenOf_0 23 rfl rfl)
theorem dX5_citizenOf_24 : decode cX5_citizenOf 24 = .ok (.tableswitch 66 0 5 #[40, 40, 40, 47, 54, 60], 40) := by decide +kernel
theorem dX5_citizenOf_64 : decode cX5_citizenOf 64 = .ok (.aload_n 0, 1) := dk_42 (dk_at dksX5_citizenOf_2 0 rfl rfl)
theorem dX5_citizenOf_65 : decode cX5_citizenOf 65 = .ok (.iload_n 1, 1) := dk_27 (dk_at dksX5_citizenOf_2 1 rfl rfl)
theorem dX5_citizenOf_66 : decode cX5_citizenOf 66 = .ok (.iload_n 2, 1) := dk_28 (dk_at dksX5_citizenOf_2 2 rfl rfl)
theorem dX5_citizenOf_67 : decode cX5_citizenOf 67 = .ok (.invokevirtual 118, 3) := dk_182 0 118 (dk_at dksX5_citizenOf_2 3 rfl rfl)
theorem dX5_citizenOf_70 : decode cX5_citizenOf 70 = .ok (.ireturn, 1) := dk_172 (dk_at dksX5_citizenOf_2 6 rfl rfl)
theorem dX5_citizenOf_71 : decode cX5_citizenOf 71 = .ok (.aload_n 0, 1) := dk_42 (dk_at dksX5_citizenOf_2 7 rfl rfl)
theorem dX5_citizenOf_72 : decode cX5_citizenOf 72 = .ok (.iload_n 1, 1) := dk_27 (dk_at dksX5_citizenOf_2 8 rfl rfl)
theorem dX5_citizenOf_73 : decode cX5_citizenOf 73 = .ok (.iconst 0, 1) := dk_3 (dk_at dksX5_citizenOf_2 9 rfl rfl)
theorem dX5_citizenOf_74 : decode cX5_citizenOf 74 = .ok (.invokevirtual 161, 3) := dk_182 0 161 (dk_at dksX5_citizenOf_2 10 rfl rfl)
theorem dX5_citizenOf_77 : decode cX5_citizenOf 77 = .ok (.ireturn, 1) := dk_172 (dk_at dksX5_citizenOf_2 13 rfl rfl)
theorem dX5_citizenOf_78 : decode cX5_citizenOf 78 = .ok (.aload_n 0, 1) := dk_42 (dk_at dksX5_citizenOf_2 14 rfl rfl)
theorem dX5_citizenOf_79 : decode cX5_citizenOf 79 = .ok (.iload_n 1, 1) := dk_27 (dk_at dksX5_citizenOf_2 15 rfl rfl)
theorem dX5_citizenOf_80 : decode cX5_citizenOf 80 = .ok (.invokevirtual 171, 3) := dk_182 0 171 (dk_at dksX5_citizenOf_2 16 rfl rfl)
theorem dX5_citizenOf_83 : decode cX5_citizenOf 83 = .ok (.ireturn, 1) := dk_172 (dk_at dksX5_citizenOf_2 19 rfl rfl)
theorem dX5_citizenOf_84 : decode cX5_citizenOf 84 = .ok (.aload_n 0, 1) := dk_42 (dk_at dksX5_citizenOf_2 20 rfl rfl)
theorem dX5_citizenOf_85 : decode cX5_citizenOf 85 = .ok (.iload_n 1, 1) := dk_27 (dk_at dksX5_citizenOf_2 21 rfl rfl)
theorem dX5_citizenOf_86 : decode cX5_citizenOf 86 = .ok (.invokevirtual 168, 3) := dk_182 0 168 (dk_at dksX5_citizenOf_3 0 rfl rfl)
theorem dX5_citizenOf_89 : decode cX5_citizenOf 89 = .ok (.ireturn, 1) := dk_172 (dk_at dksX5_citizenOf_3 3 rfl rfl)
theorem dX5_citizenOf_90 : decode cX5_citizenOf 90 = .ok (.aload_n 0, 1) := dk_42 (dk_at dksX5_citizenOf_3 4 rfl rfl)
theorem dX5_citizenOf_91 : decode cX5_citizenOf 91 = .ok (.iload_n 1, 1) := dk_27 (dk_at dksX5_citizenOf_3 5 rfl rfl)
theorem dX5_citizenOf_92 : decode cX5_citizenOf 92 = .ok (.iconst 3, 1) := dk_6 (dk_at dksX5_citizenOf_3 6 rfl rfl)
theorem dX5_citizenOf_93 : decode cX5_citizenOf 93 = .ok (.iload_n 2, 1) := dk_28 (dk_at dksX5_citizenOf_3 7 rfl rfl)
theorem dX5_citizenOf_94 : decode cX5_citizenOf 94 = .ok (.iadd, 1) := dk_96 (dk_at dksX5_citizenOf_3 8 rfl rfl)
theorem dX5_citizenOf_95 : decode cX5_citizenOf 95 = .ok (.bipush 6, 2) := dk_16 6 (dk_at dksX5_citizenOf_3 9 rfl rfl)
theorem dX5_citizenOf_97 : decode cX5_citizenOf 97 = .ok (.isub, 1) := dk_100 (dk_at dksX5_citizenOf_3 11 rfl rfl)
theorem dX5_citizenOf_98 : decode cX5_citizenOf 98 = .ok (.invokevirtual 118, 3) := dk_182 0 118 (dk_at dksX5_citizenOf_3 12 rfl rfl)
theorem dX5_citizenOf_101 : decode cX5_citizenOf 101 = .ok (.ireturn, 1) := dk_172 (dk_at dksX5_citizenOf_3 15 rfl rfl)
abbrev cX5_carried : ByteArray := prog_12_method_45_code
def yX5_carried : MethodName := ⟨RX5, "carried", "(I)I"⟩
def dkwX5_carried_1 : List UInt8 := [182, 0, 118, 96, 61, 132, 3, 1, 167, 255, 228, 28, 172]
abbrev dktX5_carried_1 : List UInt8 := dkwX5_carried_1 ++ []
def dkwX5_carried_0 : List UInt8 := [3, 61, 3, 62, 29, 42, 27, 16, 6, 182, 0, 118, 162, 0, 23, 28, 42, 27, 16, 7, 5, 29, 104, 96]
abbrev dktX5_carried_0 : List UInt8 := dkwX5_carried_0 ++ dktX5_carried_1
theorem dksX5_carried_0 : cX5_carried.data.toList.drop 0 = dktX5_carried_0 := by decide +kernel
theorem dksX5_carried_1 : cX5_carried.data.toList.drop 24 = dktX5_carried_1 := dk_seg dksX5_carried_0 24 rfl rfl
theorem dX5_carried_0 : decode cX5_carried 0 = .ok (.iconst 0, 1) := dk_3 (dk_at dksX5_carried_0 0 rfl rfl)
theorem dX5_carried_1 : decode cX5_carried 1 = .ok (.istore_n 2, 1) := dk_61 (dk_at dksX5_carried_0 1 rfl rfl)
theorem dX5_carried_2 : decode cX5_carried 2 = .ok (.iconst 0, 1) := dk_3 (dk_at dksX5_carried_0 2 rfl rfl)
theorem dX5_carried_3 : decode cX5_carried 3 = .ok (.istore_n 3, 1) := dk_62 (dk_at dksX5_carried_0 3 rfl rfl)
theorem dX5_carried_4 : decode cX5_carried 4 = .ok (.iload_n 3, 1) := dk_29 (dk_at dksX5_carried_0 4 rfl rfl)
theorem dX5_carried_5 : decode cX5_carried 5 = .ok (.aload_n 0, 1) := dk_42 (dk_at dksX5_carried_0 5 rfl rfl)
theorem dX5_carried_6 : decode cX5_carried 6 = .ok (.iload_n 1, 1) := dk_27 (dk_at dksX5_carried_0 6 rfl rfl)
theorem dX5_carried_7 : decode cX5_carried 7 = .ok (.bipush 6, 2) := dk_16 6 (dk_at dksX5_carried_0 7 rfl rfl)
theorem dX5_carried_9 : decode cX5_carried 9 = .ok (.invokevirtual 118, 3) := dk_182 0 118 (dk_at dksX5_carried_0 9 rfl rfl)
theorem dX5_carried_12 : decode cX5_carried 12 = .ok (.if_icmp .ge 23, 3) := dk_162 0 23 (dk_at dksX5_carried_0 12 rfl rfl)
theorem dX5_carried_15 : decode cX5_carried 15 = .ok (.iload_n 2, 1) := dk_28 (dk_at dksX5_carried_0 15 rfl rfl)
theorem dX5_carried_16 : decode cX5_carried 16 = .ok (.aload_n 0, 1) := dk_42 (dk_at dksX5_carried_0 16 rfl rfl)
theorem dX5_carried_17 : decode cX5_carried 17 = .ok (.iload_n 1, 1) := dk_27 (dk_at dksX5_carried_0 17 rfl rfl)
theorem dX5_carried_18 : decode cX5_carried 18 = .ok (.bipush 7, 2) := dk_16 7 (dk_at dksX5_carried_0 18 rfl rfl)
theorem dX5_carried_20 : decode cX5_carried 20 = .ok (.iconst 2, 1) := dk_5 (dk_at dksX5_carried_0 20 rfl rfl)
theorem dX5_carried_21 : decode cX5_carried 21 = .ok (.iload_n 3, 1) := dk_29 (dk_at dksX5_carried_0 21 rfl rfl)
theorem dX5_carried_22 : decode cX5_carried 22 = .ok (.imul, 1) := dk_104 (dk_at dksX5_carried_0 22 rfl rfl)
theorem dX5_carried_23 : decode cX5_carried 23 = .ok (.iadd, 1) := dk_96 (dk_at dksX5_carried_0 23 rfl rfl)
theorem dX5_carried_24 : decode cX5_carried 24 = .ok (.invokevirtual 118, 3) := dk_182 0 118 (dk_at dksX5_carried_1 0 rfl rfl)
theorem dX5_carried_27 : decode cX5_carried 27 = .ok (.iadd, 1) := dk_96 (dk_at dksX5_carried_1 3 rfl rfl)
theorem dX5_carried_28 : decode cX5_carried 28 = .ok (.istore_n 2, 1) := dk_61 (dk_at dksX5_carried_1 4 rfl rfl)
theorem dX5_carried_29 : decode cX5_carried 29 = .ok (.iinc 3 1, 3) := dk_132 3 1 (dk_at dksX5_carried_1 5 rfl rfl)
theorem dX5_carried_32 : decode cX5_carried 32 = .ok (.goto (-28), 3) := dk_167 255 228 (dk_at dksX5_carried_1 8 rfl rfl)
theorem dX5_carried_35 : decode cX5_carried 35 = .ok (.iload_n 2, 1) := dk_28 (dk_at dksX5_carried_1 11 rfl rfl)
theorem dX5_carried_36 : decode cX5_carried 36 = .ok (.ireturn, 1) := dk_172 (dk_at dksX5_carried_1 12 rfl rfl)
abbrev cX5_claimOf : ByteArray := prog_12_method_57_code
def yX5_claimOf : MethodName := ⟨RX5, "claimOf", "(IIZ)I"⟩
def dkwX5_claimOf_1 : List UInt8 := [28, 182, 0, 133, 167, 0, 13, 42, 27, 28, 182, 0, 136, 167, 0, 4, 3, 172]
abbrev dktX5_claimOf_1 : List UInt8 := dkwX5_claimOf_1 ++ []
def dkwX5_claimOf_0 : List UInt8 := [42, 42, 27, 182, 0, 121, 4, 28, 184, 0, 112, 4, 182, 0, 191, 153, 0, 25, 29, 153, 0, 12, 42, 27]
abbrev dktX5_claimOf_0 : List UInt8 := dkwX5_claimOf_0 ++ dktX5_claimOf_1
theorem dksX5_claimOf_0 : cX5_claimOf.data.toList.drop 0 = dktX5_claimOf_0 := by decide +kernel
theorem dksX5_claimOf_1 : cX5_claimOf.data.toList.drop 24 = dktX5_claimOf_1 := dk_seg dksX5_claimOf_0 24 rfl rfl
theorem dX5_claimOf_0 : decode cX5_claimOf 0 = .ok (.aload_n 0, 1) := dk_42 (dk_at dksX5_claimOf_0 0 rfl rfl)
theorem dX5_claimOf_1 : decode cX5_claimOf 1 = .ok (.aload_n 0, 1) := dk_42 (dk_at dksX5_claimOf_0 1 rfl rfl)
theorem dX5_claimOf_2 : decode cX5_claimOf 2 = .ok (.iload_n 1, 1) := dk_27 (dk_at dksX5_claimOf_0 2 rfl rfl)
theorem dX5_claimOf_3 : decode cX5_claimOf 3 = .ok (.invokevirtual 121, 3) := dk_182 0 121 (dk_at dksX5_claimOf_0 3 rfl rfl)
theorem dX5_claimOf_6 : decode cX5_claimOf 6 = .ok (.iconst 1, 1) := dk_4 (dk_at dksX5_claimOf_0 6 rfl rfl)
theorem dX5_claimOf_7 : decode cX5_claimOf 7 = .ok (.iload_n 2, 1) := dk_28 (dk_at dksX5_claimOf_0 7 rfl rfl)
theorem dX5_claimOf_8 : decode cX5_claimOf 8 = .ok (.invokestatic 112, 3) := dk_184 0 112 (dk_at dksX5_claimOf_0 8 rfl rfl)
theorem dX5_claimOf_11 : decode cX5_claimOf 11 = .ok (.iconst 1, 1) := dk_4 (dk_at dksX5_claimOf_0 11 rfl rfl)
theorem dX5_claimOf_12 : decode cX5_claimOf 12 = .ok (.invokevirtual 191, 3) := dk_182 0 191 (dk_at dksX5_claimOf_0 12 rfl rfl)
theorem dX5_claimOf_15 : decode cX5_claimOf 15 = .ok (.ifCond .eq 25, 3) := dk_153 0 25 (dk_at dksX5_claimOf_0 15 rfl rfl)
theorem dX5_claimOf_18 : decode cX5_claimOf 18 = .ok (.iload_n 3, 1) := dk_29 (dk_at dksX5_claimOf_0 18 rfl rfl)
theorem dX5_claimOf_19 : decode cX5_claimOf 19 = .ok (.ifCond .eq 12, 3) := dk_153 0 12 (dk_at dksX5_claimOf_0 19 rfl rfl)
theorem dX5_claimOf_22 : decode cX5_claimOf 22 = .ok (.aload_n 0, 1) := dk_42 (dk_at dksX5_claimOf_0 22 rfl rfl)
theorem dX5_claimOf_23 : decode cX5_claimOf 23 = .ok (.iload_n 1, 1) := dk_27 (dk_at dksX5_claimOf_0 23 rfl rfl)
theorem dX5_claimOf_24 : decode cX5_claimOf 24 = .ok (.iload_n 2, 1) := dk_28 (dk_at dksX5_claimOf_1 0 rfl rfl)
theorem dX5_claimOf_25 : decode cX5_claimOf 25 = .ok (.invokevirtual 133, 3) := dk_182 0 133 (dk_at dksX5_claimOf_1 1 rfl rfl)
theorem dX5_claimOf_28 : decode cX5_claimOf 28 = .ok (.goto 13, 3) := dk_167 0 13 (dk_at dksX5_claimOf_1 4 rfl rfl)
theorem dX5_claimOf_31 : decode cX5_claimOf 31 = .ok (.aload_n 0, 1) := dk_42 (dk_at dksX5_claimOf_1 7 rfl rfl)
theorem dX5_claimOf_32 : decode cX5_claimOf 32 = .ok (.iload_n 1, 1) := dk_27 (dk_at dksX5_claimOf_1 8 rfl rfl)
theorem dX5_claimOf_33 : decode cX5_claimOf 33 = .ok (.iload_n 2, 1) := dk_28 (dk_at dksX5_claimOf_1 9 rfl rfl)
theorem dX5_claimOf_34 : decode cX5_claimOf 34 = .ok (.invokevirtual 136, 3) := dk_182 0 136 (dk_at dksX5_claimOf_1 10 rfl rfl)
theorem dX5_claimOf_37 : decode cX5_claimOf 37 = .ok (.goto 4, 3) := dk_167 0 4 (dk_at dksX5_claimOf_1 13 rfl rfl)
theorem dX5_claimOf_40 : decode cX5_claimOf 40 = .ok (.iconst 0, 1) := dk_3 (dk_at dksX5_claimOf_1 16 rfl rfl)
theorem dX5_claimOf_41 : decode cX5_claimOf 41 = .ok (.ireturn, 1) := dk_172 (dk_at dksX5_claimOf_1 17 rfl rfl)
abbrev cX5_carriedOf : ByteArray := prog_12_method_58_code
def yX5_carriedOf : MethodName := ⟨RX5, "carriedOf", "(III)I"⟩
def dkwX5_carriedOf_3 : List UInt8 := [27, 16, 7, 5, 28, 104, 96, 29, 96, 182, 0, 118, 167, 0, 4, 3, 172]
abbrev dktX5_carriedOf_3 : List UInt8 := dkwX5_carriedOf_3 ++ []
def dkwX5_carriedOf_2 : List UInt8 := [3, 4, 184, 0, 73, 153, 0, 7, 3, 167, 0, 4, 6, 181, 0, 38, 42, 180, 0, 38, 154, 0, 19, 42]
abbrev dktX5_carriedOf_2 : List UInt8 := dkwX5_carriedOf_2 ++ dktX5_carriedOf_3
def dkwX5_carriedOf_1 : List UInt8 := [4, 100, 184, 0, 73, 153, 0, 7, 4, 167, 0, 4, 3, 5, 182, 0, 191, 154, 0, 5, 3, 172, 42, 29]
abbrev dktX5_carriedOf_1 : List UInt8 := dkwX5_carriedOf_1 ++ dktX5_carriedOf_2
def dkwX5_carriedOf_0 : List UInt8 := [42, 42, 27, 182, 0, 121, 4, 42, 27, 182, 0, 121, 153, 0, 24, 28, 3, 42, 27, 16, 6, 182, 0, 118]
abbrev dktX5_carriedOf_0 : List UInt8 := dkwX5_carriedOf_0 ++ dktX5_carriedOf_1
theorem dksX5_carriedOf_0 : cX5_carriedOf.data.toList.drop 0 = dktX5_carriedOf_0 := by decide +kernel
theorem dksX5_carriedOf_1 : cX5_carriedOf.data.toList.drop 24 = dktX5_carriedOf_1 := dk_seg dksX5_carriedOf_0 24 rfl rfl
theorem dksX5_carriedOf_2 : cX5_carriedOf.data.toList.drop 48 = dktX5_carriedOf_2 := dk_seg dksX5_carriedOf_1 24 rfl rfl
theorem dksX5_carriedOf_3 : cX5_carriedOf.data.toList.drop 72 = dktX5_carriedOf_3 := dk_seg dksX5_carriedOf_2 24 rfl rfl
theorem dX5_carriedOf_0 : decode cX5_carriedOf 0 = .ok (.aload_n 0, 1) := dk_42 (dk_at dksX5_carriedOf_0 0 rfl rfl)
theorem dX5_carriedOf_1 : decode cX5_carriedOf 1 = .ok (.aload_n 0, 1) := dk_42 (dk_at dksX5_carriedOf_0 1 rfl rfl)
theorem dX5_carriedOf_2 : decode cX5_carriedOf 2 = .ok (.iload_n 1, 1) := dk_27 (dk_at dksX5_carriedOf_0 2 rfl rfl)
theorem dX5_carriedOf_3 : decode cX5_carriedOf 3 = .ok (.invokevirtual 121, 3) := dk_182 0 121 (dk_at dksX5_carriedOf_0 3 rfl rfl)
theorem dX5_carriedOf_6 : decode cX5_carriedOf 6 = .ok (.iconst 1, 1) := dk_4 (dk_at dksX5_carriedOf_0 6 rfl rfl)
theorem dX5_carriedOf_7 : decode cX5_carriedOf 7 = .ok (.aload_n 0, 1) := dk_42 (dk_at dksX5_carriedOf_0 7 rfl rfl)
theorem dX5_carriedOf_8 : decode cX5_carriedOf 8 = .ok (.iload_n 1, 1) := dk_27 (dk_at dksX5_carriedOf_0 8 rfl rfl)
theorem dX5_carriedOf_9 : decode cX5_carriedOf 9 = .ok (.invokevirtual 121, 3) := dk_182 0 121 (dk_at dksX5_carriedOf_0 9 rfl rfl)
theorem dX5_carriedOf_12 : decode cX5_carriedOf 12 = .ok (.ifCond .eq 24, 3) := dk_153 0 24 (dk_at dksX5_carriedOf_0 12 rfl rfl)
theorem dX5_carriedOf_15 : decode cX5_carriedOf 15 = .ok (.iload_n 2, 1) := dk_28 (dk_at dksX5_carriedOf_0 15 rfl rfl)
theorem dX5_carriedOf_16 : decode cX5_carriedOf 16 = .ok (.iconst 0, 1) := dk_3 (dk_at dksX5_carriedOf_0 16 rfl rfl)
theorem dX5_carriedOf_17 : decode cX5_carriedOf 17 = .ok (.aload_n 0, 1) := dk_42 (dk_at dksX5_carriedOf_0 17 rfl rfl)
theorem dX5_carriedOf_18 : decode cX5_carriedOf 18 = .ok (.iload_n 1, 1) := dk_27 (dk_at dksX5_carriedOf_0 18 rfl rfl)
theorem dX5_carriedOf_19 : decode cX5_carriedOf 19 = .ok (.bipush 6, 2) := dk_16 6 (dk_at dksX5_carriedOf_0 19 rfl rfl)
theorem dX5_carriedOf_21 : decode cX5_carriedOf 21 = .ok (.invokevirtual 118, 3) := dk_182 0 118 (dk_at dksX5_carriedOf_0 21 rfl rfl)
theorem dX5_carriedOf_24 : decode cX5_carriedOf 24 = .ok (.iconst 1, 1) := dk_4 (dk_at dksX5_carriedOf_1 0 rfl rfl)
theorem dX5_carriedOf_25 : decode cX5_carriedOf 25 = .ok (.isub, 1) := dk_100 (dk_at dksX5_carriedOf_1 1 rfl rfl)
theorem dX5_carriedOf_26 : decode cX5_carriedOf 26 = .ok (.invokestatic 73, 3) := dk_184 0 73 (dk_at dksX5_carriedOf_1 2 rfl rfl)
theorem dX5_carriedOf_29 : decode cX5_carriedOf 29 = .ok (.ifCond .eq 7, 3) := dk_153 0 7 (dk_at dksX5_carriedOf_1 5 rfl rfl)
theorem dX5_carriedOf_32 : decode cX5_carriedOf 32 = .ok (.iconst 1, 1) := dk_4 (dk_at dksX5_carriedOf_1 8 rfl rfl)
theorem dX5_carriedOf_33 : decode cX5_carriedOf 33 = .ok (.goto 4, 3) := dk_167 0 4 (dk_at dksX5_carriedOf_1 9 rfl rfl)
theorem dX5_carriedOf_36 : decode cX5_carriedOf 36 = .ok (.iconst 0, 1) := dk_3 (dk_at dksX5_carriedOf_1 12 rfl rfl)
theorem dX5_carriedOf_37 : decode cX5_carriedOf 37 = .ok (.iconst 2, 1) := dk_5 (dk_at dksX5_carriedOf_1 13 rfl rfl)
theorem dX5_carriedOf_38 : decode cX5_carriedOf 38 = .ok (.invokevirtual 191, 3) := dk_182 0 191 (dk_at dksX5_carriedOf_1 14 rfl rfl)
theorem dX5_carriedOf_41 : decode cX5_carriedOf 41 = .ok (.ifCond .ne 5, 3) := dk_154 0 5 (dk_at dksX5_carriedOf_1 17 rfl rfl)
theorem dX5_carriedOf_44 : decode cX5_carriedOf 44 = .ok (.iconst 0, 1) := dk_3 (dk_at dksX5_carriedOf_1 20 rfl rfl)
theorem dX5_carriedOf_45 : decode cX5_carriedOf 45 = .ok (.ireturn, 1) := dk_172 (dk_at dksX5_carriedOf_1 21 rfl rfl)
theorem dX5_carriedOf_46 : decode cX5_carriedOf 46 = .ok (.aload_n 0, 1) := dk_42 (dk_at dksX5_carriedOf_1 22 rfl rfl)
theorem dX5_carriedOf_47 : decode cX5_carriedOf 47 = .ok (.iload_n 3, 1) := dk_29 (dk_at dksX5_carriedOf_1 23 rfl rfl)
theorem dX5_carriedOf_48 : decode cX5_carriedOf 48 = .ok (.iconst 0, 1) := dk_3 (dk_at dksX5_carriedOf_2 0 rfl rfl)
theorem dX5_carriedOf_49 : decode cX5_carriedOf 49 = .ok (.iconst 1, 1) := dk_4 (dk_at dksX5_carriedOf_2 1 rfl rfl)
theorem dX5_carriedOf_50 : decode cX5_carriedOf 50 = .ok (.invokestatic 73, 3) := dk_184 0 73 (dk_at dksX5_carriedOf_2 2 rfl rfl)
theorem dX5_carriedOf_53 : decode cX5_carriedOf 53 = .ok (.ifCond .eq 7, 3) := dk_153 0 7 (dk_at dksX5_carriedOf_2 5 rfl rfl)
theorem dX5_carriedOf_56 : decode cX5_carriedOf 56 = .ok (.iconst 0, 1) := dk_3 (dk_at dksX5_carriedOf_2 8 rfl rfl)
theorem dX5_carriedOf_57 : decode cX5_carriedOf 57 = .ok (.goto 4, 3) := dk_167 0 4 (dk_at dksX5_carriedOf_2 9 rfl rfl)
theorem dX5_carriedOf_60 : decode cX5_carriedOf 60 = .ok (.iconst 3, 1) := dk_6 (dk_at dksX5_carriedOf_2 12 rfl rfl)
theorem dX5_carriedOf_61 : decode cX5_carriedOf 61 = .ok (.putfield 38, 3) := dk_181 0 38 (dk_at dksX5_carriedOf_2 13 rfl rfl)
theorem dX5_carriedOf_64 : decode cX5_carriedOf 64 = .ok (.aload_n 0, 1) := dk_42 (dk_at dksX5_carriedOf_2 16 rfl rfl)
theorem dX5_carriedOf_65 : decode cX5_carriedOf 65 = .ok (.getfield 38, 3) := dk_180 0 38 (dk_at dksX5_carriedOf_2 17 rfl rfl)
theorem dX5_carriedOf_68 : decode cX5_carriedOf 68 = .ok (.ifCond .ne 19, 3) := dk_154 0 19 (dk_at dksX5_carriedOf_2 20 rfl rfl)
theorem dX5_carriedOf_71 : decode cX5_carriedOf 71 = .ok (.aload_n 0, 1) := dk_42 (dk_at dksX5_carriedOf_2 23 rfl rfl)
theorem dX5_carriedOf_72 : decode cX5_carriedOf 72 = .ok (.iload_n 1, 1) := dk_27 (dk_at dksX5_carriedOf_3 0 rfl rfl)
theorem dX5_carriedOf_73 : decode cX5_carriedOf 73 = .ok (.bipush 7, 2) := dk_16 7 (dk_at dksX5_carriedOf_3 1 rfl rfl)
theorem dX5_carriedOf_75 : decode cX5_carriedOf 75 = .ok (.iconst 2, 1) := dk_5 (dk_at dksX5_carriedOf_3 3 rfl rfl)
theorem dX5_carriedOf_76 : decode cX5_carriedOf 76 = .ok (.iload_n 2, 1) := dk_28 (dk_at dksX5_carriedOf_3 4 rfl rfl)
theorem dX5_carriedOf_77 : decode cX5_carriedOf 77 = .ok (.imul, 1) := dk_104 (dk_at dksX5_carriedOf_3 5 rfl rfl)
theorem dX5_carriedOf_78 : decode cX5_carriedOf 78 = .ok (.iadd, 1) := dk_96 (dk_at dksX5_carriedOf_3 6 rfl rfl)
theorem dX5_carriedOf_79 : decode cX5_carriedOf 79 = .ok (.iload_n 3, 1) := dk_29 (dk_at dksX5_carriedOf_3 7 rfl rfl)
theorem dX5_carriedOf_80 : decode cX5_carriedOf 80 = .ok (.iadd, 1) := dk_96 (dk_at dksX5_carriedOf_3 8 rfl rfl)
theorem dX5_carriedOf_81 : decode cX5_carriedOf 81 = .ok (.invokevirtual 118, 3) := dk_182 0 118 (dk_at dksX5_carriedOf_3 9 rfl rfl)
theorem dX5_carriedOf_84 : decode cX5_carriedOf 84 = .ok (.goto 4, 3) := dk_167 0 4 (dk_at dksX5_carriedOf_3 12 rfl rfl)
theorem dX5_carriedOf_87 : decode cX5_carriedOf 87 = .ok (.iconst 0, 1) := dk_3 (dk_at dksX5_carriedOf_3 15 rfl rfl)
theorem dX5_carriedOf_88 : decode cX5_carriedOf 88 = .ok (.ireturn, 1) := dk_172 (dk_at dksX5_carriedOf_3 16 rfl rfl)
abbrev cX5_creditFor : ByteArray := prog_12_method_60_code
def yX5_creditFor : MethodName := ⟨RX5, "creditFor", "(I)I"⟩
def dkwX5_creditFor_1 : List UInt8 := [42, 27, 182, 0, 158, 167, 0, 4, 3, 172]
abbrev dktX5_creditFor_1 : List UInt8 := dkwX5_creditFor_1 ++ []
def dkwX5_creditFor_0 : List UInt8 := [42, 42, 27, 182, 0, 195, 153, 0, 7, 3, 167, 0, 4, 4, 181, 0, 38, 42, 180, 0, 38, 154, 0, 11]
abbrev dktX5_creditFor_0 : List UInt8 := dkwX5_creditFor_0 ++ dktX5_creditFor_1
theorem dksX5_creditFor_0 : cX5_creditFor.data.toList.drop 0 = dktX5_creditFor_0 := by decide +kernel
theorem dksX5_creditFor_1 : cX5_creditFor.data.toList.drop 24 = dktX5_creditFor_1 := dk_seg dksX5_creditFor_0 24 rfl rfl
theorem dX5_creditFor_0 : decode cX5_creditFor 0 = .ok (.aload_n 0, 1) := dk_42 (dk_at dksX5_creditFor_0 0 rfl rfl)
theorem dX5_creditFor_1 : decode cX5_creditFor 1 = .ok (.aload_n 0, 1) := dk_42 (dk_at dksX5_creditFor_0 1 rfl rfl)
theorem dX5_creditFor_2 : decode cX5_creditFor 2 = .ok (.iload_n 1, 1) := dk_27 (dk_at dksX5_creditFor_0 2 rfl rfl)
theorem dX5_creditFor_3 : decode cX5_creditFor 3 = .ok (.invokevirtual 195, 3) := dk_182 0 195 (dk_at dksX5_creditFor_0 3 rfl rfl)
theorem dX5_creditFor_6 : decode cX5_creditFor 6 = .ok (.ifCond .eq 7, 3) := dk_153 0 7 (dk_at dksX5_creditFor_0 6 rfl rfl)
theorem dX5_creditFor_9 : decode cX5_creditFor 9 = .ok (.iconst 0, 1) := dk_3 (dk_at dksX5_creditFor_0 9 rfl rfl)
theorem dX5_creditFor_10 : decode cX5_creditFor 10 = .ok (.goto 4, 3) := dk_167 0 4 (dk_at dksX5_creditFor_0 10 rfl rfl)
theorem dX5_creditFor_13 : decode cX5_creditFor 13 = .ok (.iconst 1, 1) := dk_4 (dk_at dksX5_creditFor_0 13 rfl rfl)
theorem dX5_creditFor_14 : decode cX5_creditFor 14 = .ok (.putfield 38, 3) := dk_181 0 38 (dk_at dksX5_creditFor_0 14 rfl rfl)
theorem dX5_creditFor_17 : decode cX5_creditFor 17 = .ok (.aload_n 0, 1) := dk_42 (dk_at dksX5_creditFor_0 17 rfl rfl)
theorem dX5_creditFor_18 : decode cX5_creditFor 18 = .ok (.getfield 38, 3) := dk_180 0 38 (dk_at dksX5_creditFor_0 18 rfl rfl)
theorem dX5_creditFor_21 : decode cX5_creditFor 21 = .ok (.ifCond .ne 11, 3) := dk_154 0 11 (dk_at dksX5_creditFor_0 21 rfl rfl)
theorem dX5_creditFor_24 : decode cX5_creditFor 24 = .ok (.aload_n 0, 1) := dk_42 (dk_at dksX5_creditFor_1 0 rfl rfl)
theorem dX5_creditFor_25 : decode cX5_creditFor 25 = .ok (.iload_n 1, 1) := dk_27 (dk_at dksX5_creditFor_1 1 rfl rfl)
theorem dX5_creditFor_26 : decode cX5_creditFor 26 = .ok (.invokevirtual 158, 3) := dk_182 0 158 (dk_at dksX5_creditFor_1 2 rfl rfl)
theorem dX5_creditFor_29 : decode cX5_creditFor 29 = .ok (.goto 4, 3) := dk_167 0 4 (dk_at dksX5_creditFor_1 5 rfl rfl)
theorem dX5_creditFor_32 : decode cX5_creditFor 32 = .ok (.iconst 0, 1) := dk_3 (dk_at dksX5_creditFor_1 8 rfl rfl)
theorem dX5_creditFor_33 : decode cX5_creditFor 33 = .ok (.ireturn, 1) := dk_172 (dk_at dksX5_creditFor_1 9 rfl rfl)
abbrev cX5_isIncome : ByteArray := prog_12_method_59_code
def yX5_isIncome : MethodName := ⟨RX5, "isIncome", "(I)Z"⟩
def dkwX5_isIncome_0 : List UInt8 := [27, 3, 17, 39, 15, 184, 0, 73, 172]
abbrev dktX5_isIncome_0 : List UInt8 := dkwX5_isIncome_0 ++ []
theorem dksX5_isIncome_0 : cX5_isIncome.data.toList.drop 0 = dktX5_isIncome_0 := by decide +kernel
theorem dX5_isIncome_0 : decode cX5_isIncome 0 = .ok (.iload_n 1, 1) := dk_27 (dk_at dksX5_isIncome_0 0 rfl rfl)
theorem dX5_isIncome_1 : decode cX5_isIncome 1 = .ok (.iconst 0, 1) := dk_3 (dk_at dksX5_isIncome_0 1 rfl rfl)
theorem dX5_isIncome_2 : decode cX5_isIncome 2 = .ok (.sipush 9999, 3) := dk_17 39 15 (dk_at dksX5_isIncome_0 2 rfl rfl)
theorem dX5_isIncome_5 : decode cX5_isIncome 5 = .ok (.invokestatic 73, 3) := dk_184 0 73 (dk_at dksX5_isIncome_0 5 rfl rfl)
theorem dX5_isIncome_8 : decode cX5_isIncome 8 = .ok (.ireturn, 1) := dk_172 (dk_at dksX5_isIncome_0 8 rfl rfl)
abbrev cX5_taxNow : ByteArray := prog_12_method_61_code
def yX5_taxNow : MethodName := ⟨RX5, "taxNow", "(I)I"⟩
def dkwX5_taxNow_1 : List UInt8 := [182, 0, 198, 167, 0, 4, 3, 172]
abbrev dktX5_taxNow_1 : List UInt8 := dkwX5_taxNow_1 ++ []
def dkwX5_taxNow_0 : List UInt8 := [42, 42, 27, 182, 0, 121, 4, 4, 3, 182, 0, 191, 153, 0, 18, 42, 27, 42, 27, 3, 182, 0, 118, 3]
abbrev dktX5_taxNow_0 : List UInt8 := dkwX5_taxNow_0 ++ dktX5_taxNow_1
theorem dksX5_taxNow_0 : cX5_taxNow.data.toList.drop 0 = dktX5_taxNow_0 := by decide +kernel
theorem dksX5_taxNow_1 : cX5_taxNow.data.toList.drop 24 = dktX5_taxNow_1 := dk_seg dksX5_taxNow_0 24 rfl rfl
theorem dX5_taxNow_0 : decode cX5_taxNow 0 = .ok (.aload_n 0, 1) := dk_42 (dk_at dksX5_taxNow_0 0 rfl rfl)
theorem dX5_taxNow_1 : decode cX5_taxNow 1 = .ok (.aload_n 0, 1) := dk_42 (dk_at dksX5_taxNow_0 1 rfl rfl)
theorem dX5_taxNow_2 : decode cX5_taxNow 2 = .ok (.iload_n 1, 1) := dk_27 (dk_at dksX5_taxNow_0 2 rfl rfl)
theorem dX5_taxNow_3 : decode cX5_taxNow 3 = .ok (.invokevirtual 121, 3) := dk_182 0 121 (dk_at dksX5_taxNow_0 3 rfl rfl)
theorem dX5_taxNow_6 : decode cX5_taxNow 6 = .ok (.iconst 1, 1) := dk_4 (dk_at dksX5_taxNow_0 6 rfl rfl)
theorem dX5_taxNow_7 : decode cX5_taxNow 7 = .ok (.iconst 1, 1) := dk_4 (dk_at dksX5_taxNow_0 7 rfl rfl)
theorem dX5_taxNow_8 : decode cX5_taxNow 8 = .ok (.iconst 0, 1) := dk_3 (dk_at dksX5_taxNow_0 8 rfl rfl)
theorem dX5_taxNow_9 : decode cX5_taxNow 9 = .ok (.invokevirtual 191, 3) := dk_182 0 191 (dk_at dksX5_taxNow_0 9 rfl rfl)
theorem dX5_taxNow_12 : decode cX5_taxNow 12 = .ok (.ifCond .eq 18, 3) := dk_153 0 18 (dk_at dksX5_taxNow_0 12 rfl rfl)
theorem dX5_taxNow_15 : decode cX5_taxNow 15 = .ok (.aload_n 0, 1) := dk_42 (dk_at dksX5_taxNow_0 15 rfl rfl)
theorem dX5_taxNow_16 : decode cX5_taxNow 16 = .ok (.iload_n 1, 1) := dk_27 (dk_at dksX5_taxNow_0 16 rfl rfl)
theorem dX5_taxNow_17 : decode cX5_taxNow 17 = .ok (.aload_n 0, 1) := dk_42 (dk_at dksX5_taxNow_0 17 rfl rfl)
theorem dX5_taxNow_18 : decode cX5_taxNow 18 = .ok (.iload_n 1, 1) := dk_27 (dk_at dksX5_taxNow_0 18 rfl rfl)
theorem dX5_taxNow_19 : decode cX5_taxNow 19 = .ok (.iconst 0, 1) := dk_3 (dk_at dksX5_taxNow_0 19 rfl rfl)
theorem dX5_taxNow_20 : decode cX5_taxNow 20 = .ok (.invokevirtual 118, 3) := dk_182 0 118 (dk_at dksX5_taxNow_0 20 rfl rfl)
theorem dX5_taxNow_23 : decode cX5_taxNow 23 = .ok (.iconst 0, 1) := dk_3 (dk_at dksX5_taxNow_0 23 rfl rfl)
theorem dX5_taxNow_24 : decode cX5_taxNow 24 = .ok (.invokevirtual 198, 3) := dk_182 0 198 (dk_at dksX5_taxNow_1 0 rfl rfl)
theorem dX5_taxNow_27 : decode cX5_taxNow 27 = .ok (.goto 4, 3) := dk_167 0 4 (dk_at dksX5_taxNow_1 3 rfl rfl)
theorem dX5_taxNow_30 : decode cX5_taxNow 30 = .ok (.iconst 0, 1) := dk_3 (dk_at dksX5_taxNow_1 6 rfl rfl)
theorem dX5_taxNow_31 : decode cX5_taxNow 31 = .ok (.ireturn, 1) := dk_172 (dk_at dksX5_taxNow_1 7 rfl rfl)
abbrev cX5_taxOf : ByteArray := prog_12_method_46_code
def yX5_taxOf : MethodName := ⟨RX5, "taxOf", "(IIZ)I"⟩
def dkwX5_taxOf_1 : List UInt8 := [21, 4, 16, 100, 108, 42, 27, 182, 0, 168, 100, 184, 0, 155, 172]
abbrev dktX5_taxOf_1 : List UInt8 := dkwX5_taxOf_1 ++ []
def dkwX5_taxOf_0 : List UInt8 := [42, 28, 42, 27, 29, 182, 0, 161, 182, 0, 165, 54, 4, 21, 4, 157, 0, 7, 3, 167, 0, 18, 3]
abbrev dktX5_taxOf_0 : List UInt8 := dkwX5_taxOf_0 ++ dktX5_taxOf_1
theorem dksX5_taxOf_0 : cX5_taxOf.data.toList.drop 0 = dktX5_taxOf_0 := by decide +kernel
theorem dksX5_taxOf_1 : cX5_taxOf.data.toList.drop 23 = dktX5_taxOf_1 := dk_seg dksX5_taxOf_0 23 rfl rfl
theorem dX5_taxOf_0 : decode cX5_taxOf 0 = .ok (.aload_n 0, 1) := dk_42 (dk_at dksX5_taxOf_0 0 rfl rfl)
theorem dX5_taxOf_1 : decode cX5_taxOf 1 = .ok (.iload_n 2, 1) := dk_28 (dk_at dksX5_taxOf_0 1 rfl rfl)
theorem dX5_taxOf_2 : decode cX5_taxOf 2 = .ok (.aload_n 0, 1) := dk_42 (dk_at dksX5_taxOf_0 2 rfl rfl)
theorem dX5_taxOf_3 : decode cX5_taxOf 3 = .ok (.iload_n 1, 1) := dk_27 (dk_at dksX5_taxOf_0 3 rfl rfl)
theorem dX5_taxOf_4 : decode cX5_taxOf 4 = .ok (.iload_n 3, 1) := dk_29 (dk_at dksX5_taxOf_0 4 rfl rfl)
theorem dX5_taxOf_5 : decode cX5_taxOf 5 = .ok (.invokevirtual 161, 3) := dk_182 0 161 (dk_at dksX5_taxOf_0 5 rfl rfl)
theorem dX5_taxOf_8 : decode cX5_taxOf 8 = .ok (.invokevirtual 165, 3) := dk_182 0 165 (dk_at dksX5_taxOf_0 8 rfl rfl)
theorem dX5_taxOf_11 : decode cX5_taxOf 11 = .ok (.istore 4, 2) := dk_54 4 (dk_at dksX5_taxOf_0 11 rfl rfl)
theorem dX5_taxOf_13 : decode cX5_taxOf 13 = .ok (.iload 4, 2) := dk_21 4 (dk_at dksX5_taxOf_0 13 rfl rfl)
theorem dX5_taxOf_15 : decode cX5_taxOf 15 = .ok (.ifCond .gt 7, 3) := dk_157 0 7 (dk_at dksX5_taxOf_0 15 rfl rfl)
theorem dX5_taxOf_18 : decode cX5_taxOf 18 = .ok (.iconst 0, 1) := dk_3 (dk_at dksX5_taxOf_0 18 rfl rfl)
theorem dX5_taxOf_19 : decode cX5_taxOf 19 = .ok (.goto 18, 3) := dk_167 0 18 (dk_at dksX5_taxOf_0 19 rfl rfl)
theorem dX5_taxOf_22 : decode cX5_taxOf 22 = .ok (.iconst 0, 1) := dk_3 (dk_at dksX5_taxOf_0 22 rfl rfl)
theorem dX5_taxOf_23 : decode cX5_taxOf 23 = .ok (.iload 4, 2) := dk_21 4 (dk_at dksX5_taxOf_1 0 rfl rfl)
theorem dX5_taxOf_25 : decode cX5_taxOf 25 = .ok (.bipush 100, 2) := dk_16 100 (dk_at dksX5_taxOf_1 2 rfl rfl)
theorem dX5_taxOf_27 : decode cX5_taxOf 27 = .ok (.idiv, 1) := dk_108 (dk_at dksX5_taxOf_1 4 rfl rfl)
theorem dX5_taxOf_28 : decode cX5_taxOf 28 = .ok (.aload_n 0, 1) := dk_42 (dk_at dksX5_taxOf_1 5 rfl rfl)
theorem dX5_taxOf_29 : decode cX5_taxOf 29 = .ok (.iload_n 1, 1) := dk_27 (dk_at dksX5_taxOf_1 6 rfl rfl)
theorem dX5_taxOf_30 : decode cX5_taxOf 30 = .ok (.invokevirtual 168, 3) := dk_182 0 168 (dk_at dksX5_taxOf_1 7 rfl rfl)
theorem dX5_taxOf_33 : decode cX5_taxOf 33 = .ok (.isub, 1) := dk_100 (dk_at dksX5_taxOf_1 10 rfl rfl)
theorem dX5_taxOf_34 : decode cX5_taxOf 34 = .ok (.invokestatic 155, 3) := dk_184 0 155 (dk_at dksX5_taxOf_1 11 rfl rfl)
theorem dX5_taxOf_37 : decode cX5_taxOf 37 = .ok (.ireturn, 1) := dk_172 (dk_at dksX5_taxOf_1 14 rfl rfl)
abbrev cX5_taxAgain : ByteArray := prog_12_method_62_code
def yX5_taxAgain : MethodName := ⟨RX5, "taxAgain", "(I)I"⟩
def dkwX5_taxAgain_0 : List UInt8 := [42, 27, 182, 0, 201, 172]
abbrev dktX5_taxAgain_0 : List UInt8 := dkwX5_taxAgain_0 ++ []
theorem dksX5_taxAgain_0 : cX5_taxAgain.data.toList.drop 0 = dktX5_taxAgain_0 := by decide +kernel
theorem dX5_taxAgain_0 : decode cX5_taxAgain 0 = .ok (.aload_n 0, 1) := dk_42 (dk_at dksX5_taxAgain_0 0 rfl rfl)
theorem dX5_taxAgain_1 : decode cX5_taxAgain 1 = .ok (.iload_n 1, 1) := dk_27 (dk_at dksX5_taxAgain_0 1 rfl rfl)
theorem dX5_taxAgain_2 : decode cX5_taxAgain 2 = .ok (.invokevirtual 201, 3) := dk_182 0 201 (dk_at dksX5_taxAgain_0 2 rfl rfl)
theorem dX5_taxAgain_5 : decode cX5_taxAgain 5 = .ok (.ireturn, 1) := dk_172 (dk_at dksX5_taxAgain_0 5 rfl rfl)
abbrev cX5_auditCosts : ByteArray := prog_12_method_63_code
def yX5_auditCosts : MethodName := ⟨RX5, "auditCosts", "(I)I"⟩
def dkwX5_auditCosts_2 : List UInt8 := [172]
abbrev dktX5_auditCosts_2 : List UInt8 := dkwX5_auditCosts_2 ++ []
def dkwX5_auditCosts_1 : List UInt8 := [42, 27, 28, 4, 182, 0, 198, 42, 27, 182, 0, 171, 16, 10, 108, 96, 42, 27, 28, 3, 182, 0, 198, 100]
abbrev dktX5_auditCosts_1 : List UInt8 := dkwX5_auditCosts_1 ++ dktX5_auditCosts_2
def dkwX5_auditCosts_0 : List UInt8 := [42, 42, 27, 182, 0, 121, 4, 4, 3, 182, 0, 191, 154, 0, 5, 3, 172, 42, 27, 3, 182, 0, 118, 61]
abbrev dktX5_auditCosts_0 : List UInt8 := dkwX5_auditCosts_0 ++ dktX5_auditCosts_1
theorem dksX5_auditCosts_0 : cX5_auditCosts.data.toList.drop 0 = dktX5_auditCosts_0 := by decide +kernel
theorem dksX5_auditCosts_1 : cX5_auditCosts.data.toList.drop 24 = dktX5_auditCosts_1 := dk_seg dksX5_auditCosts_0 24 rfl rfl
theorem dksX5_auditCosts_2 : cX5_auditCosts.data.toList.drop 48 = dktX5_auditCosts_2 := dk_seg dksX5_auditCosts_1 24 rfl rfl
theorem dX5_auditCosts_0 : decode cX5_auditCosts 0 = .ok (.aload_n 0, 1) := dk_42 (dk_at dksX5_auditCosts_0 0 rfl rfl)
theorem dX5_auditCosts_1 : decode cX5_auditCosts 1 = .ok (.aload_n 0, 1) := dk_42 (dk_at dksX5_auditCosts_0 1 rfl rfl)
theorem dX5_auditCosts_2 : decode cX5_auditCosts 2 = .ok (.iload_n 1, 1) := dk_27 (dk_at dksX5_auditCosts_0 2 rfl rfl)
theorem dX5_auditCosts_3 : decode cX5_auditCosts 3 = .ok (.invokevirtual 121, 3) := dk_182 0 121 (dk_at dksX5_auditCosts_0 3 rfl rfl)
theorem dX5_auditCosts_6 : decode cX5_auditCosts 6 = .ok (.iconst 1, 1) := dk_4 (dk_at dksX5_auditCosts_0 6 rfl rfl)
theorem dX5_auditCosts_7 : decode cX5_auditCosts 7 = .ok (.iconst 1, 1) := dk_4 (dk_at dksX5_auditCosts_0 7 rfl rfl)
theorem dX5_auditCosts_8 : decode cX5_auditCosts 8 = .ok (.iconst 0, 1) := dk_3 (dk_at dksX5_auditCosts_0 8 rfl rfl)
theorem dX5_auditCosts_9 : decode cX5_auditCosts 9 = .ok (.invokevirtual 191, 3) := dk_182 0 191 (dk_at dksX5_auditCosts_0 9 rfl rfl)
theorem dX5_auditCosts_12 : decode cX5_auditCosts 12 = .ok (.ifCond .ne 5, 3) := dk_154 0 5 (dk_at dksX5_auditCosts_0 12 rfl rfl)
theorem dX5_auditCosts_15 : decode cX5_auditCosts 15 = .ok (.iconst 0, 1) := dk_3 (dk_at dksX5_auditCosts_0 15 rfl rfl)
theorem dX5_auditCosts_16 : decode cX5_auditCosts 16 = .ok (.ireturn, 1) := dk_172 (dk_at dksX5_auditCosts_0 16 rfl rfl)
theorem dX5_auditCosts_17 : decode cX5_auditCosts 17 = .ok (.aload_n 0, 1) := dk_42 (dk_at dksX5_auditCosts_0 17 rfl rfl)
theorem dX5_auditCosts_18 : decode cX5_auditCosts 18 = .ok (.iload_n 1, 1) := dk_27 (dk_at dksX5_auditCosts_0 18 rfl rfl)
theorem dX5_auditCosts_19 : decode cX5_auditCosts 19 = .ok (.iconst 0, 1) := dk_3 (dk_at dksX5_auditCosts_0 19 rfl rfl)
theorem dX5_auditCosts_20 : decode cX5_auditCosts 20 = .ok (.invokevirtual 118, 3) := dk_182 0 118 (dk_at dksX5_auditCosts_0 20 rfl rfl)
theorem dX5_auditCosts_23 : decode cX5_auditCosts 23 = .ok (.istore_n 2, 1) := dk_61 (dk_at dksX5_auditCosts_0 23 rfl rfl)
theorem dX5_auditCosts_24 : decode cX5_auditCosts 24 = .ok (.aload_n 0, 1) := dk_42 (dk_at dksX5_auditCosts_1 0 rfl rfl)
theorem dX5_auditCosts_25 : decode cX5_auditCosts 25 = .ok (.iload_n 1, 1) := dk_27 (dk_at dksX5_auditCosts_1 1 rfl rfl)
theorem dX5_auditCosts_26 : decode cX5_auditCosts 26 = .ok (.iload_n 2, 1) := dk_28 (dk_at dksX5_auditCosts_1 2 rfl rfl)
theorem dX5_auditCosts_27 : decode cX5_auditCosts 27 = .ok (.iconst 1, 1) := dk_4 (dk_at dksX5_auditCosts_1 3 rfl rfl)
theorem dX5_auditCosts_28 : decode cX5_auditCosts 28 = .ok (.invokevirtual 198, 3) := dk_182 0 198 (dk_at dksX5_auditCosts_1 4 rfl rfl)
theorem dX5_auditCosts_31 : decode cX5_auditCosts 31 = .ok (.aload_n 0, 1) := dk_42 (dk_at dksX5_auditCosts_1 7 rfl rfl)
theorem dX5_auditCosts_32 : decode cX5_auditCosts 32 = .ok (.iload_n 1, 1) := dk_27 (dk_at dksX5_auditCosts_1 8 rfl rfl)
theorem dX5_auditCosts_33 : decode cX5_auditCosts 33 = .ok (.invokevirtual 171, 3) := dk_182 0 171 (dk_at dksX5_auditCosts_1 9 rfl rfl)
theorem dX5_auditCosts_36 : decode cX5_auditCosts 36 = .ok (.bipush 10, 2) := dk_16 10 (dk_at dksX5_auditCosts_1 12 rfl rfl)
theorem dX5_auditCosts_38 : decode cX5_auditCosts 38 = .ok (.idiv, 1) := dk_108 (dk_at dksX5_auditCosts_1 14 rfl rfl)
theorem dX5_auditCosts_39 : decode cX5_auditCosts 39 = .ok (.iadd, 1) := dk_96 (dk_at dksX5_auditCosts_1 15 rfl rfl)
theorem dX5_auditCosts_40 : decode cX5_auditCosts 40 = .ok (.aload_n 0, 1) := dk_42 (dk_at dksX5_auditCosts_1 16 rfl rfl)
theorem dX5_auditCosts_41 : decode cX5_auditCosts 41 = .ok (.iload_n 1, 1) := dk_27 (dk_at dksX5_auditCosts_1 17 rfl rfl)
theorem dX5_auditCosts_42 : decode cX5_auditCosts 42 = .ok (.iload_n 2, 1) := dk_28 (dk_at dksX5_auditCosts_1 18 rfl rfl)
theorem dX5_auditCosts_43 : decode cX5_auditCosts 43 = .ok (.iconst 0, 1) := dk_3 (dk_at dksX5_auditCosts_1 19 rfl rfl)
theorem dX5_auditCosts_44 : decode cX5_auditCosts 44 = .ok (.invokevirtual 198, 3) := dk_182 0 198 (dk_at dksX5_auditCosts_1 20 rfl rfl)
theorem dX5_auditCosts_47 : decode cX5_auditCosts 47 = .ok (.isub, 1) := dk_100 (dk_at dksX5_auditCosts_1 23 rfl rfl)
theorem dX5_auditCosts_48 : decode cX5_auditCosts 48 = .ok (.ireturn, 1) := dk_172 (dk_at dksX5_auditCosts_2 0 rfl rfl)
abbrev cX5_left : ByteArray := prog_12_method_64_code
def yX5_left : MethodName := ⟨RX5, "left", "(II)I"⟩
def dkwX5_left_1 : List UInt8 := [182, 0, 198, 100, 167, 0, 4, 3, 172]
abbrev dktX5_left_1 : List UInt8 := dkwX5_left_1 ++ []
def dkwX5_left_0 : List UInt8 := [42, 42, 27, 182, 0, 121, 4, 42, 28, 182, 0, 195, 5, 182, 0, 191, 153, 0, 15, 28, 42, 27, 28, 3]
abbrev dktX5_left_0 : List UInt8 := dkwX5_left_0 ++ dktX5_left_1
theorem dksX5_left_0 : cX5_left.data.toList.drop 0 = dktX5_left_0 := by decide +kernel
theorem dksX5_left_1 : cX5_left.data.toList.drop 24 = dktX5_left_1 := dk_seg dksX5_left_0 24 rfl rfl
theorem dX5_left_0 : decode cX5_left 0 = .ok (.aload_n 0, 1) := dk_42 (dk_at dksX5_left_0 0 rfl rfl)
theorem dX5_left_1 : decode cX5_left 1 = .ok (.aload_n 0, 1) := dk_42 (dk_at dksX5_left_0 1 rfl rfl)
theorem dX5_left_2 : decode cX5_left 2 = .ok (.iload_n 1, 1) := dk_27 (dk_at dksX5_left_0 2 rfl rfl)
theorem dX5_left_3 : decode cX5_left 3 = .ok (.invokevirtual 121, 3) := dk_182 0 121 (dk_at dksX5_left_0 3 rfl rfl)
theorem dX5_left_6 : decode cX5_left 6 = .ok (.iconst 1, 1) := dk_4 (dk_at dksX5_left_0 6 rfl rfl)
theorem dX5_left_7 : decode cX5_left 7 = .ok (.aload_n 0, 1) := dk_42 (dk_at dksX5_left_0 7 rfl rfl)
theorem dX5_left_8 : decode cX5_left 8 = .ok (.iload_n 2, 1) := dk_28 (dk_at dksX5_left_0 8 rfl rfl)
theorem dX5_left_9 : decode cX5_left 9 = .ok (.invokevirtual 195, 3) := dk_182 0 195 (dk_at dksX5_left_0 9 rfl rfl)
theorem dX5_left_12 : decode cX5_left 12 = .ok (.iconst 2, 1) := dk_5 (dk_at dksX5_left_0 12 rfl rfl)
theorem dX5_left_13 : decode cX5_left 13 = .ok (.invokevirtual 191, 3) := dk_182 0 191 (dk_at dksX5_left_0 13 rfl rfl)
theorem dX5_left_16 : decode cX5_left 16 = .ok (.ifCond .eq 15, 3) := dk_153 0 15 (dk_at dksX5_left_0 16 rfl rfl)
theorem dX5_left_19 : decode cX5_left 19 = .ok (.iload_n 2, 1) := dk_28 (dk_at dksX5_left_0 19 rfl rfl)
theorem dX5_left_20 : decode cX5_left 20 = .ok (.aload_n 0, 1) := dk_42 (dk_at dksX5_left_0 20 rfl rfl)
theorem dX5_left_21 : decode cX5_left 21 = .ok (.iload_n 1, 1) := dk_27 (dk_at dksX5_left_0 21 rfl rfl)
theorem dX5_left_22 : decode cX5_left 22 = .ok (.iload_n 2, 1) := dk_28 (dk_at dksX5_left_0 22 rfl rfl)
theorem dX5_left_23 : decode cX5_left 23 = .ok (.iconst 0, 1) := dk_3 (dk_at dksX5_left_0 23 rfl rfl)
theorem dX5_left_24 : decode cX5_left 24 = .ok (.invokevirtual 198, 3) := dk_182 0 198 (dk_at dksX5_left_1 0 rfl rfl)
theorem dX5_left_27 : decode cX5_left 27 = .ok (.isub, 1) := dk_100 (dk_at dksX5_left_1 3 rfl rfl)
theorem dX5_left_28 : decode cX5_left 28 = .ok (.goto 4, 3) := dk_167 0 4 (dk_at dksX5_left_1 4 rfl rfl)
theorem dX5_left_31 : decode cX5_left 31 = .ok (.iconst 0, 1) := dk_3 (dk_at dksX5_left_1 7 rfl rfl)
theorem dX5_left_32 : decode cX5_left 32 = .ok (.ireturn, 1) := dk_172 (dk_at dksX5_left_1 8 rfl rfl)
abbrev cX5_margin : ByteArray := prog_12_method_65_code
def yX5_margin : MethodName := ⟨RX5, "margin", "(I)I"⟩
def dkwX5_margin_2 : List UInt8 := [100, 172]
abbrev dktX5_margin_2 : List UInt8 := dkwX5_margin_2 ++ []
def dkwX5_margin_1 : List UInt8 := [42, 42, 27, 3, 182, 0, 118, 4, 96, 28, 182, 0, 165, 42, 42, 27, 3, 182, 0, 118, 28, 182, 0, 165]
abbrev dktX5_margin_1 : List UInt8 := dkwX5_margin_1 ++ dktX5_margin_2
def dkwX5_margin_0 : List UInt8 := [42, 42, 27, 182, 0, 121, 4, 4, 3, 182, 0, 191, 154, 0, 5, 3, 172, 42, 27, 3, 182, 0, 161, 61]
abbrev dktX5_margin_0 : List UInt8 := dkwX5_margin_0 ++ dktX5_margin_1
theorem dksX5_margin_0 : cX5_margin.data.toList.drop 0 = dktX5_margin_0 := by decide +kernel
theorem dksX5_margin_1 : cX5_margin.data.toList.drop 24 = dktX5_margin_1 := dk_seg dksX5_margin_0 24 rfl rfl
theorem dksX5_margin_2 : cX5_margin.data.toList.drop 48 = dktX5_margin_2 := dk_seg dksX5_margin_1 24 rfl rfl
theorem dX5_margin_0 : decode cX5_margin 0 = .ok (.aload_n 0, 1) := dk_42 (dk_at dksX5_margin_0 0 rfl rfl)
theorem dX5_margin_1 : decode cX5_margin 1 = .ok (.aload_n 0, 1) := dk_42 (dk_at dksX5_margin_0 1 rfl rfl)
theorem dX5_margin_2 : decode cX5_margin 2 = .ok (.iload_n 1, 1) := dk_27 (dk_at dksX5_margin_0 2 rfl rfl)
theorem dX5_margin_3 : decode cX5_margin 3 = .ok (.invokevirtual 121, 3) := dk_182 0 121 (dk_at dksX5_margin_0 3 rfl rfl)
theorem dX5_margin_6 : decode cX5_margin 6 = .ok (.iconst 1, 1) := dk_4 (dk_at dksX5_margin_0 6 rfl rfl)
theorem dX5_margin_7 : decode cX5_margin 7 = .ok (.iconst 1, 1) := dk_4 (dk_at dksX5_margin_0 7 rfl rfl)
theorem dX5_margin_8 : decode cX5_margin 8 = .ok (.iconst 0, 1) := dk_3 (dk_at dksX5_margin_0 8 rfl rfl)
theorem dX5_margin_9 : decode cX5_margin 9 = .ok (.invokevirtual 191, 3) := dk_182 0 191 (dk_at dksX5_margin_0 9 rfl rfl)
theorem dX5_margin_12 : decode cX5_margin 12 = .ok (.ifCond .ne 5, 3) := dk_154 0 5 (dk_at dksX5_margin_0 12 rfl rfl)
theorem dX5_margin_15 : decode cX5_margin 15 = .ok (.iconst 0, 1) := dk_3 (dk_at dksX5_margin_0 15 rfl rfl)
theorem dX5_margin_16 : decode cX5_margin 16 = .ok (.ireturn, 1) := dk_172 (dk_at dksX5_margin_0 16 rfl rfl)
theorem dX5_margin_17 : decode cX5_margin 17 = .ok (.aload_n 0, 1) := dk_42 (dk_at dksX5_margin_0 17 rfl rfl)
theorem dX5_margin_18 : decode cX5_margin 18 = .ok (.iload_n 1, 1) := dk_27 (dk_at dksX5_margin_0 18 rfl rfl)
theorem dX5_margin_19 : decode cX5_margin 19 = .ok (.iconst 0, 1) := dk_3 (dk_at dksX5_margin_0 19 rfl rfl)
theorem dX5_margin_20 : decode cX5_margin 20 = .ok (.invokevirtual 161, 3) := dk_182 0 161 (dk_at dksX5_margin_0 20 rfl rfl)
theorem dX5_margin_23 : decode cX5_margin 23 = .ok (.istore_n 2, 1) := dk_61 (dk_at dksX5_margin_0 23 rfl rfl)
theorem dX5_margin_24 : decode cX5_margin 24 = .ok (.aload_n 0, 1) := dk_42 (dk_at dksX5_margin_1 0 rfl rfl)
theorem dX5_margin_25 : decode cX5_margin 25 = .ok (.aload_n 0, 1) := dk_42 (dk_at dksX5_margin_1 1 rfl rfl)
theorem dX5_margin_26 : decode cX5_margin 26 = .ok (.iload_n 1, 1) := dk_27 (dk_at dksX5_margin_1 2 rfl rfl)
theorem dX5_margin_27 : decode cX5_margin 27 = .ok (.iconst 0, 1) := dk_3 (dk_at dksX5_margin_1 3 rfl rfl)
theorem dX5_margin_28 : decode cX5_margin 28 = .ok (.invokevirtual 118, 3) := dk_182 0 118 (dk_at dksX5_margin_1 4 rfl rfl)
theorem dX5_margin_31 : decode cX5_margin 31 = .ok (.iconst 1, 1) := dk_4 (dk_at dksX5_margin_1 7 rfl rfl)
theorem dX5_margin_32 : decode cX5_margin 32 = .ok (.iadd, 1) := dk_96 (dk_at dksX5_margin_1 8 rfl rfl)
theorem dX5_margin_33 : decode cX5_margin 33 = .ok (.iload_n 2, 1) := dk_28 (dk_at dksX5_margin_1 9 rfl rfl)
theorem dX5_margin_34 : decode cX5_margin 34 = .ok (.invokevirtual 165, 3) := dk_182 0 165 (dk_at dksX5_margin_1 10 rfl rfl)
theorem dX5_margin_37 : decode cX5_margin 37 = .ok (.aload_n 0, 1) := dk_42 (dk_at dksX5_margin_1 13 rfl rfl)
theorem dX5_margin_38 : decode cX5_margin 38 = .ok (.aload_n 0, 1) := dk_42 (dk_at dksX5_margin_1 14 rfl rfl)
theorem dX5_margin_39 : decode cX5_margin 39 = .ok (.iload_n 1, 1) := dk_27 (dk_at dksX5_margin_1 15 rfl rfl)
theorem dX5_margin_40 : decode cX5_margin 40 = .ok (.iconst 0, 1) := dk_3 (dk_at dksX5_margin_1 16 rfl rfl)
theorem dX5_margin_41 : decode cX5_margin 41 = .ok (.invokevirtual 118, 3) := dk_182 0 118 (dk_at dksX5_margin_1 17 rfl rfl)
theorem dX5_margin_44 : decode cX5_margin 44 = .ok (.iload_n 2, 1) := dk_28 (dk_at dksX5_margin_1 20 rfl rfl)
theorem dX5_margin_45 : decode cX5_margin 45 = .ok (.invokevirtual 165, 3) := dk_182 0 165 (dk_at dksX5_margin_1 21 rfl rfl)
theorem dX5_margin_48 : decode cX5_margin 48 = .ok (.isub, 1) := dk_100 (dk_at dksX5_margin_2 0 rfl rfl)
theorem dX5_margin_49 : decode cX5_margin 49 = .ok (.ireturn, 1) := dk_172 (dk_at dksX5_margin_2 1 rfl rfl)
abbrev cX5_isNoLoss : ByteArray := prog_12_method_66_code
def yX5_isNoLoss : MethodName := ⟨RX5, "isNoLoss", "(I)Z"⟩
def dkwX5_isNoLoss_2 : List UInt8 := [100, 161, 0, 7, 4, 167, 0, 4, 3, 61, 132, 3, 1, 167, 255, 211, 28, 172]
abbrev dktX5_isNoLoss_2 : List UInt8 := dkwX5_isNoLoss_2 ++ []
def dkwX5_isNoLoss_1 : List UInt8 := [153, 0, 40, 29, 42, 27, 29, 3, 182, 0, 198, 100, 29, 4, 100, 42, 27, 29, 4, 100, 3, 182, 0, 198]
abbrev dktX5_isNoLoss_1 : List UInt8 := dkwX5_isNoLoss_1 ++ dktX5_isNoLoss_2
def dkwX5_isNoLoss_0 : List UInt8 := [42, 42, 27, 182, 0, 121, 4, 4, 3, 182, 0, 191, 61, 4, 62, 29, 17, 39, 15, 163, 0, 44, 28]
abbrev dktX5_isNoLoss_0 : List UInt8 := dkwX5_isNoLoss_0 ++ dktX5_isNoLoss_1
theorem dksX5_isNoLoss_0 : cX5_isNoLoss.data.toList.drop 0 = dktX5_isNoLoss_0 := by decide +kernel
theorem dksX5_isNoLoss_1 : cX5_isNoLoss.data.toList.drop 23 = dktX5_isNoLoss_1 := dk_seg dksX5_isNoLoss_0 23 rfl rfl
theorem dksX5_isNoLoss_2 : cX5_isNoLoss.data.toList.drop 47 = dktX5_isNoLoss_2 := dk_seg dksX5_isNoLoss_1 24 rfl rfl
theorem dX5_isNoLoss_0 : decode cX5_isNoLoss 0 = .ok (.aload_n 0, 1) := dk_42 (dk_at dksX5_isNoLoss_0 0 rfl rfl)
theorem dX5_isNoLoss_1 : decode cX5_isNoLoss 1 = .ok (.aload_n 0, 1) := dk_42 (dk_at dksX5_isNoLoss_0 1 rfl rfl)
theorem dX5_isNoLoss_2 : decode cX5_isNoLoss 2 = .ok (.iload_n 1, 1) := dk_27 (dk_at dksX5_isNoLoss_0 2 rfl rfl)
theorem dX5_isNoLoss_3 : decode cX5_isNoLoss 3 = .ok (.invokevirtual 121, 3) := dk_182 0 121 (dk_at dksX5_isNoLoss_0 3 rfl rfl)
theorem dX5_isNoLoss_6 : decode cX5_isNoLoss 6 = .ok (.iconst 1, 1) := dk_4 (dk_at dksX5_isNoLoss_0 6 rfl rfl)
theorem dX5_isNoLoss_7 : decode cX5_isNoLoss 7 = .ok (.iconst 1, 1) := dk_4 (dk_at dksX5_isNoLoss_0 7 rfl rfl)
theorem dX5_isNoLoss_8 : decode cX5_isNoLoss 8 = .ok (.iconst 0, 1) := dk_3 (dk_at dksX5_isNoLoss_0 8 rfl rfl)
theorem dX5_isNoLoss_9 : decode cX5_isNoLoss 9 = .ok (.invokevirtual 191, 3) := dk_182 0 191 (dk_at dksX5_isNoLoss_0 9 rfl rfl)
theorem dX5_isNoLoss_12 : decode cX5_isNoLoss 12 = .ok (.istore_n 2, 1) := dk_61 (dk_at dksX5_isNoLoss_0 12 rfl rfl)
theorem dX5_isNoLoss_13 : decode cX5_isNoLoss 13 = .ok (.iconst 1, 1) := dk_4 (dk_at dksX5_isNoLoss_0 13 rfl rfl)
theorem dX5_isNoLoss_14 : decode cX5_isNoLoss 14 = .ok (.istore_n 3, 1) := dk_62 (dk_at dksX5_isNoLoss_0 14 rfl rfl)
theorem dX5_isNoLoss_15 : decode cX5_isNoLoss 15 = .ok (.iload_n 3, 1) := dk_29 (dk_at dksX5_isNoLoss_0 15 rfl rfl)
theorem dX5_isNoLoss_16 : decode cX5_isNoLoss 16 = .ok (.sipush 9999, 3) := dk_17 39 15 (dk_at dksX5_isNoLoss_0 16 rfl rfl)
theorem dX5_isNoLoss_19 : decode cX5_isNoLoss 19 = .ok (.if_icmp .gt 44, 3) := dk_163 0 44 (dk_at dksX5_isNoLoss_0 19 rfl rfl)
theorem dX5_isNoLoss_22 : decode cX5_isNoLoss 22 = .ok (.iload_n 2, 1) := dk_28 (dk_at dksX5_isNoLoss_0 22 rfl rfl)
theorem dX5_isNoLoss_23 : decode cX5_isNoLoss 23 = .ok (.ifCond .eq 40, 3) := dk_153 0 40 (dk_at dksX5_isNoLoss_1 0 rfl rfl)
theorem dX5_isNoLoss_26 : decode cX5_isNoLoss 26 = .ok (.iload_n 3, 1) := dk_29 (dk_at dksX5_isNoLoss_1 3 rfl rfl)
theorem dX5_isNoLoss_27 : decode cX5_isNoLoss 27 = .ok (.aload_n 0, 1) := dk_42 (dk_at dksX5_isNoLoss_1 4 rfl rfl)
theorem dX5_isNoLoss_28 : decode cX5_isNoLoss 28 = .ok (.iload_n 1, 1) := dk_27 (dk_at dksX5_isNoLoss_1 5 rfl rfl)
theorem dX5_isNoLoss_29 : decode cX5_isNoLoss 29 = .ok (.iload_n 3, 1) := dk_29 (dk_at dksX5_isNoLoss_1 6 rfl rfl)
theorem dX5_isNoLoss_30 : decode cX5_isNoLoss 30 = .ok (.iconst 0, 1) := dk_3 (dk_at dksX5_isNoLoss_1 7 rfl rfl)
theorem dX5_isNoLoss_31 : decode cX5_isNoLoss 31 = .ok (.invokevirtual 198, 3) := dk_182 0 198 (dk_at dksX5_isNoLoss_1 8 rfl rfl)
theorem dX5_isNoLoss_34 : decode cX5_isNoLoss 34 = .ok (.isub, 1) := dk_100 (dk_at dksX5_isNoLoss_1 11 rfl rfl)
theorem dX5_isNoLoss_35 : decode cX5_isNoLoss 35 = .ok (.iload_n 3, 1) := dk_29 (dk_at dksX5_isNoLoss_1 12 rfl rfl)
theorem dX5_isNoLoss_36 : decode cX5_isNoLoss 36 = .ok (.iconst 1, 1) := dk_4 (dk_at dksX5_isNoLoss_1 13 rfl rfl)
theorem dX5_isNoLoss_37 : decode cX5_isNoLoss 37 = .ok (.isub, 1) := dk_100 (dk_at dksX5_isNoLoss_1 14 rfl rfl)
theorem dX5_isNoLoss_38 : decode cX5_isNoLoss 38 = .ok (.aload_n 0, 1) := dk_42 (dk_at dksX5_isNoLoss_1 15 rfl rfl)
theorem dX5_isNoLoss_39 : decode cX5_isNoLoss 39 = .ok (.iload_n 1, 1) := dk_27 (dk_at dksX5_isNoLoss_1 16 rfl rfl)
theorem dX5_isNoLoss_40 : decode cX5_isNoLoss 40 = .ok (.iload_n 3, 1) := dk_29 (dk_at dksX5_isNoLoss_1 17 rfl rfl)
theorem dX5_isNoLoss_41 : decode cX5_isNoLoss 41 = .ok (.iconst 1, 1) := dk_4 (dk_at dksX5_isNoLoss_1 18 rfl rfl)
theorem dX5_isNoLoss_42 : decode cX5_isNoLoss 42 = .ok (.isub, 1) := dk_100 (dk_at dksX5_isNoLoss_1 19 rfl rfl)
theorem dX5_isNoLoss_43 : decode cX5_isNoLoss 43 = .ok (.iconst 0, 1) := dk_3 (dk_at dksX5_isNoLoss_1 20 rfl rfl)
theorem dX5_isNoLoss_44 : decode cX5_isNoLoss 44 = .ok (.invokevirtual 198, 3) := dk_182 0 198 (dk_at dksX5_isNoLoss_1 21 rfl rfl)
theorem dX5_isNoLoss_47 : decode cX5_isNoLoss 47 = .ok (.isub, 1) := dk_100 (dk_at dksX5_isNoLoss_2 0 rfl rfl)
theorem dX5_isNoLoss_48 : decode cX5_isNoLoss 48 = .ok (.if_icmp .lt 7, 3) := dk_161 0 7 (dk_at dksX5_isNoLoss_2 1 rfl rfl)
theorem dX5_isNoLoss_51 : decode cX5_isNoLoss 51 = .ok (.iconst 1, 1) := dk_4 (dk_at dksX5_isNoLoss_2 4 rfl rfl)
theorem dX5_isNoLoss_52 : decode cX5_isNoLoss 52 = .ok (.goto 4, 3) := dk_167 0 4 (dk_at dksX5_isNoLoss_2 5 rfl rfl)
theorem dX5_isNoLoss_55 : decode cX5_isNoLoss 55 = .ok (.iconst 0, 1) := dk_3 (dk_at dksX5_isNoLoss_2 8 rfl rfl)
theorem dX5_isNoLoss_56 : decode cX5_isNoLoss 56 = .ok (.istore_n 2, 1) := dk_61 (dk_at dksX5_isNoLoss_2 9 rfl rfl)
theorem dX5_isNoLoss_57 : decode cX5_isNoLoss 57 = .ok (.iinc 3 1, 3) := dk_132 3 1 (dk_at dksX5_isNoLoss_2 10 rfl rfl)
theorem dX5_isNoLoss_60 : decode cX5_isNoLoss 60 = .ok (.goto (-45), 3) := dk_167 255 211 (dk_at dksX5_isNoLoss_2 13 rfl rfl)
theorem dX5_isNoLoss_63 : decode cX5_isNoLoss 63 = .ok (.iload_n 2, 1) := dk_28 (dk_at dksX5_isNoLoss_2 16 rfl rfl)
theorem dX5_isNoLoss_64 : decode cX5_isNoLoss 64 = .ok (.ireturn, 1) := dk_172 (dk_at dksX5_isNoLoss_2 17 rfl rfl)
abbrev cX5_auditIn : ByteArray := prog_12_method_67_code
def yX5_auditIn : MethodName := ⟨RX5, "auditIn", "(I)I"⟩
def dkwX5_auditIn_2 : List UInt8 := [184, 0, 181, 61, 132, 3, 1, 167, 255, 243, 28, 42, 180, 0, 9, 8, 46, 112, 172]
abbrev dktX5_auditIn_2 : List UInt8 := dkwX5_auditIn_2 ++ []
def dkwX5_auditIn_1 : List UInt8 := [182, 0, 191, 154, 0, 5, 3, 172, 42, 180, 0, 9, 16, 6, 46, 61, 3, 62, 29, 27, 162, 0, 14, 28]
abbrev dktX5_auditIn_1 : List UInt8 := dkwX5_auditIn_1 ++ dktX5_auditIn_2
def dkwX5_auditIn_0 : List UInt8 := [42, 27, 4, 16, 40, 184, 0, 73, 4, 42, 180, 0, 9, 8, 46, 158, 0, 7, 4, 167, 0, 4, 3, 5]
abbrev dktX5_auditIn_0 : List UInt8 := dkwX5_auditIn_0 ++ dktX5_auditIn_1
theorem dksX5_auditIn_0 : cX5_auditIn.data.toList.drop 0 = dktX5_auditIn_0 := by decide +kernel
theorem dksX5_auditIn_1 : cX5_auditIn.data.toList.drop 24 = dktX5_auditIn_1 := dk_seg dksX5_auditIn_0 24 rfl rfl
theorem dksX5_auditIn_2 : cX5_auditIn.data.toList.drop 48 = dktX5_auditIn_2 := dk_seg dksX5_auditIn_1 24 rfl rfl
theorem dX5_auditIn_0 : decode cX5_auditIn 0 = .ok (.aload_n 0, 1) := dk_42 (dk_at dksX5_auditIn_0 0 rfl rfl)
theorem dX5_auditIn_1 : decode cX5_auditIn 1 = .ok (.iload_n 1, 1) := dk_27 (dk_at dksX5_auditIn_0 1 rfl rfl)
theorem dX5_auditIn_2 : decode cX5_auditIn 2 = .ok (.iconst 1, 1) := dk_4 (dk_at dksX5_auditIn_0 2 rfl rfl)
theorem dX5_auditIn_3 : decode cX5_auditIn 3 = .ok (.bipush 40, 2) := dk_16 40 (dk_at dksX5_auditIn_0 3 rfl rfl)
theorem dX5_auditIn_5 : decode cX5_auditIn 5 = .ok (.invokestatic 73, 3) := dk_184 0 73 (dk_at dksX5_auditIn_0 5 rfl rfl)
theorem dX5_auditIn_8 : decode cX5_auditIn 8 = .ok (.iconst 1, 1) := dk_4 (dk_at dksX5_auditIn_0 8 rfl rfl)
theorem dX5_auditIn_9 : decode cX5_auditIn 9 = .ok (.aload_n 0, 1) := dk_42 (dk_at dksX5_auditIn_0 9 rfl rfl)
theorem dX5_auditIn_10 : decode cX5_auditIn 10 = .ok (.getfield 9, 3) := dk_180 0 9 (dk_at dksX5_auditIn_0 10 rfl rfl)
theorem dX5_auditIn_13 : decode cX5_auditIn 13 = .ok (.iconst 5, 1) := dk_8 (dk_at dksX5_auditIn_0 13 rfl rfl)
theorem dX5_auditIn_14 : decode cX5_auditIn 14 = .ok (.iaload, 1) := dk_46 (dk_at dksX5_auditIn_0 14 rfl rfl)
theorem dX5_auditIn_15 : decode cX5_auditIn 15 = .ok (.ifCond .le 7, 3) := dk_158 0 7 (dk_at dksX5_auditIn_0 15 rfl rfl)
theorem dX5_auditIn_18 : decode cX5_auditIn 18 = .ok (.iconst 1, 1) := dk_4 (dk_at dksX5_auditIn_0 18 rfl rfl)
theorem dX5_auditIn_19 : decode cX5_auditIn 19 = .ok (.goto 4, 3) := dk_167 0 4 (dk_at dksX5_auditIn_0 19 rfl rfl)
theorem dX5_auditIn_22 : decode cX5_auditIn 22 = .ok (.iconst 0, 1) := dk_3 (dk_at dksX5_auditIn_0 22 rfl rfl)
theorem dX5_auditIn_23 : decode cX5_auditIn 23 = .ok (.iconst 2, 1) := dk_5 (dk_at dksX5_auditIn_0 23 rfl rfl)
theorem dX5_auditIn_24 : decode cX5_auditIn 24 = .ok (.invokevirtual 191, 3) := dk_182 0 191 (dk_at dksX5_auditIn_1 0 rfl rfl)
theorem dX5_auditIn_27 : decode cX5_auditIn 27 = .ok (.ifCond .ne 5, 3) := dk_154 0 5 (dk_at dksX5_auditIn_1 3 rfl rfl)
theorem dX5_auditIn_30 : decode cX5_auditIn 30 = .ok (.iconst 0, 1) := dk_3 (dk_at dksX5_auditIn_1 6 rfl rfl)
theorem dX5_auditIn_31 : decode cX5_auditIn 31 = .ok (.ireturn, 1) := dk_172 (dk_at dksX5_auditIn_1 7 rfl rfl)
theorem dX5_auditIn_32 : decode cX5_auditIn 32 = .ok (.aload_n 0, 1) := dk_42 (dk_at dksX5_auditIn_1 8 rfl rfl)
theorem dX5_auditIn_33 : decode cX5_auditIn 33 = .ok (.getfield 9, 3) := dk_180 0 9 (dk_at dksX5_auditIn_1 9 rfl rfl)
theorem dX5_auditIn_36 : decode cX5_auditIn 36 = .ok (.bipush 6, 2) := dk_16 6 (dk_at dksX5_auditIn_1 12 rfl rfl)
theorem dX5_auditIn_38 : decode cX5_auditIn 38 = .ok (.iaload, 1) := dk_46 (dk_at dksX5_auditIn_1 14 rfl rfl)
theorem dX5_auditIn_39 : decode cX5_auditIn 39 = .ok (.istore_n 2, 1) := dk_61 (dk_at dksX5_auditIn_1 15 rfl rfl)
theorem dX5_auditIn_40 : decode cX5_auditIn 40 = .ok (.iconst 0, 1) := dk_3 (dk_at dksX5_auditIn_1 16 rfl rfl)
theorem dX5_auditIn_41 : decode cX5_auditIn 41 = .ok (.istore_n 3, 1) := dk_62 (dk_at dksX5_auditIn_1 17 rfl rfl)
theorem dX5_auditIn_42 : decode cX5_auditIn 42 = .ok (.iload_n 3, 1) := dk_29 (dk_at dksX5_auditIn_1 18 rfl rfl)
theorem dX5_auditIn_43 : decode cX5_auditIn 43 = .ok (.iload_n 1, 1) := dk_27 (dk_at dksX5_auditIn_1 19 rfl rfl)
theorem dX5_auditIn_44 : decode cX5_auditIn 44 = .ok (.if_icmp .ge 14, 3) := dk_162 0 14 (dk_at dksX5_auditIn_1 20 rfl rfl)
theorem dX5_auditIn_47 : decode cX5_auditIn 47 = .ok (.iload_n 2, 1) := dk_28 (dk_at dksX5_auditIn_1 23 rfl rfl)
theorem dX5_auditIn_48 : decode cX5_auditIn 48 = .ok (.invokestatic 181, 3) := dk_184 0 181 (dk_at dksX5_auditIn_2 0 rfl rfl)
theorem dX5_auditIn_51 : decode cX5_auditIn 51 = .ok (.istore_n 2, 1) := dk_61 (dk_at dksX5_auditIn_2 3 rfl rfl)
theorem dX5_auditIn_52 : decode cX5_auditIn 52 = .ok (.iinc 3 1, 3) := dk_132 3 1 (dk_at dksX5_auditIn_2 4 rfl rfl)
theorem dX5_auditIn_55 : decode cX5_auditIn 55 = .ok (.goto (-13), 3) := dk_167 255 243 (dk_at dksX5_auditIn_2 7 rfl rfl)
theorem dX5_auditIn_58 : decode cX5_auditIn 58 = .ok (.iload_n 2, 1) := dk_28 (dk_at dksX5_auditIn_2 10 rfl rfl)
theorem dX5_auditIn_59 : decode cX5_auditIn 59 = .ok (.aload_n 0, 1) := dk_42 (dk_at dksX5_auditIn_2 11 rfl rfl)
theorem dX5_auditIn_60 : decode cX5_auditIn 60 = .ok (.getfield 9, 3) := dk_180 0 9 (dk_at dksX5_auditIn_2 12 rfl rfl)
theorem dX5_auditIn_63 : decode cX5_auditIn 63 = .ok (.iconst 5, 1) := dk_8 (dk_at dksX5_auditIn_2 15 rfl rfl)
theorem dX5_auditIn_64 : decode cX5_auditIn 64 = .ok (.iaload, 1) := dk_46 (dk_at dksX5_auditIn_2 16 rfl rfl)
theorem dX5_auditIn_65 : decode cX5_auditIn 65 = .ok (.irem, 1) := dk_112 (dk_at dksX5_auditIn_2 17 rfl rfl)
theorem dX5_auditIn_66 : decode cX5_auditIn 66 = .ok (.ireturn, 1) := dk_172 (dk_at dksX5_auditIn_2 18 rfl rfl)
abbrev cX5_ranked : ByteArray := prog_12_method_69_code
def yX5_ranked : MethodName := ⟨RX5, "ranked", "(I)I"⟩
def dkwX5_ranked_4 : List UInt8 := [181, 0, 38, 28, 2, 160, 0, 7, 3, 167, 0, 4, 28, 172]
abbrev dktX5_ranked_4 : List UInt8 := dkwX5_ranked_4 ++ []
def dkwX5_ranked_3 : List UInt8 := [167, 0, 4, 28, 61, 132, 3, 1, 167, 255, 182, 42, 28, 2, 160, 0, 7, 4, 167, 0, 4, 3]
abbrev dktX5_ranked_3 : List UInt8 := dkwX5_ranked_3 ++ dktX5_ranked_4
def dkwX5_ranked_2 : List UInt8 := [153, 0, 7, 4, 167, 0, 4, 3, 96, 54, 4, 132, 5, 1, 167, 255, 216, 21, 4, 27, 160, 0, 7, 29]
abbrev dktX5_ranked_2 : List UInt8 := dkwX5_ranked_2 ++ dktX5_ranked_3
def dkwX5_ranked_1 : List UInt8 := [180, 0, 9, 8, 46, 162, 0, 35, 21, 4, 21, 5, 29, 159, 0, 17, 42, 21, 5, 29, 182, 0, 204]
abbrev dktX5_ranked_1 : List UInt8 := dkwX5_ranked_1 ++ dktX5_ranked_2
def dkwX5_ranked_0 : List UInt8 := [2, 61, 3, 62, 29, 42, 180, 0, 9, 8, 46, 162, 0, 70, 3, 54, 4, 3, 54, 5, 21, 5, 42]
abbrev dktX5_ranked_0 : List UInt8 := dkwX5_ranked_0 ++ dktX5_ranked_1
theorem dksX5_ranked_0 : cX5_ranked.data.toList.drop 0 = dktX5_ranked_0 := by decide +kernel
theorem dksX5_ranked_1 : cX5_ranked.data.toList.drop 23 = dktX5_ranked_1 := dk_seg dksX5_ranked_0 23 rfl rfl
theorem dksX5_ranked_2 : cX5_ranked.data.toList.drop 46 = dktX5_ranked_2 := dk_seg dksX5_ranked_1 23 rfl rfl
theorem dksX5_ranked_3 : cX5_ranked.data.toList.drop 70 = dktX5_ranked_3 := dk_seg dksX5_ranked_2 24 rfl rfl
theorem dksX5_ranked_4 : cX5_ranked.data.toList.drop 92 = dktX5_ranked_4 := dk_seg dksX5_ranked_3 22 rfl rfl
theorem dX5_ranked_0 : decode cX5_ranked 0 = .ok (.iconst (-1), 1) := dk_2 (dk_at dksX5_ranked_0 0 rfl rfl)
theorem dX5_ranked_1 : decode cX5_ranked 1 = .ok (.istore_n 2, 1) := dk_61 (dk_at dksX5_ranked_0 1 rfl rfl)
theorem dX5_ranked_2 : decode cX5_ranked 2 = .ok (.iconst 0, 1) := dk_3 (dk_at dksX5_ranked_0 2 rfl rfl)
theorem dX5_ranked_3 : decode cX5_ranked 3 = .ok (.istore_n 3, 1) := dk_62 (dk_at dksX5_ranked_0 3 rfl rfl)
theorem dX5_ranked_4 : decode cX5_ranked 4 = .ok (.iload_n 3, 1) := dk_29 (dk_at dksX5_ranked_0 4 rfl rfl)
theorem dX5_ranked_5 : decode cX5_ranked 5 = .ok (.aload_n 0, 1) := dk_42 (dk_at dksX5_ranked_0 5 rfl rfl)
theorem dX5_ranked_6 : decode cX5_ranked 6 = .ok (.getfield 9, 3) := dk_180 0 9 (dk_at dksX5_ranked_0 6 rfl rfl)
theorem dX5_ranked_9 : decode cX5_ranked 9 = .ok (.iconst 5, 1) := dk_8 (dk_at dksX5_ranked_0 9 rfl rfl)
theorem dX5_ranked_10 : decode cX5_ranked 10 = .ok (.iaload, 1) := dk_46 (dk_at dksX5_ranked_0 10 rfl rfl)
theorem dX5_ranked_11 : decode cX5_ranked 11 = .ok (.if_icmp .ge 70, 3) := dk_162 0 70 (dk_at dksX5_ranked_0 11 rfl rfl)
theorem dX5_ranked_14 : decode cX5_ranked 14 = .ok (.iconst 0, 1) := dk_3 (dk_at dksX5_ranked_0 14 rfl rfl)
theorem dX5_ranked_15 : decode cX5_ranked 15 = .ok (.istore 4, 2) := dk_54 4 (dk_at dksX5_ranked_0 15 rfl rfl)
theorem dX5_ranked_17 : decode cX5_ranked 17 = .ok (.iconst 0, 1) := dk_3 (dk_at dksX5_ranked_0 17 rfl rfl)
theorem dX5_ranked_18 : decode cX5_ranked 18 = .ok (.istore 5, 2) := dk_54 5 (dk_at dksX5_ranked_0 18 rfl rfl)
theorem dX5_ranked_20 : decode cX5_ranked 20 = .ok (.iload 5, 2) := dk_21 5 (dk_at dksX5_ranked_0 20 rfl rfl)
theorem dX5_ranked_22 : decode cX5_ranked 22 = .ok (.aload_n 0, 1) := dk_42 (dk_at dksX5_ranked_0 22 rfl rfl)
theorem dX5_ranked_23 : decode cX5_ranked 23 = .ok (.getfield 9, 3) := dk_180 0 9 (dk_at dksX5_ranked_1 0 rfl rfl)
theorem dX5_ranked_26 : decode cX5_ranked 26 = .ok (.iconst 5, 1) := dk_8 (dk_at dksX5_ranked_1 3 rfl rfl)
theorem dX5_ranked_27 : decode cX5_ranked 27 = .ok (.iaload, 1) := dk_46 (dk_at dksX5_ranked_1 4 rfl rfl)
theorem dX5_ranked_28 : decode cX5_ranked 28 = .ok (.if_icmp .ge 35, 3) := dk_162 0 35 (dk_at dksX5_ranked_1 5 rfl rfl)
theorem dX5_ranked_31 : decode cX5_ranked 31 = .ok (.iload 4, 2) := dk_21 4 (dk_at dksX5_ranked_1 8 rfl rfl)
theorem dX5_ranked_33 : decode cX5_ranked 33 = .ok (.iload 5, 2) := dk_21 5 (dk_at dksX5_ranked_1 10 rfl rfl)
theorem dX5_ranked_35 : decode cX5_ranked 35 = .ok (.iload_n 3, 1) := dk_29 (dk_at dksX5_ranked_1 12 rfl rfl)
theorem dX5_ranked_36 : decode cX5_ranked 36 = .ok (.if_icmp .eq 17, 3) := dk_159 0 17 (dk_at dksX5_ranked_1 13 rfl rfl)
theorem dX5_ranked_39 : decode cX5_ranked 39 = .ok (.aload_n 0, 1) := dk_42 (dk_at dksX5_ranked_1 16 rfl rfl)
theorem dX5_ranked_40 : decode cX5_ranked 40 = .ok (.iload 5, 2) := dk_21 5 (dk_at dksX5_ranked_1 17 rfl rfl)
theorem dX5_ranked_42 : decode cX5_ranked 42 = .ok (.iload_n 3, 1) := dk_29 (dk_at dksX5_ranked_1 19 rfl rfl)
theorem dX5_ranked_43 : decode cX5_ranked 43 = .ok (.invokevirtual 204, 3) := dk_182 0 204 (dk_at dksX5_ranked_1 20 rfl rfl)
theorem dX5_ranked_46 : decode cX5_ranked 46 = .ok (.ifCond .eq 7, 3) := dk_153 0 7 (dk_at dksX5_ranked_2 0 rfl rfl)
theorem dX5_ranked_49 : decode cX5_ranked 49 = .ok (.iconst 1, 1) := dk_4 (dk_at dksX5_ranked_2 3 rfl rfl)
theorem dX5_ranked_50 : decode cX5_ranked 50 = .ok (.goto 4, 3) := dk_167 0 4 (dk_at dksX5_ranked_2 4 rfl rfl)
theorem dX5_ranked_53 : decode cX5_ranked 53 = .ok (.iconst 0, 1) := dk_3 (dk_at dksX5_ranked_2 7 rfl rfl)
theorem dX5_ranked_54 : decode cX5_ranked 54 = .ok (.iadd, 1) := dk_96 (dk_at dksX5_ranked_2 8 rfl rfl)
theorem dX5_ranked_55 : decode cX5_ranked 55 = .ok (.istore 4, 2) := dk_54 4 (dk_at dksX5_ranked_2 9 rfl rfl)
theorem dX5_ranked_57 : decode cX5_ranked 57 = .ok (.iinc 5 1, 3) := dk_132 5 1 (dk_at dksX5_ranked_2 11 rfl rfl)
theorem dX5_ranked_60 : decode cX5_ranked 60 = .ok (.goto (-40), 3) := dk_167 255 216 (dk_at dksX5_ranked_2 14 rfl rfl)
theorem dX5_ranked_63 : decode cX5_ranked 63 = .ok (.iload 4, 2) := dk_21 4 (dk_at dksX5_ranked_2 17 rfl rfl)
theorem dX5_ranked_65 : decode cX5_ranked 65 = .ok (.iload_n 1, 1) := dk_27 (dk_at dksX5_ranked_2 19 rfl rfl)
theorem dX5_ranked_66 : decode cX5_ranked 66 = .ok (.if_icmp .ne 7, 3) := dk_160 0 7 (dk_at dksX5_ranked_2 20 rfl rfl)
theorem dX5_ranked_69 : decode cX5_ranked 69 = .ok (.iload_n 3, 1) := dk_29 (dk_at dksX5_ranked_2 23 rfl rfl)
theorem dX5_ranked_70 : decode cX5_ranked 70 = .ok (.goto 4, 3) := dk_167 0 4 (dk_at dksX5_ranked_3 0 rfl rfl)
theorem dX5_ranked_73 : decode cX5_ranked 73 = .ok (.iload_n 2, 1) := dk_28 (dk_at dksX5_ranked_3 3 rfl rfl)
theorem dX5_ranked_74 : decode cX5_ranked 74 = .ok (.istore_n 2, 1) := dk_61 (dk_at dksX5_ranked_3 4 rfl rfl)
theorem dX5_ranked_75 : decode cX5_ranked 75 = .ok (.iinc 3 1, 3) := dk_132 3 1 (dk_at dksX5_ranked_3 5 rfl rfl)
theorem dX5_ranked_78 : decode cX5_ranked 78 = .ok (.goto (-74), 3) := dk_167 255 182 (dk_at dksX5_ranked_3 8 rfl rfl)
theorem dX5_ranked_81 : decode cX5_ranked 81 = .ok (.aload_n 0, 1) := dk_42 (dk_at dksX5_ranked_3 11 rfl rfl)
theorem dX5_ranked_82 : decode cX5_ranked 82 = .ok (.iload_n 2, 1) := dk_28 (dk_at dksX5_ranked_3 12 rfl rfl)
theorem dX5_ranked_83 : decode cX5_ranked 83 = .ok (.iconst (-1), 1) := dk_2 (dk_at dksX5_ranked_3 13 rfl rfl)
theorem dX5_ranked_84 : decode cX5_ranked 84 = .ok (.if_icmp .ne 7, 3) := dk_160 0 7 (dk_at dksX5_ranked_3 14 rfl rfl)
theorem dX5_ranked_87 : decode cX5_ranked 87 = .ok (.iconst 1, 1) := dk_4 (dk_at dksX5_ranked_3 17 rfl rfl)
theorem dX5_ranked_88 : decode cX5_ranked 88 = .ok (.goto 4, 3) := dk_167 0 4 (dk_at dksX5_ranked_3 18 rfl rfl)
theorem dX5_ranked_91 : decode cX5_ranked 91 = .ok (.iconst 0, 1) := dk_3 (dk_at dksX5_ranked_3 21 rfl rfl)
theorem dX5_ranked_92 : decode cX5_ranked 92 = .ok (.putfield 38, 3) := dk_181 0 38 (dk_at dksX5_ranked_4 0 rfl rfl)
theorem dX5_ranked_95 : decode cX5_ranked 95 = .ok (.iload_n 2, 1) := dk_28 (dk_at dksX5_ranked_4 3 rfl rfl)
theorem dX5_ranked_96 : decode cX5_ranked 96 = .ok (.iconst (-1), 1) := dk_2 (dk_at dksX5_ranked_4 4 rfl rfl)
theorem dX5_ranked_97 : decode cX5_ranked 97 = .ok (.if_icmp .ne 7, 3) := dk_160 0 7 (dk_at dksX5_ranked_4 5 rfl rfl)
theorem dX5_ranked_100 : decode cX5_ranked 100 = .ok (.iconst 0, 1) := dk_3 (dk_at dksX5_ranked_4 8 rfl rfl)
theorem dX5_ranked_101 : decode cX5_ranked 101 = .ok (.goto 4, 3) := dk_167 0 4 (dk_at dksX5_ranked_4 9 rfl rfl)
theorem dX5_ranked_104 : decode cX5_ranked 104 = .ok (.iload_n 2, 1) := dk_28 (dk_at dksX5_ranked_4 12 rfl rfl)
theorem dX5_ranked_105 : decode cX5_ranked 105 = .ok (.ireturn, 1) := dk_172 (dk_at dksX5_ranked_4 13 rfl rfl)
abbrev cX5_isAhead : ByteArray := prog_12_method_68_code
def yX5_isAhead : MethodName := ⟨RX5, "isAhead", "(II)Z"⟩
def dkwX5_isAhead_3 : List UInt8 := [167, 0, 17, 3, 167, 0, 13, 27, 28, 162, 0, 7, 4, 167, 0, 4, 3, 172]
abbrev dktX5_isAhead_3 : List UInt8 := dkwX5_isAhead_3 ++ []
def dkwX5_isAhead_2 : List UInt8 := [29, 158, 0, 7, 4, 167, 0, 35, 3, 167, 0, 31, 21, 4, 153, 0, 16, 21, 4, 158, 0, 7, 4]
abbrev dktX5_isAhead_2 : List UInt8 := dkwX5_isAhead_2 ++ dktX5_isAhead_3
def dkwX5_isAhead_1 : List UInt8 := [182, 0, 118, 96, 62, 42, 27, 3, 182, 0, 118, 42, 28, 3, 182, 0, 118, 100, 54, 4, 29, 153, 0, 15]
abbrev dktX5_isAhead_1 : List UInt8 := dkwX5_isAhead_1 ++ dktX5_isAhead_2
def dkwX5_isAhead_0 : List UInt8 := [42, 27, 4, 182, 0, 118, 42, 27, 5, 182, 0, 118, 100, 42, 28, 4, 182, 0, 118, 100, 42, 28, 5]
abbrev dktX5_isAhead_0 : List UInt8 := dkwX5_isAhead_0 ++ dktX5_isAhead_1
theorem dksX5_isAhead_0 : cX5_isAhead.data.toList.drop 0 = dktX5_isAhead_0 := by decide +kernel
theorem dksX5_isAhead_1 : cX5_isAhead.data.toList.drop 23 = dktX5_isAhead_1 := dk_seg dksX5_isAhead_0 23 rfl rfl
theorem dksX5_isAhead_2 : cX5_isAhead.data.toList.drop 47 = dktX5_isAhead_2 := dk_seg dksX5_isAhead_1 24 rfl rfl
theorem dksX5_isAhead_3 : cX5_isAhead.data.toList.drop 70 = dktX5_isAhead_3 := dk_seg dksX5_isAhead_2 23 rfl rfl
theorem dX5_isAhead_0 : decode cX5_isAhead 0 = .ok (.aload_n 0, 1) := dk_42 (dk_at dksX5_isAhead_0 0 rfl rfl)
theorem dX5_isAhead_1 : decode cX5_isAhead 1 = .ok (.iload_n 1, 1) := dk_27 (dk_at dksX5_isAhead_0 1 rfl rfl)
theorem dX5_isAhead_2 : decode cX5_isAhead 2 = .ok (.iconst 1, 1) := dk_4 (dk_at dksX5_isAhead_0 2 rfl rfl)
theorem dX5_isAhead_3 : decode cX5_isAhead 3 = .ok (.invokevirtual 118, 3) := dk_182 0 118 (dk_at dksX5_isAhead_0 3 rfl rfl)
theorem dX5_isAhead_6 : decode cX5_isAhead 6 = .ok (.aload_n 0, 1) := dk_42 (dk_at dksX5_isAhead_0 6 rfl rfl)
theorem dX5_isAhead_7 : decode cX5_isAhead 7 = .ok (.iload_n 1, 1) := dk_27 (dk_at dksX5_isAhead_0 7 rfl rfl)
theorem dX5_isAhead_8 : decode cX5_isAhead 8 = .ok (.iconst 2, 1) := dk_5 (dk_at dksX5_isAhead_0 8 rfl rfl)
theorem dX5_isAhead_9 : decode cX5_isAhead 9 = .ok (.invokevirtual 118, 3) := dk_182 0 118 (dk_at dksX5_isAhead_0 9 rfl rfl)
theorem dX5_isAhead_12 : decode cX5_isAhead 12 = .ok (.isub, 1) := dk_100 (dk_at dksX5_isAhead_0 12 rfl rfl)
theorem dX5_isAhead_13 : decode cX5_isAhead 13 = .ok (.aload_n 0, 1) := dk_42 (dk_at dksX5_isAhead_0 13 rfl rfl)
theorem dX5_isAhead_14 : decode cX5_isAhead 14 = .ok (.iload_n 2, 1) := dk_28 (dk_at dksX5_isAhead_0 14 rfl rfl)
theorem dX5_isAhead_15 : decode cX5_isAhead 15 = .ok (.iconst 1, 1) := dk_4 (dk_at dksX5_isAhead_0 15 rfl rfl)
theorem dX5_isAhead_16 : decode cX5_isAhead 16 = .ok (.invokevirtual 118, 3) := dk_182 0 118 (dk_at dksX5_isAhead_0 16 rfl rfl)
theorem dX5_isAhead_19 : decode cX5_isAhead 19 = .ok (.isub, 1) := dk_100 (dk_at dksX5_isAhead_0 19 rfl rfl)
theorem dX5_isAhead_20 : decode cX5_isAhead 20 = .ok (.aload_n 0, 1) := dk_42 (dk_at dksX5_isAhead_0 20 rfl rfl)
theorem dX5_isAhead_21 : decode cX5_isAhead 21 = .ok (.iload_n 2, 1) := dk_28 (dk_at dksX5_isAhead_0 21 rfl rfl)
theorem dX5_isAhead_22 : decode cX5_isAhead 22 = .ok (.iconst 2, 1) := dk_5 (dk_at dksX5_isAhead_0 22 rfl rfl)
theorem dX5_isAhead_23 : decode cX5_isAhead 23 = .ok (.invokevirtual 118, 3) := dk_182 0 118 (dk_at dksX5_isAhead_1 0 rfl rfl)
theorem dX5_isAhead_26 : decode cX5_isAhead 26 = .ok (.iadd, 1) := dk_96 (dk_at dksX5_isAhead_1 3 rfl rfl)
theorem dX5_isAhead_27 : decode cX5_isAhead 27 = .ok (.istore_n 3, 1) := dk_62 (dk_at dksX5_isAhead_1 4 rfl rfl)
theorem dX5_isAhead_28 : decode cX5_isAhead 28 = .ok (.aload_n 0, 1) := dk_42 (dk_at dksX5_isAhead_1 5 rfl rfl)
theorem dX5_isAhead_29 : decode cX5_isAhead 29 = .ok (.iload_n 1, 1) := dk_27 (dk_at dksX5_isAhead_1 6 rfl rfl)
theorem dX5_isAhead_30 : decode cX5_isAhead 30 = .ok (.iconst 0, 1) := dk_3 (dk_at dksX5_isAhead_1 7 rfl rfl)
theorem dX5_isAhead_31 : decode cX5_isAhead 31 = .ok (.invokevirtual 118, 3) := dk_182 0 118 (dk_at dksX5_isAhead_1 8 rfl rfl)
theorem dX5_isAhead_34 : decode cX5_isAhead 34 = .ok (.aload_n 0, 1) := dk_42 (dk_at dksX5_isAhead_1 11 rfl rfl)
theorem dX5_isAhead_35 : decode cX5_isAhead 35 = .ok (.iload_n 2, 1) := dk_28 (dk_at dksX5_isAhead_1 12 rfl rfl)
theorem dX5_isAhead_36 : decode cX5_isAhead 36 = .ok (.iconst 0, 1) := dk_3 (dk_at dksX5_isAhead_1 13 rfl rfl)
theorem dX5_isAhead_37 : decode cX5_isAhead 37 = .ok (.invokevirtual 118, 3) := dk_182 0 118 (dk_at dksX5_isAhead_1 14 rfl rfl)
theorem dX5_isAhead_40 : decode cX5_isAhead 40 = .ok (.isub, 1) := dk_100 (dk_at dksX5_isAhead_1 17 rfl rfl)
theorem dX5_isAhead_41 : decode cX5_isAhead 41 = .ok (.istore 4, 2) := dk_54 4 (dk_at dksX5_isAhead_1 18 rfl rfl)
theorem dX5_isAhead_43 : decode cX5_isAhead 43 = .ok (.iload_n 3, 1) := dk_29 (dk_at dksX5_isAhead_1 20 rfl rfl)
theorem dX5_isAhead_44 : decode cX5_isAhead 44 = .ok (.ifCond .eq 15, 3) := dk_153 0 15 (dk_at dksX5_isAhead_1 21 rfl rfl)
theorem dX5_isAhead_47 : decode cX5_isAhead 47 = .ok (.iload_n 3, 1) := dk_29 (dk_at dksX5_isAhead_2 0 rfl rfl)
theorem dX5_isAhead_48 : decode cX5_isAhead 48 = .ok (.ifCond .le 7, 3) := dk_158 0 7 (dk_at dksX5_isAhead_2 1 rfl rfl)
theorem dX5_isAhead_51 : decode cX5_isAhead 51 = .ok (.iconst 1, 1) := dk_4 (dk_at dksX5_isAhead_2 4 rfl rfl)
theorem dX5_isAhead_52 : decode cX5_isAhead 52 = .ok (.goto 35, 3) := dk_167 0 35 (dk_at dksX5_isAhead_2 5 rfl rfl)
theorem dX5_isAhead_55 : decode cX5_isAhead 55 = .ok (.iconst 0, 1) := dk_3 (dk_at dksX5_isAhead_2 8 rfl rfl)
theorem dX5_isAhead_56 : decode cX5_isAhead 56 = .ok (.goto 31, 3) := dk_167 0 31 (dk_at dksX5_isAhead_2 9 rfl rfl)
theorem dX5_isAhead_59 : decode cX5_isAhead 59 = .ok (.iload 4, 2) := dk_21 4 (dk_at dksX5_isAhead_2 12 rfl rfl)
theorem dX5_isAhead_61 : decode cX5_isAhead 61 = .ok (.ifCond .eq 16, 3) := dk_153 0 16 (dk_at dksX5_isAhead_2 14 rfl rfl)
theorem dX5_isAhead_64 : decode cX5_isAhead 64 = .ok (.iload 4, 2) := dk_21 4 (dk_at dksX5_isAhead_2 17 rfl rfl)
theorem dX5_isAhead_66 : decode cX5_isAhead 66 = .ok (.ifCond .le 7, 3) := dk_158 0 7 (dk_at dksX5_isAhead_2 19 rfl rfl)
theorem dX5_isAhead_69 : decode cX5_isAhead 69 = .ok (.iconst 1, 1) := dk_4 (dk_at dksX5_isAhead_2 22 rfl rfl)
theorem dX5_isAhead_70 : decode cX5_isAhead 70 = .ok (.goto 17, 3) := dk_167 0 17 (dk_at dksX5_isAhead_3 0 rfl rfl)
theorem dX5_isAhead_73 : decode cX5_isAhead 73 = .ok (.iconst 0, 1) := dk_3 (dk_at dksX5_isAhead_3 3 rfl rfl)
theorem dX5_isAhead_74 : decode cX5_isAhead 74 = .ok (.goto 13, 3) := dk_167 0 13 (dk_at dksX5_isAhead_3 4 rfl rfl)
theorem dX5_isAhead_77 : decode cX5_isAhead 77 = .ok (.iload_n 1, 1) := dk_27 (dk_at dksX5_isAhead_3 7 rfl rfl)
theorem dX5_isAhead_78 : decode cX5_isAhead 78 = .ok (.iload_n 2, 1) := dk_28 (dk_at dksX5_isAhead_3 8 rfl rfl)
theorem dX5_isAhead_79 : decode cX5_isAhead 79 = .ok (.if_icmp .ge 7, 3) := dk_162 0 7 (dk_at dksX5_isAhead_3 9 rfl rfl)
theorem dX5_isAhead_82 : decode cX5_isAhead 82 = .ok (.iconst 1, 1) := dk_4 (dk_at dksX5_isAhead_3 12 rfl rfl)
theorem dX5_isAhead_83 : decode cX5_isAhead 83 = .ok (.goto 4, 3) := dk_167 0 4 (dk_at dksX5_isAhead_3 13 rfl rfl)
theorem dX5_isAhead_86 : decode cX5_isAhead 86 = .ok (.iconst 0, 1) := dk_3 (dk_at dksX5_isAhead_3 16 rfl rfl)
theorem dX5_isAhead_87 : decode cX5_isAhead 87 = .ok (.ireturn, 1) := dk_172 (dk_at dksX5_isAhead_3 17 rfl rfl)
abbrev cX5_share : ByteArray := prog_12_method_70_code
def yX5_share : MethodName := ⟨RX5, "share", "(I)F"⟩
def dkwX5_share_2 : List UInt8 := [182, 0, 198, 134, 42, 27, 3, 182, 0, 118, 134, 110, 174]
abbrev dktX5_share_2 : List UInt8 := dkwX5_share_2 ++ []
def dkwX5_share_1 : List UInt8 := [4, 167, 0, 4, 3, 5, 182, 0, 191, 154, 0, 5, 11, 174, 42, 27, 42, 27, 3, 182, 0, 118, 3]
abbrev dktX5_share_1 : List UInt8 := dkwX5_share_1 ++ dktX5_share_2
def dkwX5_share_0 : List UInt8 := [42, 42, 27, 182, 0, 121, 4, 42, 27, 182, 0, 121, 153, 0, 16, 42, 27, 3, 182, 0, 118, 158, 0, 7]
abbrev dktX5_share_0 : List UInt8 := dkwX5_share_0 ++ dktX5_share_1
theorem dksX5_share_0 : cX5_share.data.toList.drop 0 = dktX5_share_0 := by decide +kernel
theorem dksX5_share_1 : cX5_share.data.toList.drop 24 = dktX5_share_1 := dk_seg dksX5_share_0 24 rfl rfl
theorem dksX5_share_2 : cX5_share.data.toList.drop 47 = dktX5_share_2 := dk_seg dksX5_share_1 23 rfl rfl
theorem dX5_share_0 : decode cX5_share 0 = .ok (.aload_n 0, 1) := dk_42 (dk_at dksX5_share_0 0 rfl rfl)
theorem dX5_share_1 : decode cX5_share 1 = .ok (.aload_n 0, 1) := dk_42 (dk_at dksX5_share_0 1 rfl rfl)
theorem dX5_share_2 : decode cX5_share 2 = .ok (.iload_n 1, 1) := dk_27 (dk_at dksX5_share_0 2 rfl rfl)
theorem dX5_share_3 : decode cX5_share 3 = .ok (.invokevirtual 121, 3) := dk_182 0 121 (dk_at dksX5_share_0 3 rfl rfl)
theorem dX5_share_6 : decode cX5_share 6 = .ok (.iconst 1, 1) := dk_4 (dk_at dksX5_share_0 6 rfl rfl)
theorem dX5_share_7 : decode cX5_share 7 = .ok (.aload_n 0, 1) := dk_42 (dk_at dksX5_share_0 7 rfl rfl)
theorem dX5_share_8 : decode cX5_share 8 = .ok (.iload_n 1, 1) := dk_27 (dk_at dksX5_share_0 8 rfl rfl)
theorem dX5_share_9 : decode cX5_share 9 = .ok (.invokevirtual 121, 3) := dk_182 0 121 (dk_at dksX5_share_0 9 rfl rfl)
theorem dX5_share_12 : decode cX5_share 12 = .ok (.ifCond .eq 16, 3) := dk_153 0 16 (dk_at dksX5_share_0 12 rfl rfl)
theorem dX5_share_15 : decode cX5_share 15 = .ok (.aload_n 0, 1) := dk_42 (dk_at dksX5_share_0 15 rfl rfl)
theorem dX5_share_16 : decode cX5_share 16 = .ok (.iload_n 1, 1) := dk_27 (dk_at dksX5_share_0 16 rfl rfl)
theorem dX5_share_17 : decode cX5_share 17 = .ok (.iconst 0, 1) := dk_3 (dk_at dksX5_share_0 17 rfl rfl)
theorem dX5_share_18 : decode cX5_share 18 = .ok (.invokevirtual 118, 3) := dk_182 0 118 (dk_at dksX5_share_0 18 rfl rfl)
theorem dX5_share_21 : decode cX5_share 21 = .ok (.ifCond .le 7, 3) := dk_158 0 7 (dk_at dksX5_share_0 21 rfl rfl)
theorem dX5_share_24 : decode cX5_share 24 = .ok (.iconst 1, 1) := dk_4 (dk_at dksX5_share_1 0 rfl rfl)
theorem dX5_share_25 : decode cX5_share 25 = .ok (.goto 4, 3) := dk_167 0 4 (dk_at dksX5_share_1 1 rfl rfl)
theorem dX5_share_28 : decode cX5_share 28 = .ok (.iconst 0, 1) := dk_3 (dk_at dksX5_share_1 4 rfl rfl)
theorem dX5_share_29 : decode cX5_share 29 = .ok (.iconst 2, 1) := dk_5 (dk_at dksX5_share_1 5 rfl rfl)
theorem dX5_share_30 : decode cX5_share 30 = .ok (.invokevirtual 191, 3) := dk_182 0 191 (dk_at dksX5_share_1 6 rfl rfl)
theorem dX5_share_33 : decode cX5_share 33 = .ok (.ifCond .ne 5, 3) := dk_154 0 5 (dk_at dksX5_share_1 9 rfl rfl)
theorem dX5_share_36 : decode cX5_share 36 = .ok (.fconst 0, 1) := dk_11 (dk_at dksX5_share_1 12 rfl rfl)
theorem dX5_share_37 : decode cX5_share 37 = .ok (.freturn, 1) := dk_174 (dk_at dksX5_share_1 13 rfl rfl)
theorem dX5_share_38 : decode cX5_share 38 = .ok (.aload_n 0, 1) := dk_42 (dk_at dksX5_share_1 14 rfl rfl)
theorem dX5_share_39 : decode cX5_share 39 = .ok (.iload_n 1, 1) := dk_27 (dk_at dksX5_share_1 15 rfl rfl)
theorem dX5_share_40 : decode cX5_share 40 = .ok (.aload_n 0, 1) := dk_42 (dk_at dksX5_share_1 16 rfl rfl)
theorem dX5_share_41 : decode cX5_share 41 = .ok (.iload_n 1, 1) := dk_27 (dk_at dksX5_share_1 17 rfl rfl)
theorem dX5_share_42 : decode cX5_share 42 = .ok (.iconst 0, 1) := dk_3 (dk_at dksX5_share_1 18 rfl rfl)
theorem dX5_share_43 : decode cX5_share 43 = .ok (.invokevirtual 118, 3) := dk_182 0 118 (dk_at dksX5_share_1 19 rfl rfl)
theorem dX5_share_46 : decode cX5_share 46 = .ok (.iconst 0, 1) := dk_3 (dk_at dksX5_share_1 22 rfl rfl)
theorem dX5_share_47 : decode cX5_share 47 = .ok (.invokevirtual 198, 3) := dk_182 0 198 (dk_at dksX5_share_2 0 rfl rfl)
theorem dX5_share_50 : decode cX5_share 50 = .ok (.i2f, 1) := dk_134 (dk_at dksX5_share_2 3 rfl rfl)
theorem dX5_share_51 : decode cX5_share 51 = .ok (.aload_n 0, 1) := dk_42 (dk_at dksX5_share_2 4 rfl rfl)
theorem dX5_share_52 : decode cX5_share 52 = .ok (.iload_n 1, 1) := dk_27 (dk_at dksX5_share_2 5 rfl rfl)
theorem dX5_share_53 : decode cX5_share 53 = .ok (.iconst 0, 1) := dk_3 (dk_at dksX5_share_2 6 rfl rfl)
theorem dX5_share_54 : decode cX5_share 54 = .ok (.invokevirtual 118, 3) := dk_182 0 118 (dk_at dksX5_share_2 7 rfl rfl)
theorem dX5_share_57 : decode cX5_share 57 = .ok (.i2f, 1) := dk_134 (dk_at dksX5_share_2 10 rfl rfl)
theorem dX5_share_58 : decode cX5_share 58 = .ok (.fdiv, 1) := dk_110 (dk_at dksX5_share_2 11 rfl rfl)
theorem dX5_share_59 : decode cX5_share 59 = .ok (.freturn, 1) := dk_174 (dk_at dksX5_share_2 12 rfl rfl)
abbrev cX5_meanIncome : ByteArray := prog_12_method_72_code
def yX5_meanIncome : MethodName := ⟨RX5, "meanIncome", "()D"⟩
def dkwX5_meanIncome_1 : List UInt8 := [154, 0, 20, 42, 3, 182, 0, 208, 135, 42, 180, 0, 9, 8, 46, 135, 111, 167, 0, 4, 14, 175]
abbrev dktX5_meanIncome_1 : List UInt8 := dkwX5_meanIncome_1 ++ []
def dkwX5_meanIncome_0 : List UInt8 := [42, 42, 180, 0, 9, 8, 46, 154, 0, 7, 4, 167, 0, 4, 3, 181, 0, 38, 42, 180, 0, 38]
abbrev dktX5_meanIncome_0 : List UInt8 := dkwX5_meanIncome_0 ++ dktX5_meanIncome_1
theorem dksX5_meanIncome_0 : cX5_meanIncome.data.toList.drop 0 = dktX5_meanIncome_0 := by decide +kernel
theorem dksX5_meanIncome_1 : cX5_meanIncome.data.toList.drop 22 = dktX5_meanIncome_1 := dk_seg dksX5_meanIncome_0 22 rfl rfl
theorem dX5_meanIncome_0 : decode cX5_meanIncome 0 = .ok (.aload_n 0, 1) := dk_42 (dk_at dksX5_meanIncome_0 0 rfl rfl)
theorem dX5_meanIncome_1 : decode cX5_meanIncome 1 = .ok (.aload_n 0, 1) := dk_42 (dk_at dksX5_meanIncome_0 1 rfl rfl)
theorem dX5_meanIncome_2 : decode cX5_meanIncome 2 = .ok (.getfield 9, 3) := dk_180 0 9 (dk_at dksX5_meanIncome_0 2 rfl rfl)
theorem dX5_meanIncome_5 : decode cX5_meanIncome 5 = .ok (.iconst 5, 1) := dk_8 (dk_at dksX5_meanIncome_0 5 rfl rfl)
theorem dX5_meanIncome_6 : decode cX5_meanIncome 6 = .ok (.iaload, 1) := dk_46 (dk_at dksX5_meanIncome_0 6 rfl rfl)
theorem dX5_meanIncome_7 : decode cX5_meanIncome 7 = .ok (.ifCond .ne 7, 3) := dk_154 0 7 (dk_at dksX5_meanIncome_0 7 rfl rfl)
theorem dX5_meanIncome_10 : decode cX5_meanIncome 10 = .ok (.iconst 1, 1) := dk_4 (dk_at dksX5_meanIncome_0 10 rfl rfl)
theorem dX5_meanIncome_11 : decode cX5_meanIncome 11 = .ok (.goto 4, 3) := dk_167 0 4 (dk_at dksX5_meanIncome_0 11 rfl rfl)
theorem dX5_meanIncome_14 : decode cX5_meanIncome 14 = .ok (.iconst 0, 1) := dk_3 (dk_at dksX5_meanIncome_0 14 rfl rfl)
theorem dX5_meanIncome_15 : decode cX5_meanIncome 15 = .ok (.putfield 38, 3) := dk_181 0 38 (dk_at dksX5_meanIncome_0 15 rfl rfl)
theorem dX5_meanIncome_18 : decode cX5_meanIncome 18 = .ok (.aload_n 0, 1) := dk_42 (dk_at dksX5_meanIncome_0 18 rfl rfl)
theorem dX5_meanIncome_19 : decode cX5_meanIncome 19 = .ok (.getfield 38, 3) := dk_180 0 38 (dk_at dksX5_meanIncome_0 19 rfl rfl)
theorem dX5_meanIncome_22 : decode cX5_meanIncome 22 = .ok (.ifCond .ne 20, 3) := dk_154 0 20 (dk_at dksX5_meanIncome_1 0 rfl rfl)
theorem dX5_meanIncome_25 : decode cX5_meanIncome 25 = .ok (.aload_n 0, 1) := dk_42 (dk_at dksX5_meanIncome_1 3 rfl rfl)
theorem dX5_meanIncome_26 : decode cX5_meanIncome 26 = .ok (.iconst 0, 1) := dk_3 (dk_at dksX5_meanIncome_1 4 rfl rfl)
theorem dX5_meanIncome_27 : decode cX5_meanIncome 27 = .ok (.invokevirtual 208, 3) := dk_182 0 208 (dk_at dksX5_meanIncome_1 5 rfl rfl)
theorem dX5_meanIncome_30 : decode cX5_meanIncome 30 = .ok (.i2d, 1) := dk_135 (dk_at dksX5_meanIncome_1 8 rfl rfl)
theorem dX5_meanIncome_31 : decode cX5_meanIncome 31 = .ok (.aload_n 0, 1) := dk_42 (dk_at dksX5_meanIncome_1 9 rfl rfl)
theorem dX5_meanIncome_32 : decode cX5_meanIncome 32 = .ok (.getfield 9, 3) := dk_180 0 9 (dk_at dksX5_meanIncome_1 10 rfl rfl)
theorem dX5_meanIncome_35 : decode cX5_meanIncome 35 = .ok (.iconst 5, 1) := dk_8 (dk_at dksX5_meanIncome_1 13 rfl rfl)
theorem dX5_meanIncome_36 : decode cX5_meanIncome 36 = .ok (.iaload, 1) := dk_46 (dk_at dksX5_meanIncome_1 14 rfl rfl)
theorem dX5_meanIncome_37 : decode cX5_meanIncome 37 = .ok (.i2d, 1) := dk_135 (dk_at dksX5_meanIncome_1 15 rfl rfl)
theorem dX5_meanIncome_38 : decode cX5_meanIncome 38 = .ok (.ddiv, 1) := dk_111 (dk_at dksX5_meanIncome_1 16 rfl rfl)
theorem dX5_meanIncome_39 : decode cX5_meanIncome 39 = .ok (.goto 4, 3) := dk_167 0 4 (dk_at dksX5_meanIncome_1 17 rfl rfl)
theorem dX5_meanIncome_42 : decode cX5_meanIncome 42 = .ok (.dconst 0, 1) := dk_14 (dk_at dksX5_meanIncome_1 20 rfl rfl)
theorem dX5_meanIncome_43 : decode cX5_meanIncome 43 = .ok (.dreturn, 1) := dk_175 (dk_at dksX5_meanIncome_1 21 rfl rfl)
abbrev cX5_sumOf : ByteArray := prog_12_method_71_code
def yX5_sumOf : MethodName := ⟨RX5, "sumOf", "(I)I"⟩
def dkwX5_sumOf_1 : List UInt8 := [182, 0, 168, 167, 0, 9, 42, 29, 27, 182, 0, 118, 96, 61, 132, 3, 1, 167, 255, 220, 28, 172]
abbrev dktX5_sumOf_1 : List UInt8 := dkwX5_sumOf_1 ++ []
def dkwX5_sumOf_0 : List UInt8 := [3, 61, 3, 62, 29, 42, 180, 0, 9, 8, 46, 162, 0, 32, 28, 27, 16, 6, 160, 0, 11, 42, 29]
abbrev dktX5_sumOf_0 : List UInt8 := dkwX5_sumOf_0 ++ dktX5_sumOf_1
theorem dksX5_sumOf_0 : cX5_sumOf.data.toList.drop 0 = dktX5_sumOf_0 := by decide +kernel
theorem dksX5_sumOf_1 : cX5_sumOf.data.toList.drop 23 = dktX5_sumOf_1 := dk_seg dksX5_sumOf_0 23 rfl rfl
theorem dX5_sumOf_0 : decode cX5_sumOf 0 = .ok (.iconst 0, 1) := dk_3 (dk_at dksX5_sumOf_0 0 rfl rfl)
theorem dX5_sumOf_1 : decode cX5_sumOf 1 = .ok (.istore_n 2, 1) := dk_61 (dk_at dksX5_sumOf_0 1 rfl rfl)
theorem dX5_sumOf_2 : decode cX5_sumOf 2 = .ok (.iconst 0, 1) := dk_3 (dk_at dksX5_sumOf_0 2 rfl rfl)
theorem dX5_sumOf_3 : decode cX5_sumOf 3 = .ok (.istore_n 3, 1) := dk_62 (dk_at dksX5_sumOf_0 3 rfl rfl)
theorem dX5_sumOf_4 : decode cX5_sumOf 4 = .ok (.iload_n 3, 1) := dk_29 (dk_at dksX5_sumOf_0 4 rfl rfl)
theorem dX5_sumOf_5 : decode cX5_sumOf 5 = .ok (.aload_n 0, 1) := dk_42 (dk_at dksX5_sumOf_0 5 rfl rfl)
theorem dX5_sumOf_6 : decode cX5_sumOf 6 = .ok (.getfield 9, 3) := dk_180 0 9 (dk_at dksX5_sumOf_0 6 rfl rfl)
theorem dX5_sumOf_9 : decode cX5_sumOf 9 = .ok (.iconst 5, 1) := dk_8 (dk_at dksX5_sumOf_0 9 rfl rfl)
theorem dX5_sumOf_10 : decode cX5_sumOf 10 = .ok (.iaload, 1) := dk_46 (dk_at dksX5_sumOf_0 10 rfl rfl)
theorem dX5_sumOf_11 : decode cX5_sumOf 11 = .ok (.if_icmp .ge 32, 3) := dk_162 0 32 (dk_at dksX5_sumOf_0 11 rfl rfl)
theorem dX5_sumOf_14 : decode cX5_sumOf 14 = .ok (.iload_n 2, 1) := dk_28 (dk_at dksX5_sumOf_0 14 rfl rfl)
theorem dX5_sumOf_15 : decode cX5_sumOf 15 = .ok (.iload_n 1, 1) := dk_27 (dk_at dksX5_sumOf_0 15 rfl rfl)
theorem dX5_sumOf_16 : decode cX5_sumOf 16 = .ok (.bipush 6, 2) := dk_16 6 (dk_at dksX5_sumOf_0 16 rfl rfl)
theorem dX5_sumOf_18 : decode cX5_sumOf 18 = .ok (.if_icmp .ne 11, 3) := dk_160 0 11 (dk_at dksX5_sumOf_0 18 rfl rfl)
theorem dX5_sumOf_21 : decode cX5_sumOf 21 = .ok (.aload_n 0, 1) := dk_42 (dk_at dksX5_sumOf_0 21 rfl rfl)
theorem dX5_sumOf_22 : decode cX5_sumOf 22 = .ok (.iload_n 3, 1) := dk_29 (dk_at dksX5_sumOf_0 22 rfl rfl)
theorem dX5_sumOf_23 : decode cX5_sumOf 23 = .ok (.invokevirtual 168, 3) := dk_182 0 168 (dk_at dksX5_sumOf_1 0 rfl rfl)
theorem dX5_sumOf_26 : decode cX5_sumOf 26 = .ok (.goto 9, 3) := dk_167 0 9 (dk_at dksX5_sumOf_1 3 rfl rfl)
theorem dX5_sumOf_29 : decode cX5_sumOf 29 = .ok (.aload_n 0, 1) := dk_42 (dk_at dksX5_sumOf_1 6 rfl rfl)
theorem dX5_sumOf_30 : decode cX5_sumOf 30 = .ok (.iload_n 3, 1) := dk_29 (dk_at dksX5_sumOf_1 7 rfl rfl)
theorem dX5_sumOf_31 : decode cX5_sumOf 31 = .ok (.iload_n 1, 1) := dk_27 (dk_at dksX5_sumOf_1 8 rfl rfl)
theorem dX5_sumOf_32 : decode cX5_sumOf 32 = .ok (.invokevirtual 118, 3) := dk_182 0 118 (dk_at dksX5_sumOf_1 9 rfl rfl)
theorem dX5_sumOf_35 : decode cX5_sumOf 35 = .ok (.iadd, 1) := dk_96 (dk_at dksX5_sumOf_1 12 rfl rfl)
theorem dX5_sumOf_36 : decode cX5_sumOf 36 = .ok (.istore_n 2, 1) := dk_61 (dk_at dksX5_sumOf_1 13 rfl rfl)
theorem dX5_sumOf_37 : decode cX5_sumOf 37 = .ok (.iinc 3 1, 3) := dk_132 3 1 (dk_at dksX5_sumOf_1 14 rfl rfl)
theorem dX5_sumOf_40 : decode cX5_sumOf 40 = .ok (.goto (-36), 3) := dk_167 255 220 (dk_at dksX5_sumOf_1 17 rfl rfl)
theorem dX5_sumOf_43 : decode cX5_sumOf 43 = .ok (.iload_n 2, 1) := dk_28 (dk_at dksX5_sumOf_1 20 rfl rfl)
theorem dX5_sumOf_44 : decode cX5_sumOf 44 = .ok (.ireturn, 1) := dk_172 (dk_at dksX5_sumOf_1 21 rfl rfl)
abbrev cX5_account : ByteArray := prog_12_method_73_code
def yX5_account : MethodName := ⟨RX5, "account", "(I)I"⟩
def dkwX5_account_3 : List UInt8 := [172, 42, 16, 6, 182, 0, 208, 172, 42, 180, 0, 211, 172, 42, 180, 0, 51, 172, 3, 172]
abbrev dktX5_account_3 : List UInt8 := dkwX5_account_3 ++ []
def dkwX5_account_2 : List UInt8 := [42, 180, 0, 9, 27, 46, 172, 42, 5, 182, 0, 208, 172, 42, 6, 182, 0, 208, 172, 42, 7, 182, 0, 208]
abbrev dktX5_account_2 : List UInt8 := dkwX5_account_2 ++ dktX5_account_3
def dkwX5_account_1 : List UInt8 := [170, 0, 0, 0, 0, 0, 0, 122, 0, 0, 0, 0, 0, 0, 0, 15, 0, 0, 0, 80, 0, 0, 0, 80, 0, 0, 0, 80, 0, 0, 0, 80, 0, 0, 0, 80, 0, 0, 0, 80, 0, 0, 0, 80, 0, 0, 0, 80, 0, 0, 0, 80, 0, 0, 0, 80, 0, 0, 0, 87, 0, 0, 0, 93, 0, 0, 0, 99, 0, 0, 0, 105, 0, 0, 0, 112, 0, 0, 0, 117]
abbrev dktX5_account_1 : List UInt8 := dkwX5_account_1 ++ dktX5_account_2
def dkwX5_account_0 : List UInt8 := [42, 27, 3, 16, 15, 184, 0, 73, 153, 0, 7, 3, 167, 0, 4, 4, 181, 0, 38, 27]
abbrev dktX5_account_0 : List UInt8 := dkwX5_account_0 ++ dktX5_account_1
theorem dksX5_account_0 : cX5_account.data.toList.drop 0 = dktX5_account_0 := by decide +kernel
theorem dksX5_account_1 : cX5_account.data.toList.drop 20 = dktX5_account_1 := dk_seg dksX5_account_0 20 rfl rfl
theorem dksX5_account_2 : cX5_account.data.toList.drop 100 = dktX5_account_2 := dk_seg dksX5_account_1 80 rfl rfl
theorem dksX5_account_3 : cX5_account.data.toList.drop 124 = dktX5_account_3 := dk_seg dksX5_account_2 24 rfl rfl
theorem dX5_account_0 : decode cX5_account 0 = .ok (.aload_n 0, 1) := dk_42 (dk_at dksX5_account_0 0 rfl rfl)
theorem dX5_account_1 : decode cX5_account 1 = .ok (.iload_n 1, 1) := dk_27 (dk_at dksX5_account_0 1 rfl rfl)
theorem dX5_account_2 : decode cX5_account 2 = .ok (.iconst 0, 1) := dk_3 (dk_at dksX5_account_0 2 rfl rfl)
theorem dX5_account_3 : decode cX5_account 3 = .ok (.bipush 15, 2) := dk_16 15 (dk_at dksX5_account_0 3 rfl rfl)
theorem dX5_account_5 : decode cX5_account 5 = .ok (.invokestatic 73, 3) := dk_184 0 73 (dk_at dksX5_account_0 5 rfl rfl)
theorem dX5_account_8 : decode cX5_account 8 = .ok (.ifCond .eq 7, 3) := dk_153 0 7 (dk_at dksX5_account_0 8 rfl rfl)
theorem dX5_account_11 : decode cX5_account 11 = .ok (.iconst 0, 1) := dk_3 (dk_at dksX5_account_0 11 rfl rfl)
theorem dX5_account_12 : decode cX5_account 12 = .ok (.goto 4, 3) := dk_167 0 4 (dk_at dksX5_account_0 12 rfl rfl)
theorem dX5_account_15 : decode cX5_account 15 = .ok (.iconst 1, 1) := dk_4 (dk_at dksX5_account_0 15 rfl rfl)
theorem dX5_account_16 : decode cX5_account 16 = .ok (.putfield 38, 3) := dk_181 0 38 (dk_at dksX5_account_0 16 rfl rfl)
theorem dX5_account_19 : decode cX5_account 19 = .ok (.iload_n 1, 1) := dk_27 (dk_at dksX5_account_0 19 rfl rfl)
theorem dX5_account_20 : decode cX5_account 20 = .ok (.tableswitch 122 0 15 #[80, 80, 80, 80, 80, 80, 80, 80, 80, 80, 87, 93, 99, 105, 112, 117], 80) := by decide +kernel
theorem dX5_account_100 : decode cX5_account 100 = .ok (.aload_n 0, 1) := dk_42 (dk_at dksX5_account_2 0 rfl rfl)
theorem dX5_account_101 : decode cX5_account 101 = .ok (.getfield 9, 3) := dk_180 0 9 (dk_at dksX5_account_2 1 rfl rfl)
theorem dX5_account_104 : decode cX5_account 104 = .ok (.iload_n 1, 1) := dk_27 (dk_at dksX5_account_2 4 rfl rfl)
theorem dX5_account_105 : decode cX5_account 105 = .ok (.iaload, 1) := dk_46 (dk_at dksX5_account_2 5 rfl rfl)
theorem dX5_account_106 : decode cX5_account 106 = .ok (.ireturn, 1) := dk_172 (dk_at dksX5_account_2 6 rfl rfl)
theorem dX5_account_107 : decode cX5_account 107 = .ok (.aload_n 0, 1) := dk_42 (dk_at dksX5_account_2 7 rfl rfl)
theorem dX5_account_108 : decode cX5_account 108 = .ok (.iconst 2, 1) := dk_5 (dk_at dksX5_account_2 8 rfl rfl)
theorem dX5_account_109 : decode cX5_account 109 = .ok (.invokevirtual 208, 3) := dk_182 0 208 (dk_at dksX5_account_2 9 rfl rfl)
theorem dX5_account_112 : decode cX5_account 112 = .ok (.ireturn, 1) := dk_172 (dk_at dksX5_account_2 12 rfl rfl)
theorem dX5_account_113 : decode cX5_account 113 = .ok (.aload_n 0, 1) := dk_42 (dk_at dksX5_account_2 13 rfl rfl)
theorem dX5_account_114 : decode cX5_account 114 = .ok (.iconst 3, 1) := dk_6 (dk_at dksX5_account_2 14 rfl rfl)
theorem dX5_account_115 : decode cX5_account 115 = .ok (.invokevirtual 208, 3) := dk_182 0 208 (dk_at dksX5_account_2 15 rfl rfl)
theorem dX5_account_118 : decode cX5_account 118 = .ok (.ireturn, 1) := dk_172 (dk_at dksX5_account_2 18 rfl rfl)
theorem dX5_account_119 : decode cX5_account 119 = .ok (.aload_n 0, 1) := dk_42 (dk_at dksX5_account_2 19 rfl rfl)
theorem dX5_account_120 : decode cX5_account 120 = .ok (.iconst 4, 1) := dk_7 (dk_at dksX5_account_2 20 rfl rfl)
theorem dX5_account_121 : decode cX5_account 121 = .ok (.invokevirtual 208, 3) := dk_182 0 208 (dk_at dksX5_account_2 21 rfl rfl)
theorem dX5_account_124 : decode cX5_account 124 = .ok (.ireturn, 1) := dk_172 (dk_at dksX5_account_3 0 rfl rfl)
theorem dX5_account_125 : decode cX5_account 125 = .ok (.aload_n 0, 1) := dk_42 (dk_at dksX5_account_3 1 rfl rfl)
theorem dX5_account_126 : decode cX5_account 126 = .ok (.bipush 6, 2) := dk_16 6 (dk_at dksX5_account_3 2 rfl rfl)
theorem dX5_account_128 : decode cX5_account 128 = .ok (.invokevirtual 208, 3) := dk_182 0 208 (dk_at dksX5_account_3 4 rfl rfl)
theorem dX5_account_131 : decode cX5_account 131 = .ok (.ireturn, 1) := dk_172 (dk_at dksX5_account_3 7 rfl rfl)
theorem dX5_account_132 : decode cX5_account 132 = .ok (.aload_n 0, 1) := dk_42 (dk_at dksX5_account_3 8 rfl rfl)
theorem dX5_account_133 : decode cX5_account 133 = .ok (.getfield 211, 3) := dk_180 0 211 (dk_at dksX5_account_3 9 rfl rfl)
theorem dX5_account_136 : decode cX5_account 136 = .ok (.ireturn, 1) := dk_172 (dk_at dksX5_account_3 12 rfl rfl)
theorem dX5_account_137 : decode cX5_account 137 = .ok (.aload_n 0, 1) := dk_42 (dk_at dksX5_account_3 13 rfl rfl)
theorem dX5_account_138 : decode cX5_account 138 = .ok (.getfield 51, 3) := dk_180 0 51 (dk_at dksX5_account_3 14 rfl rfl)
theorem dX5_account_141 : decode cX5_account 141 = .ok (.ireturn, 1) := dk_172 (dk_at dksX5_account_3 17 rfl rfl)
theorem dX5_account_142 : decode cX5_account 142 = .ok (.iconst 0, 1) := dk_3 (dk_at dksX5_account_3 18 rfl rfl)
theorem dX5_account_143 : decode cX5_account 143 = .ok (.ireturn, 1) := dk_172 (dk_at dksX5_account_3 19 rfl rfl)
abbrev cX5_isBalanced : ByteArray := prog_12_method_74_code
def yX5_isBalanced : MethodName := ⟨RX5, "isBalanced", "()Z"⟩
def dkwX5_isBalanced_2 : List UInt8 := [180, 0, 9, 16, 7, 46, 42, 5, 182, 0, 208, 96, 160, 0, 7, 4, 167, 0, 4, 3, 172]
abbrev dktX5_isBalanced_2 : List UInt8 := dkwX5_isBalanced_2 ++ []
def dkwX5_isBalanced_1 : List UInt8 := [96, 42, 180, 0, 9, 16, 9, 46, 96, 160, 0, 34, 42, 6, 182, 0, 208, 42, 7, 182, 0, 208, 96, 42]
abbrev dktX5_isBalanced_1 : List UInt8 := dkwX5_isBalanced_1 ++ dktX5_isBalanced_2
def dkwX5_isBalanced_0 : List UInt8 := [42, 3, 181, 0, 38, 42, 180, 0, 9, 16, 8, 46, 42, 4, 182, 0, 208, 42, 180, 0, 9, 16, 7, 46]
abbrev dktX5_isBalanced_0 : List UInt8 := dkwX5_isBalanced_0 ++ dktX5_isBalanced_1
theorem dksX5_isBalanced_0 : cX5_isBalanced.data.toList.drop 0 = dktX5_isBalanced_0 := by decide +kernel
theorem dksX5_isBalanced_1 : cX5_isBalanced.data.toList.drop 24 = dktX5_isBalanced_1 := dk_seg dksX5_isBalanced_0 24 rfl rfl
theorem dksX5_isBalanced_2 : cX5_isBalanced.data.toList.drop 48 = dktX5_isBalanced_2 := dk_seg dksX5_isBalanced_1 24 rfl rfl
theorem dX5_isBalanced_0 : decode cX5_isBalanced 0 = .ok (.aload_n 0, 1) := dk_42 (dk_at dksX5_isBalanced_0 0 rfl rfl)
theorem dX5_isBalanced_1 : decode cX5_isBalanced 1 = .ok (.iconst 0, 1) := dk_3 (dk_at dksX5_isBalanced_0 1 rfl rfl)
theorem dX5_isBalanced_2 : decode cX5_isBalanced 2 = .ok (.putfield 38, 3) := dk_181 0 38 (dk_at dksX5_isBalanced_0 2 rfl rfl)
theorem dX5_isBalanced_5 : decode cX5_isBalanced 5 = .ok (.aload_n 0, 1) := dk_42 (dk_at dksX5_isBalanced_0 5 rfl rfl)
theorem dX5_isBalanced_6 : decode cX5_isBalanced 6 = .ok (.getfield 9, 3) := dk_180 0 9 (dk_at dksX5_isBalanced_0 6 rfl rfl)
theorem dX5_isBalanced_9 : decode cX5_isBalanced 9 = .ok (.bipush 8, 2) := dk_16 8 (dk_at dksX5_isBalanced_0 9 rfl rfl)
theorem dX5_isBalanced_11 : decode cX5_isBalanced 11 = .ok (.iaload, 1) := dk_46 (dk_at dksX5_isBalanced_0 11 rfl rfl)
theorem dX5_isBalanced_12 : decode cX5_isBalanced 12 = .ok (.aload_n 0, 1) := dk_42 (dk_at dksX5_isBalanced_0 12 rfl rfl)
theorem dX5_isBalanced_13 : decode cX5_isBalanced 13 = .ok (.iconst 1, 1) := dk_4 (dk_at dksX5_isBalanced_0 13 rfl rfl)
theorem dX5_isBalanced_14 : decode cX5_isBalanced 14 = .ok (.invokevirtual 208, 3) := dk_182 0 208 (dk_at dksX5_isBalanced_0 14 rfl rfl)
theorem dX5_isBalanced_17 : decode cX5_isBalanced 17 = .ok (.aload_n 0, 1) := dk_42 (dk_at dksX5_isBalanced_0 17 rfl rfl)
theorem dX5_isBalanced_18 : decode cX5_isBalanced 18 = .ok (.getfield 9, 3) := dk_180 0 9 (dk_at dksX5_isBalanced_0 18 rfl rfl)
theorem dX5_isBalanced_21 : decode cX5_isBalanced 21 = .ok (.bipush 7, 2) := dk_16 7 (dk_at dksX5_isBalanced_0 21 rfl rfl)
theorem dX5_isBalanced_23 : decode cX5_isBalanced 23 = .ok (.iaload, 1) := dk_46 (dk_at dksX5_isBalanced_0 23 rfl rfl)
theorem dX5_isBalanced_24 : decode cX5_isBalanced 24 = .ok (.iadd, 1) := dk_96 (dk_at dksX5_isBalanced_1 0 rfl rfl)
theorem dX5_isBalanced_25 : decode cX5_isBalanced 25 = .ok (.aload_n 0, 1) := dk_42 (dk_at dksX5_isBalanced_1 1 rfl rfl)
theorem dX5_isBalanced_26 : decode cX5_isBalanced 26 = .ok (.getfield 9, 3) := dk_180 0 9 (dk_at dksX5_isBalanced_1 2 rfl rfl)
theorem dX5_isBalanced_29 : decode cX5_isBalanced 29 = .ok (.bipush 9, 2) := dk_16 9 (dk_at dksX5_isBalanced_1 5 rfl rfl)
theorem dX5_isBalanced_31 : decode cX5_isBalanced 31 = .ok (.iaload, 1) := dk_46 (dk_at dksX5_isBalanced_1 7 rfl rfl)
theorem dX5_isBalanced_32 : decode cX5_isBalanced 32 = .ok (.iadd, 1) := dk_96 (dk_at dksX5_isBalanced_1 8 rfl rfl)
theorem dX5_isBalanced_33 : decode cX5_isBalanced 33 = .ok (.if_icmp .ne 34, 3) := dk_160 0 34 (dk_at dksX5_isBalanced_1 9 rfl rfl)
theorem dX5_isBalanced_36 : decode cX5_isBalanced 36 = .ok (.aload_n 0, 1) := dk_42 (dk_at dksX5_isBalanced_1 12 rfl rfl)
theorem dX5_isBalanced_37 : decode cX5_isBalanced 37 = .ok (.iconst 3, 1) := dk_6 (dk_at dksX5_isBalanced_1 13 rfl rfl)
theorem dX5_isBalanced_38 : decode cX5_isBalanced 38 = .ok (.invokevirtual 208, 3) := dk_182 0 208 (dk_at dksX5_isBalanced_1 14 rfl rfl)
theorem dX5_isBalanced_41 : decode cX5_isBalanced 41 = .ok (.aload_n 0, 1) := dk_42 (dk_at dksX5_isBalanced_1 17 rfl rfl)
theorem dX5_isBalanced_42 : decode cX5_isBalanced 42 = .ok (.iconst 4, 1) := dk_7 (dk_at dksX5_isBalanced_1 18 rfl rfl)
theorem dX5_isBalanced_43 : decode cX5_isBalanced 43 = .ok (.invokevirtual 208, 3) := dk_182 0 208 (dk_at dksX5_isBalanced_1 19 rfl rfl)
theorem dX5_isBalanced_46 : decode cX5_isBalanced 46 = .ok (.iadd, 1) := dk_96 (dk_at dksX5_isBalanced_1 22 rfl rfl)
theorem dX5_isBalanced_47 : decode cX5_isBalanced 47 = .ok (.aload_n 0, 1) := dk_42 (dk_at dksX5_isBalanced_1 23 rfl rfl)
theorem dX5_isBalanced_48 : decode cX5_isBalanced 48 = .ok (.getfield 9, 3) := dk_180 0 9 (dk_at dksX5_isBalanced_2 0 rfl rfl)
theorem dX5_isBalanced_51 : decode cX5_isBalanced 51 = .ok (.bipush 7, 2) := dk_16 7 (dk_at dksX5_isBalanced_2 3 rfl rfl)
theorem dX5_isBalanced_53 : decode cX5_isBalanced 53 = .ok (.iaload, 1) := dk_46 (dk_at dksX5_isBalanced_2 5 rfl rfl)
theorem dX5_isBalanced_54 : decode cX5_isBalanced 54 = .ok (.aload_n 0, 1) := dk_42 (dk_at dksX5_isBalanced_2 6 rfl rfl)
theorem dX5_isBalanced_55 : decode cX5_isBalanced 55 = .ok (.iconst 2, 1) := dk_5 (dk_at dksX5_isBalanced_2 7 rfl rfl)
theorem dX5_isBalanced_56 : decode cX5_isBalanced 56 = .ok (.invokevirtual 208, 3) := dk_182 0 208 (dk_at dksX5_isBalanced_2 8 rfl rfl)
theorem dX5_isBalanced_59 : decode cX5_isBalanced 59 = .ok (.iadd, 1) := dk_96 (dk_at dksX5_isBalanced_2 11 rfl rfl)
theorem dX5_isBalanced_60 : decode cX5_isBalanced 60 = .ok (.if_icmp .ne 7, 3) := dk_160 0 7 (dk_at dksX5_isBalanced_2 12 rfl rfl)
theorem dX5_isBalanced_63 : decode cX5_isBalanced 63 = .ok (.iconst 1, 1) := dk_4 (dk_at dksX5_isBalanced_2 15 rfl rfl)
theorem dX5_isBalanced_64 : decode cX5_isBalanced 64 = .ok (.goto 4, 3) := dk_167 0 4 (dk_at dksX5_isBalanced_2 16 rfl rfl)
theorem dX5_isBalanced_67 : decode cX5_isBalanced 67 = .ok (.iconst 0, 1) := dk_3 (dk_at dksX5_isBalanced_2 19 rfl rfl)
theorem dX5_isBalanced_68 : decode cX5_isBalanced 68 = .ok (.ireturn, 1) := dk_172 (dk_at dksX5_isBalanced_2 20 rfl rfl)
abbrev cX5_line : ByteArray := prog_12_method_77_code
def yX5_line : MethodName := ⟨RX5, "line", "(I)I"⟩
def dkwX5_line_7 : List UInt8 := [182, 0, 118, 182, 0, 217, 167, 0, 4, 28, 61, 42, 28, 181, 0, 220, 28, 172]
abbrev dktX5_line_7 : List UInt8 := dkwX5_line_7 ++ []
def dkwX5_line_6 : List UInt8 := [182, 0, 118, 158, 0, 29, 42, 42, 42, 28, 16, 32, 182, 0, 214, 16, 45, 182, 0, 214, 42, 27, 5]
abbrev dktX5_line_6 : List UInt8 := dkwX5_line_6 ++ dktX5_line_7
def dkwX5_line_5 : List UInt8 := [158, 0, 13, 42, 28, 16, 63, 182, 0, 214, 167, 0, 4, 28, 61, 132, 3, 1, 167, 255, 166, 42, 27, 5]
abbrev dktX5_line_5 : List UInt8 := dkwX5_line_5 ++ dktX5_line_6
def dkwX5_line_4 : List UInt8 := [167, 0, 5, 16, 103, 182, 0, 214, 61, 42, 28, 21, 4, 182, 0, 217, 61, 42, 27, 29, 182, 0, 136]
abbrev dktX5_line_4 : List UInt8 := dkwX5_line_4 ++ dktX5_line_5
def dkwX5_line_3 : List UInt8 := [42, 28, 16, 32, 182, 0, 214, 29, 154, 0, 8, 16, 116, 167, 0, 15, 29, 4, 160, 0, 8, 16, 98]
abbrev dktX5_line_3 : List UInt8 := dkwX5_line_3 ++ dktX5_line_4
def dkwX5_line_2 : List UInt8 := [162, 0, 91, 42, 27, 29, 182, 0, 133, 42, 27, 29, 182, 0, 136, 96, 54, 4, 21, 4, 158, 0, 65, 42]
abbrev dktX5_line_2 : List UInt8 := dkwX5_line_2 ++ dktX5_line_3
def dkwX5_line_1 : List UInt8 := [16, 58, 182, 0, 214, 61, 42, 28, 42, 27, 3, 182, 0, 118, 182, 0, 217, 61, 3, 62, 29, 6]
abbrev dktX5_line_1 : List UInt8 := dkwX5_line_1 ++ dktX5_line_2
def dkwX5_line_0 : List UInt8 := [42, 42, 27, 182, 0, 121, 4, 4, 3, 182, 0, 191, 154, 0, 5, 3, 172, 42, 42, 3, 27, 182, 0, 217]
abbrev dktX5_line_0 : List UInt8 := dkwX5_line_0 ++ dktX5_line_1
theorem dksX5_line_0 : cX5_line.data.toList.drop 0 = dktX5_line_0 := by decide +kernel
theorem dksX5_line_1 : cX5_line.data.toList.drop 24 = dktX5_line_1 := dk_seg dksX5_line_0 24 rfl rfl
theorem dksX5_line_2 : cX5_line.data.toList.drop 46 = dktX5_line_2 := dk_seg dksX5_line_1 22 rfl rfl
theorem dksX5_line_3 : cX5_line.data.toList.drop 70 = dktX5_line_3 := dk_seg dksX5_line_2 24 rfl rfl
theorem dksX5_line_4 : cX5_line.data.toList.drop 93 = dktX5_line_4 := dk_seg dksX5_line_3 23 rfl rfl
theorem dksX5_line_5 : cX5_line.data.toList.drop 116 = dktX5_line_5 := dk_seg dksX5_line_4 23 rfl rfl
theorem dksX5_line_6 : cX5_line.data.toList.drop 140 = dktX5_line_6 := dk_seg dksX5_line_5 24 rfl rfl
theorem dksX5_line_7 : cX5_line.data.toList.drop 163 = dktX5_line_7 := dk_seg dksX5_line_6 23 rfl rfl
theorem dX5_line_0 : decode cX5_line 0 = .ok (.aload_n 0, 1) := dk_42 (dk_at dksX5_line_0 0 rfl rfl)
theorem dX5_line_1 : decode cX5_line 1 = .ok (.aload_n 0, 1) := dk_42 (dk_at dksX5_line_0 1 rfl rfl)
theorem dX5_line_2 : decode cX5_line 2 = .ok (.iload_n 1, 1) := dk_27 (dk_at dksX5_line_0 2 rfl rfl)
theorem dX5_line_3 : decode cX5_line 3 = .ok (.invokevirtual 121, 3) := dk_182 0 121 (dk_at dksX5_line_0 3 rfl rfl)
theorem dX5_line_6 : decode cX5_line 6 = .ok (.iconst 1, 1) := dk_4 (dk_at dksX5_line_0 6 rfl rfl)
theorem dX5_line_7 : decode cX5_line 7 = .ok (.iconst 1, 1) := dk_4 (dk_at dksX5_line_0 7 rfl rfl)
theorem dX5_line_8 : decode cX5_line 8 = .ok (.iconst 0, 1) := dk_3 (dk_at dksX5_line_0 8 rfl rfl)
theorem dX5_line_9 : decode cX5_line 9 = .ok (.invokevirtual 191, 3) := dk_182 0 191 (dk_at dksX5_line_0 9 rfl rfl)
theorem dX5_line_12 : decode cX5_line 12 = .ok (.ifCond .ne 5, 3) := dk_154 0 5 (dk_at dksX5_line_0 12 rfl rfl)
theorem dX5_line_15 : decode cX5_line 15 = .ok (.iconst 0, 1) := dk_3 (dk_at dksX5_line_0 15 rfl rfl)
theorem dX5_line_16 : decode cX5_line 16 = .ok (.ireturn, 1) := dk_172 (dk_at dksX5_line_0 16 rfl rfl)
theorem dX5_line_17 : decode cX5_line 17 = .ok (.aload_n 0, 1) := dk_42 (dk_at dksX5_line_0 17 rfl rfl)
theorem dX5_line_18 : decode cX5_line 18 = .ok (.aload_n 0, 1) := dk_42 (dk_at dksX5_line_0 18 rfl rfl)
theorem dX5_line_19 : decode cX5_line 19 = .ok (.iconst 0, 1) := dk_3 (dk_at dksX5_line_0 19 rfl rfl)
theorem dX5_line_20 : decode cX5_line 20 = .ok (.iload_n 1, 1) := dk_27 (dk_at dksX5_line_0 20 rfl rfl)
theorem dX5_line_21 : decode cX5_line 21 = .ok (.invokevirtual 217, 3) := dk_182 0 217 (dk_at dksX5_line_0 21 rfl rfl)
theorem dX5_line_24 : decode cX5_line 24 = .ok (.bipush 58, 2) := dk_16 58 (dk_at dksX5_line_1 0 rfl rfl)
theorem dX5_line_26 : decode cX5_line 26 = .ok (.invokevirtual 214, 3) := dk_182 0 214 (dk_at dksX5_line_1 2 rfl rfl)
theorem dX5_line_29 : decode cX5_line 29 = .ok (.istore_n 2, 1) := dk_61 (dk_at dksX5_line_1 5 rfl rfl)
theorem dX5_line_30 : decode cX5_line 30 = .ok (.aload_n 0, 1) := dk_42 (dk_at dksX5_line_1 6 rfl rfl)
theorem dX5_line_31 : decode cX5_line 31 = .ok (.iload_n 2, 1) := dk_28 (dk_at dksX5_line_1 7 rfl rfl)
theorem dX5_line_32 : decode cX5_line 32 = .ok (.aload_n 0, 1) := dk_42 (dk_at dksX5_line_1 8 rfl rfl)
theorem dX5_line_33 : decode cX5_line 33 = .ok (.iload_n 1, 1) := dk_27 (dk_at dksX5_line_1 9 rfl rfl)
theorem dX5_line_34 : decode cX5_line 34 = .ok (.iconst 0, 1) := dk_3 (dk_at dksX5_line_1 10 rfl rfl)
theorem dX5_line_35 : decode cX5_line 35 = .ok (.invokevirtual 118, 3) := dk_182 0 118 (dk_at dksX5_line_1 11 rfl rfl)
theorem dX5_line_38 : decode cX5_line 38 = .ok (.invokevirtual 217, 3) := dk_182 0 217 (dk_at dksX5_line_1 14 rfl rfl)
theorem dX5_line_41 : decode cX5_line 41 = .ok (.istore_n 2, 1) := dk_61 (dk_at dksX5_line_1 17 rfl rfl)
theorem dX5_line_42 : decode cX5_line 42 = .ok (.iconst 0, 1) := dk_3 (dk_at dksX5_line_1 18 rfl rfl)
theorem dX5_line_43 : decode cX5_line 43 = .ok (.istore_n 3, 1) := dk_62 (dk_at dksX5_line_1 19 rfl rfl)
theorem dX5_line_44 : decode cX5_line 44 = .ok (.iload_n 3, 1) := dk_29 (dk_at dksX5_line_1 20 rfl rfl)
theorem dX5_line_45 : decode cX5_line 45 = .ok (.iconst 3, 1) := dk_6 (dk_at dksX5_line_1 21 rfl rfl)
theorem dX5_line_46 : decode cX5_line 46 = .ok (.if_icmp .ge 91, 3) := dk_162 0 91 (dk_at dksX5_line_2 0 rfl rfl)
theorem dX5_line_49 : decode cX5_line 49 = .ok (.aload_n 0, 1) := dk_42 (dk_at dksX5_line_2 3 rfl rfl)
theorem dX5_line_50 : decode cX5_line 50 = .ok (.iload_n 1, 1) := dk_27 (dk_at dksX5_line_2 4 rfl rfl)
theorem dX5_line_51 : decode cX5_line 51 = .ok (.iload_n 3, 1) := dk_29 (dk_at dksX5_line_2 5 rfl rfl)
theorem dX5_line_52 : decode cX5_line 52 = .ok (.invokevirtual 133, 3) := dk_182 0 133 (dk_at dksX5_line_2 6 rfl rfl)
theorem dX5_line_55 : decode cX5_line 55 = .ok (.aload_n 0, 1) := dk_42 (dk_at dksX5_line_2 9 rfl rfl)
theorem dX5_line_56 : decode cX5_line 56 = .ok (.iload_n 1, 1) := dk_27 (dk_at dksX5_line_2 10 rfl rfl)
theorem dX5_line_57 : decode cX5_line 57 = .ok (.iload_n 3, 1) := dk_29 (dk_at dksX5_line_2 11 rfl rfl)
theorem dX5_line_58 : decode cX5_line 58 = .ok (.invokevirtual 136, 3) := dk_182 0 136 (dk_at dksX5_line_2 12 rfl rfl)
theorem dX5_line_61 : decode cX5_line 61 = .ok (.iadd, 1) := dk_96 (dk_at dksX5_line_2 15 rfl rfl)
theorem dX5_line_62 : decode cX5_line 62 = .ok (.istore 4, 2) := dk_54 4 (dk_at dksX5_line_2 16 rfl rfl)
theorem dX5_line_64 : decode cX5_line 64 = .ok (.iload 4, 2) := dk_21 4 (dk_at dksX5_line_2 18 rfl rfl)
theorem dX5_line_66 : decode cX5_line 66 = .ok (.ifCond .le 65, 3) := dk_158 0 65 (dk_at dksX5_line_2 20 rfl rfl)
theorem dX5_line_69 : decode cX5_line 69 = .ok (.aload_n 0, 1) := dk_42 (dk_at dksX5_line_2 23 rfl rfl)
theorem dX5_line_70 : decode cX5_line 70 = .ok (.aload_n 0, 1) := dk_42 (dk_at dksX5_line_3 0 rfl rfl)
theorem dX5_line_71 : decode cX5_line 71 = .ok (.iload_n 2, 1) := dk_28 (dk_at dksX5_line_3 1 rfl rfl)
theorem dX5_line_72 : decode cX5_line 72 = .ok (.bipush 32, 2) := dk_16 32 (dk_at dksX5_line_3 2 rfl rfl)
theorem dX5_line_74 : decode cX5_line 74 = .ok (.invokevirtual 214, 3) := dk_182 0 214 (dk_at dksX5_line_3 4 rfl rfl)
theorem dX5_line_77 : decode cX5_line 77 = .ok (.iload_n 3, 1) := dk_29 (dk_at dksX5_line_3 7 rfl rfl)
theorem dX5_line_78 : decode cX5_line 78 = .ok (.ifCond .ne 8, 3) := dk_154 0 8 (dk_at dksX5_line_3 8 rfl rfl)
theorem dX5_line_81 : decode cX5_line 81 = .ok (.bipush 116, 2) := dk_16 116 (dk_at dksX5_line_3 11 rfl rfl)
theorem dX5_line_83 : decode cX5_line 83 = .ok (.goto 15, 3) := dk_167 0 15 (dk_at dksX5_line_3 13 rfl rfl)
theorem dX5_line_86 : decode cX5_line 86 = .ok (.iload_n 3, 1) := dk_29 (dk_at dksX5_line_3 16 rfl rfl)
theorem dX5_line_87 : decode cX5_line 87 = .ok (.iconst 1, 1) := dk_4 (dk_at dksX5_line_3 17 rfl rfl)
theorem dX5_line_88 : decode cX5_line 88 = .ok (.if_icmp .ne 8, 3) := dk_160 0 8 (dk_at dksX5_line_3 18 rfl rfl)
theorem dX5_line_91 : decode cX5_line 91 = .ok (.bipush 98, 2) := dk_16 98 (dk_at dksX5_line_3 21 rfl rfl)
theorem dX5_line_93 : decode cX5_line 93 = .ok (.goto 5, 3) := dk_167 0 5 (dk_at dksX5_line_4 0 rfl rfl)
theorem dX5_line_96 : decode cX5_line 96 = .ok (.bipush 103, 2) := dk_16 103 (dk_at dksX5_line_4 3 rfl rfl)
theorem dX5_line_98 : decode cX5_line 98 = .ok (.invokevirtual 214, 3) := dk_182 0 214 (dk_at dksX5_line_4 5 rfl rfl)
theorem dX5_line_101 : decode cX5_line 101 = .ok (.istore_n 2, 1) := dk_61 (dk_at dksX5_line_4 8 rfl rfl)
theorem dX5_line_102 : decode cX5_line 102 = .ok (.aload_n 0, 1) := dk_42 (dk_at dksX5_line_4 9 rfl rfl)
theorem dX5_line_103 : decode cX5_line 103 = .ok (.iload_n 2, 1) := dk_28 (dk_at dksX5_line_4 10 rfl rfl)
theorem dX5_line_104 : decode cX5_line 104 = .ok (.iload 4, 2) := dk_21 4 (dk_at dksX5_line_4 11 rfl rfl)
theorem dX5_line_106 : decode cX5_line 106 = .ok (.invokevirtual 217, 3) := dk_182 0 217 (dk_at dksX5_line_4 13 rfl rfl)
theorem dX5_line_109 : decode cX5_line 109 = .ok (.istore_n 2, 1) := dk_61 (dk_at dksX5_line_4 16 rfl rfl)
theorem dX5_line_110 : decode cX5_line 110 = .ok (.aload_n 0, 1) := dk_42 (dk_at dksX5_line_4 17 rfl rfl)
theorem dX5_line_111 : decode cX5_line 111 = .ok (.iload_n 1, 1) := dk_27 (dk_at dksX5_line_4 18 rfl rfl)
theorem dX5_line_112 : decode cX5_line 112 = .ok (.iload_n 3, 1) := dk_29 (dk_at dksX5_line_4 19 rfl rfl)
theorem dX5_line_113 : decode cX5_line 113 = .ok (.invokevirtual 136, 3) := dk_182 0 136 (dk_at dksX5_line_4 20 rfl rfl)
theorem dX5_line_116 : decode cX5_line 116 = .ok (.ifCond .le 13, 3) := dk_158 0 13 (dk_at dksX5_line_5 0 rfl rfl)
theorem dX5_line_119 : decode cX5_line 119 = .ok (.aload_n 0, 1) := dk_42 (dk_at dksX5_line_5 3 rfl rfl)
theorem dX5_line_120 : decode cX5_line 120 = .ok (.iload_n 2, 1) := dk_28 (dk_at dksX5_line_5 4 rfl rfl)
theorem dX5_line_121 : decode cX5_line 121 = .ok (.bipush 63, 2) := dk_16 63 (dk_at dksX5_line_5 5 rfl rfl)
theorem dX5_line_123 : decode cX5_line 123 = .ok (.invokevirtual 214, 3) := dk_182 0 214 (dk_at dksX5_line_5 7 rfl rfl)
theorem dX5_line_126 : decode cX5_line 126 = .ok (.goto 4, 3) := dk_167 0 4 (dk_at dksX5_line_5 10 rfl rfl)
theorem dX5_line_129 : decode cX5_line 129 = .ok (.iload_n 2, 1) := dk_28 (dk_at dksX5_line_5 13 rfl rfl)
theorem dX5_line_130 : decode cX5_line 130 = .ok (.istore_n 2, 1) := dk_61 (dk_at dksX5_line_5 14 rfl rfl)
theorem dX5_line_131 : decode cX5_line 131 = .ok (.iinc 3 1, 3) := dk_132 3 1 (dk_at dksX5_line_5 15 rfl rfl)
theorem dX5_line_134 : decode cX5_line 134 = .ok (.goto (-90), 3) := dk_167 255 166 (dk_at dksX5_line_5 18 rfl rfl)
theorem dX5_line_137 : decode cX5_line 137 = .ok (.aload_n 0, 1) := dk_42 (dk_at dksX5_line_5 21 rfl rfl)
theorem dX5_line_138 : decode cX5_line 138 = .ok (.iload_n 1, 1) := dk_27 (dk_at dksX5_line_5 22 rfl rfl)
theorem dX5_line_139 : decode cX5_line 139 = .ok (.iconst 2, 1) := dk_5 (dk_at dksX5_line_5 23 rfl rfl)
theorem dX5_line_140 : decode cX5_line 140 = .ok (.invokevirtual 118, 3) := dk_182 0 118 (dk_at dksX5_line_6 0 rfl rfl)
theorem dX5_line_143 : decode cX5_line 143 = .ok (.ifCond .le 29, 3) := dk_158 0 29 (dk_at dksX5_line_6 3 rfl rfl)
theorem dX5_line_146 : decode cX5_line 146 = .ok (.aload_n 0, 1) := dk_42 (dk_at dksX5_line_6 6 rfl rfl)
theorem dX5_line_147 : decode cX5_line 147 = .ok (.aload_n 0, 1) := dk_42 (dk_at dksX5_line_6 7 rfl rfl)
theorem dX5_line_148 : decode cX5_line 148 = .ok (.aload_n 0, 1) := dk_42 (dk_at dksX5_line_6 8 rfl rfl)
theorem dX5_line_149 : decode cX5_line 149 = .ok (.iload_n 2, 1) := dk_28 (dk_at dksX5_line_6 9 rfl rfl)
theorem dX5_line_150 : decode cX5_line 150 = .ok (.bipush 32, 2) := dk_16 32 (dk_at dksX5_line_6 10 rfl rfl)
theorem dX5_line_152 : decode cX5_line 152 = .ok (.invokevirtual 214, 3) := dk_182 0 214 (dk_at dksX5_line_6 12 rfl rfl)
theorem dX5_line_155 : decode cX5_line 155 = .ok (.bipush 45, 2) := dk_16 45 (dk_at dksX5_line_6 15 rfl rfl)
theorem dX5_line_157 : decode cX5_line 157 = .ok (.invokevirtual 214, 3) := dk_182 0 214 (dk_at dksX5_line_6 17 rfl rfl)
theorem dX5_line_160 : decode cX5_line 160 = .ok (.aload_n 0, 1) := dk_42 (dk_at dksX5_line_6 20 rfl rfl)
theorem dX5_line_161 : decode cX5_line 161 = .ok (.iload_n 1, 1) := dk_27 (dk_at dksX5_line_6 21 rfl rfl)
theorem dX5_line_162 : decode cX5_line 162 = .ok (.iconst 2, 1) := dk_5 (dk_at dksX5_line_6 22 rfl rfl)
theorem dX5_line_163 : decode cX5_line 163 = .ok (.invokevirtual 118, 3) := dk_182 0 118 (dk_at dksX5_line_7 0 rfl rfl)
theorem dX5_line_166 : decode cX5_line 166 = .ok (.invokevirtual 217, 3) := dk_182 0 217 (dk_at dksX5_line_7 3 rfl rfl)
theorem dX5_line_169 : decode cX5_line 169 = .ok (.goto 4, 3) := dk_167 0 4 (dk_at dksX5_line_7 6 rfl rfl)
theorem dX5_line_172 : decode cX5_line 172 = .ok (.iload_n 2, 1) := dk_28 (dk_at dksX5_line_7 9 rfl rfl)
theorem dX5_line_173 : decode cX5_line 173 = .ok (.istore_n 2, 1) := dk_61 (dk_at dksX5_line_7 10 rfl rfl)
theorem dX5_line_174 : decode cX5_line 174 = .ok (.aload_n 0, 1) := dk_42 (dk_at dksX5_line_7 11 rfl rfl)
theorem dX5_line_175 : decode cX5_line 175 = .ok (.iload_n 2, 1) := dk_28 (dk_at dksX5_line_7 12 rfl rfl)
theorem dX5_line_176 : decode cX5_line 176 = .ok (.putfield 220, 3) := dk_181 0 220 (dk_at dksX5_line_7 13 rfl rfl)
theorem dX5_line_179 : decode cX5_line 179 = .ok (.iload_n 2, 1) := dk_28 (dk_at dksX5_line_7 16 rfl rfl)
theorem dX5_line_180 : decode cX5_line 180 = .ok (.ireturn, 1) := dk_172 (dk_at dksX5_line_7 17 rfl rfl)
abbrev cX5_writesNumber : ByteArray := prog_12_method_76_code
def yX5_writesNumber : MethodName := ⟨RX5, "writesNumber", "(II)I"⟩
def dkwX5_writesNumber_2 : List UInt8 := [62, 167, 255, 230, 21, 4, 172]
abbrev dktX5_writesNumber_2 : List UInt8 := dkwX5_writesNumber_2 ++ []
def dkwX5_writesNumber_1 : List UInt8 := [158, 0, 28, 42, 21, 4, 16, 48, 28, 29, 108, 16, 10, 112, 96, 182, 0, 214, 54, 4, 29, 16, 10, 108]
abbrev dktX5_writesNumber_1 : List UInt8 := dkwX5_writesNumber_1 ++ dktX5_writesNumber_2
def dkwX5_writesNumber_0 : List UInt8 := [4, 62, 28, 29, 108, 16, 10, 161, 0, 11, 29, 16, 10, 104, 62, 167, 255, 243, 27, 54, 4, 29]
abbrev dktX5_writesNumber_0 : List UInt8 := dkwX5_writesNumber_0 ++ dktX5_writesNumber_1
theorem dksX5_writesNumber_0 : cX5_writesNumber.data.toList.drop 0 = dktX5_writesNumber_0 := by decide +kernel
theorem dksX5_writesNumber_1 : cX5_writesNumber.data.toList.drop 22 = dktX5_writesNumber_1 := dk_seg dksX5_writesNumber_0 22 rfl rfl
theorem dksX5_writesNumber_2 : cX5_writesNumber.data.toList.drop 46 = dktX5_writesNumber_2 := dk_seg dksX5_writesNumber_1 24 rfl rfl
theorem dX5_writesNumber_0 : decode cX5_writesNumber 0 = .ok (.iconst 1, 1) := dk_4 (dk_at dksX5_writesNumber_0 0 rfl rfl)
theorem dX5_writesNumber_1 : decode cX5_writesNumber 1 = .ok (.istore_n 3, 1) := dk_62 (dk_at dksX5_writesNumber_0 1 rfl rfl)
theorem dX5_writesNumber_2 : decode cX5_writesNumber 2 = .ok (.iload_n 2, 1) := dk_28 (dk_at dksX5_writesNumber_0 2 rfl rfl)
theorem dX5_writesNumber_3 : decode cX5_writesNumber 3 = .ok (.iload_n 3, 1) := dk_29 (dk_at dksX5_writesNumber_0 3 rfl rfl)
theorem dX5_writesNumber_4 : decode cX5_writesNumber 4 = .ok (.idiv, 1) := dk_108 (dk_at dksX5_writesNumber_0 4 rfl rfl)
theorem dX5_writesNumber_5 : decode cX5_writesNumber 5 = .ok (.bipush 10, 2) := dk_16 10 (dk_at dksX5_writesNumber_0 5 rfl rfl)
theorem dX5_writesNumber_7 : decode cX5_writesNumber 7 = .ok (.if_icmp .lt 11, 3) := dk_161 0 11 (dk_at dksX5_writesNumber_0 7 rfl rfl)
theorem dX5_writesNumber_10 : decode cX5_writesNumber 10 = .ok (.iload_n 3, 1) := dk_29 (dk_at dksX5_writesNumber_0 10 rfl rfl)
theorem dX5_writesNumber_11 : decode cX5_writesNumber 11 = .ok (.bipush 10, 2) := dk_16 10 (dk_at dksX5_writesNumber_0 11 rfl rfl)
theorem dX5_writesNumber_13 : decode cX5_writesNumber 13 = .ok (.imul, 1) := dk_104 (dk_at dksX5_writesNumber_0 13 rfl rfl)
theorem dX5_writesNumber_14 : decode cX5_writesNumber 14 = .ok (.istore_n 3, 1) := dk_62 (dk_at dksX5_writesNumber_0 14 rfl rfl)
theorem dX5_writesNumber_15 : decode cX5_writesNumber 15 = .ok (.goto (-13), 3) := dk_167 255 243 (dk_at dksX5_writesNumber_0 15 rfl rfl)
theorem dX5_writesNumber_18 : decode cX5_writesNumber 18 = .ok (.iload_n 1, 1) := dk_27 (dk_at dksX5_writesNumber_0 18 rfl rfl)
theorem dX5_writesNumber_19 : decode cX5_writesNumber 19 = .ok (.istore 4, 2) := dk_54 4 (dk_at dksX5_writesNumber_0 19 rfl rfl)
theorem dX5_writesNumber_21 : decode cX5_writesNumber 21 = .ok (.iload_n 3, 1) := dk_29 (dk_at dksX5_writesNumber_0 21 rfl rfl)
theorem dX5_writesNumber_22 : decode cX5_writesNumber 22 = .ok (.ifCond .le 28, 3) := dk_158 0 28 (dk_at dksX5_writesNumber_1 0 rfl rfl)
theorem dX5_writesNumber_25 : decode cX5_writesNumber 25 = .ok (.aload_n 0, 1) := dk_42 (dk_at dksX5_writesNumber_1 3 rfl rfl)
theorem dX5_writesNumber_26 : decode cX5_writesNumber 26 = .ok (.iload 4, 2) := dk_21 4 (dk_at dksX5_writesNumber_1 4 rfl rfl)
theorem dX5_writesNumber_28 : decode cX5_writesNumber 28 = .ok (.bipush 48, 2) := dk_16 48 (dk_at dksX5_writesNumber_1 6 rfl rfl)
theorem dX5_writesNumber_30 : decode cX5_writesNumber 30 = .ok (.iload_n 2, 1) := dk_28 (dk_at dksX5_writesNumber_1 8 rfl rfl)
theorem dX5_writesNumber_31 : decode cX5_writesNumber 31 = .ok (.iload_n 3, 1) := dk_29 (dk_at dksX5_writesNumber_1 9 rfl rfl)
theorem dX5_writesNumber_32 : decode cX5_writesNumber 32 = .ok (.idiv, 1) := dk_108 (dk_at dksX5_writesNumber_1 10 rfl rfl)
theorem dX5_writesNumber_33 : decode cX5_writesNumber 33 = .ok (.bipush 10, 2) := dk_16 10 (dk_at dksX5_writesNumber_1 11 rfl rfl)
theorem dX5_writesNumber_35 : decode cX5_writesNumber 35 = .ok (.irem, 1) := dk_112 (dk_at dksX5_writesNumber_1 13 rfl rfl)
theorem dX5_writesNumber_36 : decode cX5_writesNumber 36 = .ok (.iadd, 1) := dk_96 (dk_at dksX5_writesNumber_1 14 rfl rfl)
theorem dX5_writesNumber_37 : decode cX5_writesNumber 37 = .ok (.invokevirtual 214, 3) := dk_182 0 214 (dk_at dksX5_writesNumber_1 15 rfl rfl)
theorem dX5_writesNumber_40 : decode cX5_writesNumber 40 = .ok (.istore 4, 2) := dk_54 4 (dk_at dksX5_writesNumber_1 18 rfl rfl)
theorem dX5_writesNumber_42 : decode cX5_writesNumber 42 = .ok (.iload_n 3, 1) := dk_29 (dk_at dksX5_writesNumber_1 20 rfl rfl)
theorem dX5_writesNumber_43 : decode cX5_writesNumber 43 = .ok (.bipush 10, 2) := dk_16 10 (dk_at dksX5_writesNumber_1 21 rfl rfl)
theorem dX5_writesNumber_45 : decode cX5_writesNumber 45 = .ok (.idiv, 1) := dk_108 (dk_at dksX5_writesNumber_1 23 rfl rfl)
theorem dX5_writesNumber_46 : decode cX5_writesNumber 46 = .ok (.istore_n 3, 1) := dk_62 (dk_at dksX5_writesNumber_2 0 rfl rfl)
theorem dX5_writesNumber_47 : decode cX5_writesNumber 47 = .ok (.goto (-26), 3) := dk_167 255 230 (dk_at dksX5_writesNumber_2 1 rfl rfl)
theorem dX5_writesNumber_50 : decode cX5_writesNumber 50 = .ok (.iload 4, 2) := dk_21 4 (dk_at dksX5_writesNumber_2 4 rfl rfl)
theorem dX5_writesNumber_52 : decode cX5_writesNumber 52 = .ok (.ireturn, 1) := dk_172 (dk_at dksX5_writesNumber_2 6 rfl rfl)
abbrev cX5_put : ByteArray := prog_12_method_75_code
def yX5_put : MethodName := ⟨RX5, "put", "(II)I"⟩
def dkwX5_put_0 : List UInt8 := [42, 180, 0, 29, 27, 28, 79, 27, 4, 96, 172]
abbrev dktX5_put_0 : List UInt8 := dkwX5_put_0 ++ []
theorem dksX5_put_0 : cX5_put.data.toList.drop 0 = dktX5_put_0 := by decide +kernel
theorem dX5_put_0 : decode cX5_put 0 = .ok (.aload_n 0, 1) := dk_42 (dk_at dksX5_put_0 0 rfl rfl)
theorem dX5_put_1 : decode cX5_put 1 = .ok (.getfield 29, 3) := dk_180 0 29 (dk_at dksX5_put_0 1 rfl rfl)
theorem dX5_put_4 : decode cX5_put 4 = .ok (.iload_n 1, 1) := dk_27 (dk_at dksX5_put_0 4 rfl rfl)
theorem dX5_put_5 : decode cX5_put 5 = .ok (.iload_n 2, 1) := dk_28 (dk_at dksX5_put_0 5 rfl rfl)
theorem dX5_put_6 : decode cX5_put 6 = .ok (.iastore, 1) := dk_79 (dk_at dksX5_put_0 6 rfl rfl)
theorem dX5_put_7 : decode cX5_put 7 = .ok (.iload_n 1, 1) := dk_27 (dk_at dksX5_put_0 7 rfl rfl)
theorem dX5_put_8 : decode cX5_put 8 = .ok (.iconst 1, 1) := dk_4 (dk_at dksX5_put_0 8 rfl rfl)
theorem dX5_put_9 : decode cX5_put 9 = .ok (.iadd, 1) := dk_96 (dk_at dksX5_put_0 9 rfl rfl)
theorem dX5_put_10 : decode cX5_put 10 = .ok (.ireturn, 1) := dk_172 (dk_at dksX5_put_0 10 rfl rfl)
abbrev cX5_bracketLine : ByteArray := prog_12_method_78_code
def yX5_bracketLine : MethodName := ⟨RX5, "bracketLine", "()I"⟩
def dkwX5_bracketLine_3 : List UInt8 := [181, 0, 220, 27, 172]
abbrev dktX5_bracketLine_3 : List UInt8 := dkwX5_bracketLine_3 ++ []
def dkwX5_bracketLine_2 : List UInt8 := [182, 0, 214, 60, 42, 27, 42, 28, 182, 0, 103, 182, 0, 217, 60, 132, 2, 1, 167, 255, 199, 42, 27]
abbrev dktX5_bracketLine_2 : List UInt8 := dkwX5_bracketLine_2 ++ dktX5_bracketLine_3
def dkwX5_bracketLine_1 : List UInt8 := [167, 0, 10, 42, 27, 16, 32, 182, 0, 214, 60, 42, 42, 27, 42, 28, 182, 0, 85, 182, 0, 217, 16, 58]
abbrev dktX5_bracketLine_1 : List UInt8 := dkwX5_bracketLine_1 ++ dktX5_bracketLine_2
def dkwX5_bracketLine_0 : List UInt8 := [42, 3, 181, 0, 38, 3, 60, 3, 61, 28, 42, 180, 0, 9, 4, 46, 162, 0, 53, 28, 154, 0, 7, 27]
abbrev dktX5_bracketLine_0 : List UInt8 := dkwX5_bracketLine_0 ++ dktX5_bracketLine_1
theorem dksX5_bracketLine_0 : cX5_bracketLine.data.toList.drop 0 = dktX5_bracketLine_0 := by decide +kernel
theorem dksX5_bracketLine_1 : cX5_bracketLine.data.toList.drop 24 = dktX5_bracketLine_1 := dk_seg dksX5_bracketLine_0 24 rfl rfl
theorem dksX5_bracketLine_2 : cX5_bracketLine.data.toList.drop 48 = dktX5_bracketLine_2 := dk_seg dksX5_bracketLine_1 24 rfl rfl
theorem dksX5_bracketLine_3 : cX5_bracketLine.data.toList.drop 71 = dktX5_bracketLine_3 := dk_seg dksX5_bracketLine_2 23 rfl rfl
theorem dX5_bracketLine_0 : decode cX5_bracketLine 0 = .ok (.aload_n 0, 1) := dk_42 (dk_at dksX5_bracketLine_0 0 rfl rfl)
theorem dX5_bracketLine_1 : decode cX5_bracketLine 1 = .ok (.iconst 0, 1) := dk_3 (dk_at dksX5_bracketLine_0 1 rfl rfl)
theorem dX5_bracketLine_2 : decode cX5_bracketLine 2 = .ok (.putfield 38, 3) := dk_181 0 38 (dk_at dksX5_bracketLine_0 2 rfl rfl)
theorem dX5_bracketLine_5 : decode cX5_bracketLine 5 = .ok (.iconst 0, 1) := dk_3 (dk_at dksX5_bracketLine_0 5 rfl rfl)
theorem dX5_bracketLine_6 : decode cX5_bracketLine 6 = .ok (.istore_n 1, 1) := dk_60 (dk_at dksX5_bracketLine_0 6 rfl rfl)
theorem dX5_bracketLine_7 : decode cX5_bracketLine 7 = .ok (.iconst 0, 1) := dk_3 (dk_at dksX5_bracketLine_0 7 rfl rfl)
theorem dX5_bracketLine_8 : decode cX5_bracketLine 8 = .ok (.istore_n 2, 1) := dk_61 (dk_at dksX5_bracketLine_0 8 rfl rfl)
theorem dX5_bracketLine_9 : decode cX5_bracketLine 9 = .ok (.iload_n 2, 1) := dk_28 (dk_at dksX5_bracketLine_0 9 rfl rfl)
theorem dX5_bracketLine_10 : decode cX5_bracketLine 10 = .ok (.aload_n 0, 1) := dk_42 (dk_at dksX5_bracketLine_0 10 rfl rfl)
theorem dX5_bracketLine_11 : decode cX5_bracketLine 11 = .ok (.getfield 9, 3) := dk_180 0 9 (dk_at dksX5_bracketLine_0 11 rfl rfl)
theorem dX5_bracketLine_14 : decode cX5_bracketLine 14 = .ok (.iconst 1, 1) := dk_4 (dk_at dksX5_bracketLine_0 14 rfl rfl)
theorem dX5_bracketLine_15 : decode cX5_bracketLine 15 = .ok (.iaload, 1) := dk_46 (dk_at dksX5_bracketLine_0 15 rfl rfl)
theorem dX5_bracketLine_16 : decode cX5_bracketLine 16 = .ok (.if_icmp .ge 53, 3) := dk_162 0 53 (dk_at dksX5_bracketLine_0 16 rfl rfl)
theorem dX5_bracketLine_19 : decode cX5_bracketLine 19 = .ok (.iload_n 2, 1) := dk_28 (dk_at dksX5_bracketLine_0 19 rfl rfl)
theorem dX5_bracketLine_20 : decode cX5_bracketLine 20 = .ok (.ifCond .ne 7, 3) := dk_154 0 7 (dk_at dksX5_bracketLine_0 20 rfl rfl)
theorem dX5_bracketLine_23 : decode cX5_bracketLine 23 = .ok (.iload_n 1, 1) := dk_27 (dk_at dksX5_bracketLine_0 23 rfl rfl)
theorem dX5_bracketLine_24 : decode cX5_bracketLine 24 = .ok (.goto 10, 3) := dk_167 0 10 (dk_at dksX5_bracketLine_1 0 rfl rfl)
theorem dX5_bracketLine_27 : decode cX5_bracketLine 27 = .ok (.aload_n 0, 1) := dk_42 (dk_at dksX5_bracketLine_1 3 rfl rfl)
theorem dX5_bracketLine_28 : decode cX5_bracketLine 28 = .ok (.iload_n 1, 1) := dk_27 (dk_at dksX5_bracketLine_1 4 rfl rfl)
theorem dX5_bracketLine_29 : decode cX5_bracketLine 29 = .ok (.bipush 32, 2) := dk_16 32 (dk_at dksX5_bracketLine_1 5 rfl rfl)
theorem dX5_bracketLine_31 : decode cX5_bracketLine 31 = .ok (.invokevirtual 214, 3) := dk_182 0 214 (dk_at dksX5_bracketLine_1 7 rfl rfl)
theorem dX5_bracketLine_34 : decode cX5_bracketLine 34 = .ok (.istore_n 1, 1) := dk_60 (dk_at dksX5_bracketLine_1 10 rfl rfl)
theorem dX5_bracketLine_35 : decode cX5_bracketLine 35 = .ok (.aload_n 0, 1) := dk_42 (dk_at dksX5_bracketLine_1 11 rfl rfl)
theorem dX5_bracketLine_36 : decode cX5_bracketLine 36 = .ok (.aload_n 0, 1) := dk_42 (dk_at dksX5_bracketLine_1 12 rfl rfl)
theorem dX5_bracketLine_37 : decode cX5_bracketLine 37 = .ok (.iload_n 1, 1) := dk_27 (dk_at dksX5_bracketLine_1 13 rfl rfl)
theorem dX5_bracketLine_38 : decode cX5_bracketLine 38 = .ok (.aload_n 0, 1) := dk_42 (dk_at dksX5_bracketLine_1 14 rfl rfl)
theorem dX5_bracketLine_39 : decode cX5_bracketLine 39 = .ok (.iload_n 2, 1) := dk_28 (dk_at dksX5_bracketLine_1 15 rfl rfl)
theorem dX5_bracketLine_40 : decode cX5_bracketLine 40 = .ok (.invokevirtual 85, 3) := dk_182 0 85 (dk_at dksX5_bracketLine_1 16 rfl rfl)
theorem dX5_bracketLine_43 : decode cX5_bracketLine 43 = .ok (.invokevirtual 217, 3) := dk_182 0 217 (dk_at dksX5_bracketLine_1 19 rfl rfl)
theorem dX5_bracketLine_46 : decode cX5_bracketLine 46 = .ok (.bipush 58, 2) := dk_16 58 (dk_at dksX5_bracketLine_1 22 rfl rfl)
theorem dX5_bracketLine_48 : decode cX5_bracketLine 48 = .ok (.invokevirtual 214, 3) := dk_182 0 214 (dk_at dksX5_bracketLine_2 0 rfl rfl)
theorem dX5_bracketLine_51 : decode cX5_bracketLine 51 = .ok (.istore_n 1, 1) := dk_60 (dk_at dksX5_bracketLine_2 3 rfl rfl)
theorem dX5_bracketLine_52 : decode cX5_bracketLine 52 = .ok (.aload_n 0, 1) := dk_42 (dk_at dksX5_bracketLine_2 4 rfl rfl)
theorem dX5_bracketLine_53 : decode cX5_bracketLine 53 = .ok (.iload_n 1, 1) := dk_27 (dk_at dksX5_bracketLine_2 5 rfl rfl)
theorem dX5_bracketLine_54 : decode cX5_bracketLine 54 = .ok (.aload_n 0, 1) := dk_42 (dk_at dksX5_bracketLine_2 6 rfl rfl)
theorem dX5_bracketLine_55 : decode cX5_bracketLine 55 = .ok (.iload_n 2, 1) := dk_28 (dk_at dksX5_bracketLine_2 7 rfl rfl)
theorem dX5_bracketLine_56 : decode cX5_bracketLine 56 = .ok (.invokevirtual 103, 3) := dk_182 0 103 (dk_at dksX5_bracketLine_2 8 rfl rfl)
theorem dX5_bracketLine_59 : decode cX5_bracketLine 59 = .ok (.invokevirtual 217, 3) := dk_182 0 217 (dk_at dksX5_bracketLine_2 11 rfl rfl)
theorem dX5_bracketLine_62 : decode cX5_bracketLine 62 = .ok (.istore_n 1, 1) := dk_60 (dk_at dksX5_bracketLine_2 14 rfl rfl)
theorem dX5_bracketLine_63 : decode cX5_bracketLine 63 = .ok (.iinc 2 1, 3) := dk_132 2 1 (dk_at dksX5_bracketLine_2 15 rfl rfl)
theorem dX5_bracketLine_66 : decode cX5_bracketLine 66 = .ok (.goto (-57), 3) := dk_167 255 199 (dk_at dksX5_bracketLine_2 18 rfl rfl)
theorem dX5_bracketLine_69 : decode cX5_bracketLine 69 = .ok (.aload_n 0, 1) := dk_42 (dk_at dksX5_bracketLine_2 21 rfl rfl)
theorem dX5_bracketLine_70 : decode cX5_bracketLine 70 = .ok (.iload_n 1, 1) := dk_27 (dk_at dksX5_bracketLine_2 22 rfl rfl)
theorem dX5_bracketLine_71 : decode cX5_bracketLine 71 = .ok (.putfield 220, 3) := dk_181 0 220 (dk_at dksX5_bracketLine_3 0 rfl rfl)
theorem dX5_bracketLine_74 : decode cX5_bracketLine 74 = .ok (.iload_n 1, 1) := dk_27 (dk_at dksX5_bracketLine_3 3 rfl rfl)
theorem dX5_bracketLine_75 : decode cX5_bracketLine 75 = .ok (.ireturn, 1) := dk_172 (dk_at dksX5_bracketLine_3 4 rfl rfl)
abbrev cX5_character : ByteArray := prog_12_method_79_code
def yX5_character : MethodName := ⟨RX5, "character", "(I)C"⟩
def dkwX5_character_1 : List UInt8 := [180, 0, 38, 154, 0, 13, 42, 180, 0, 29, 27, 46, 146, 167, 0, 4, 3, 172]
abbrev dktX5_character_1 : List UInt8 := dkwX5_character_1 ++ []
def dkwX5_character_0 : List UInt8 := [42, 27, 3, 42, 180, 0, 220, 4, 100, 184, 0, 73, 153, 0, 7, 3, 167, 0, 4, 4, 181, 0, 38, 42]
abbrev dktX5_character_0 : List UInt8 := dkwX5_character_0 ++ dktX5_character_1
theorem dksX5_character_0 : cX5_character.data.toList.drop 0 = dktX5_character_0 := by decide +kernel
theorem dksX5_character_1 : cX5_character.data.toList.drop 24 = dktX5_character_1 := dk_seg dksX5_character_0 24 rfl rfl
theorem dX5_character_0 : decode cX5_character 0 = .ok (.aload_n 0, 1) := dk_42 (dk_at dksX5_character_0 0 rfl rfl)
theorem dX5_character_1 : decode cX5_character 1 = .ok (.iload_n 1, 1) := dk_27 (dk_at dksX5_character_0 1 rfl rfl)
theorem dX5_character_2 : decode cX5_character 2 = .ok (.iconst 0, 1) := dk_3 (dk_at dksX5_character_0 2 rfl rfl)
theorem dX5_character_3 : decode cX5_character 3 = .ok (.aload_n 0, 1) := dk_42 (dk_at dksX5_character_0 3 rfl rfl)
theorem dX5_character_4 : decode cX5_character 4 = .ok (.getfield 220, 3) := dk_180 0 220 (dk_at dksX5_character_0 4 rfl rfl)
theorem dX5_character_7 : decode cX5_character 7 = .ok (.iconst 1, 1) := dk_4 (dk_at dksX5_character_0 7 rfl rfl)
theorem dX5_character_8 : decode cX5_character 8 = .ok (.isub, 1) := dk_100 (dk_at dksX5_character_0 8 rfl rfl)
theorem dX5_character_9 : decode cX5_character 9 = .ok (.invokestatic 73, 3) := dk_184 0 73 (dk_at dksX5_character_0 9 rfl rfl)
theorem dX5_character_12 : decode cX5_character 12 = .ok (.ifCond .eq 7, 3) := dk_153 0 7 (dk_at dksX5_character_0 12 rfl rfl)
theorem dX5_character_15 : decode cX5_character 15 = .ok (.iconst 0, 1) := dk_3 (dk_at dksX5_character_0 15 rfl rfl)
theorem dX5_character_16 : decode cX5_character 16 = .ok (.goto 4, 3) := dk_167 0 4 (dk_at dksX5_character_0 16 rfl rfl)
theorem dX5_character_19 : decode cX5_character 19 = .ok (.iconst 1, 1) := dk_4 (dk_at dksX5_character_0 19 rfl rfl)
theorem dX5_character_20 : decode cX5_character 20 = .ok (.putfield 38, 3) := dk_181 0 38 (dk_at dksX5_character_0 20 rfl rfl)
theorem dX5_character_23 : decode cX5_character 23 = .ok (.aload_n 0, 1) := dk_42 (dk_at dksX5_character_0 23 rfl rfl)
theorem dX5_character_24 : decode cX5_character 24 = .ok (.getfield 38, 3) := dk_180 0 38 (dk_at dksX5_character_1 0 rfl rfl)
theorem dX5_character_27 : decode cX5_character 27 = .ok (.ifCond .ne 13, 3) := dk_154 0 13 (dk_at dksX5_character_1 3 rfl rfl)
theorem dX5_character_30 : decode cX5_character 30 = .ok (.aload_n 0, 1) := dk_42 (dk_at dksX5_character_1 6 rfl rfl)
theorem dX5_character_31 : decode cX5_character 31 = .ok (.getfield 29, 3) := dk_180 0 29 (dk_at dksX5_character_1 7 rfl rfl)
theorem dX5_character_34 : decode cX5_character 34 = .ok (.iload_n 1, 1) := dk_27 (dk_at dksX5_character_1 10 rfl rfl)
theorem dX5_character_35 : decode cX5_character 35 = .ok (.iaload, 1) := dk_46 (dk_at dksX5_character_1 11 rfl rfl)
theorem dX5_character_36 : decode cX5_character 36 = .ok (.i2c, 1) := dk_146 (dk_at dksX5_character_1 12 rfl rfl)
theorem dX5_character_37 : decode cX5_character 37 = .ok (.goto 4, 3) := dk_167 0 4 (dk_at dksX5_character_1 13 rfl rfl)
theorem dX5_character_40 : decode cX5_character 40 = .ok (.iconst 0, 1) := dk_3 (dk_at dksX5_character_1 16 rfl rfl)
theorem dX5_character_41 : decode cX5_character 41 = .ok (.ireturn, 1) := dk_172 (dk_at dksX5_character_1 17 rfl rfl)
abbrev cX5_feed : ByteArray := prog_12_method_81_code
def yX5_feed : MethodName := ⟨RX5, "feed", "(C)I"⟩
def dkwX5_feed_2 : List UInt8 := [180, 0, 38, 154, 0, 10, 42, 180, 0, 211, 167, 0, 4, 3, 172]
abbrev dktX5_feed_2 : List UInt8 := dkwX5_feed_2 ++ []
def dkwX5_feed_1 : List UInt8 := [162, 0, 23, 42, 180, 0, 22, 42, 180, 0, 211, 27, 79, 42, 89, 180, 0, 211, 4, 96, 181, 0, 211, 42]
abbrev dktX5_feed_1 : List UInt8 := dkwX5_feed_1 ++ dktX5_feed_2
def dkwX5_feed_0 : List UInt8 := [42, 42, 180, 0, 211, 16, 60, 160, 0, 7, 4, 167, 0, 4, 3, 181, 0, 38, 42, 180, 0, 211, 16, 60]
abbrev dktX5_feed_0 : List UInt8 := dkwX5_feed_0 ++ dktX5_feed_1
theorem dksX5_feed_0 : cX5_feed.data.toList.drop 0 = dktX5_feed_0 := by decide +kernel
theorem dksX5_feed_1 : cX5_feed.data.toList.drop 24 = dktX5_feed_1 := dk_seg dksX5_feed_0 24 rfl rfl
theorem dksX5_feed_2 : cX5_feed.data.toList.drop 48 = dktX5_feed_2 := dk_seg dksX5_feed_1 24 rfl rfl
theorem dX5_feed_0 : decode cX5_feed 0 = .ok (.aload_n 0, 1) := dk_42 (dk_at dksX5_feed_0 0 rfl rfl)
theorem dX5_feed_1 : decode cX5_feed 1 = .ok (.aload_n 0, 1) := dk_42 (dk_at dksX5_feed_0 1 rfl rfl)
theorem dX5_feed_2 : decode cX5_feed 2 = .ok (.getfield 211, 3) := dk_180 0 211 (dk_at dksX5_feed_0 2 rfl rfl)
theorem dX5_feed_5 : decode cX5_feed 5 = .ok (.bipush 60, 2) := dk_16 60 (dk_at dksX5_feed_0 5 rfl rfl)
theorem dX5_feed_7 : decode cX5_feed 7 = .ok (.if_icmp .ne 7, 3) := dk_160 0 7 (dk_at dksX5_feed_0 7 rfl rfl)
theorem dX5_feed_10 : decode cX5_feed 10 = .ok (.iconst 1, 1) := dk_4 (dk_at dksX5_feed_0 10 rfl rfl)
theorem dX5_feed_11 : decode cX5_feed 11 = .ok (.goto 4, 3) := dk_167 0 4 (dk_at dksX5_feed_0 11 rfl rfl)
theorem dX5_feed_14 : decode cX5_feed 14 = .ok (.iconst 0, 1) := dk_3 (dk_at dksX5_feed_0 14 rfl rfl)
theorem dX5_feed_15 : decode cX5_feed 15 = .ok (.putfield 38, 3) := dk_181 0 38 (dk_at dksX5_feed_0 15 rfl rfl)
theorem dX5_feed_18 : decode cX5_feed 18 = .ok (.aload_n 0, 1) := dk_42 (dk_at dksX5_feed_0 18 rfl rfl)
theorem dX5_feed_19 : decode cX5_feed 19 = .ok (.getfield 211, 3) := dk_180 0 211 (dk_at dksX5_feed_0 19 rfl rfl)
theorem dX5_feed_22 : decode cX5_feed 22 = .ok (.bipush 60, 2) := dk_16 60 (dk_at dksX5_feed_0 22 rfl rfl)
theorem dX5_feed_24 : decode cX5_feed 24 = .ok (.if_icmp .ge 23, 3) := dk_162 0 23 (dk_at dksX5_feed_1 0 rfl rfl)
theorem dX5_feed_27 : decode cX5_feed 27 = .ok (.aload_n 0, 1) := dk_42 (dk_at dksX5_feed_1 3 rfl rfl)
theorem dX5_feed_28 : decode cX5_feed 28 = .ok (.getfield 22, 3) := dk_180 0 22 (dk_at dksX5_feed_1 4 rfl rfl)
theorem dX5_feed_31 : decode cX5_feed 31 = .ok (.aload_n 0, 1) := dk_42 (dk_at dksX5_feed_1 7 rfl rfl)
theorem dX5_feed_32 : decode cX5_feed 32 = .ok (.getfield 211, 3) := dk_180 0 211 (dk_at dksX5_feed_1 8 rfl rfl)
theorem dX5_feed_35 : decode cX5_feed 35 = .ok (.iload_n 1, 1) := dk_27 (dk_at dksX5_feed_1 11 rfl rfl)
theorem dX5_feed_36 : decode cX5_feed 36 = .ok (.iastore, 1) := dk_79 (dk_at dksX5_feed_1 12 rfl rfl)
theorem dX5_feed_37 : decode cX5_feed 37 = .ok (.aload_n 0, 1) := dk_42 (dk_at dksX5_feed_1 13 rfl rfl)
theorem dX5_feed_38 : decode cX5_feed 38 = .ok (.dup, 1) := dk_89 (dk_at dksX5_feed_1 14 rfl rfl)
theorem dX5_feed_39 : decode cX5_feed 39 = .ok (.getfield 211, 3) := dk_180 0 211 (dk_at dksX5_feed_1 15 rfl rfl)
theorem dX5_feed_42 : decode cX5_feed 42 = .ok (.iconst 1, 1) := dk_4 (dk_at dksX5_feed_1 18 rfl rfl)
theorem dX5_feed_43 : decode cX5_feed 43 = .ok (.iadd, 1) := dk_96 (dk_at dksX5_feed_1 19 rfl rfl)
theorem dX5_feed_44 : decode cX5_feed 44 = .ok (.putfield 211, 3) := dk_181 0 211 (dk_at dksX5_feed_1 20 rfl rfl)
theorem dX5_feed_47 : decode cX5_feed 47 = .ok (.aload_n 0, 1) := dk_42 (dk_at dksX5_feed_1 23 rfl rfl)
theorem dX5_feed_48 : decode cX5_feed 48 = .ok (.getfield 38, 3) := dk_180 0 38 (dk_at dksX5_feed_2 0 rfl rfl)
theorem dX5_feed_51 : decode cX5_feed 51 = .ok (.ifCond .ne 10, 3) := dk_154 0 10 (dk_at dksX5_feed_2 3 rfl rfl)
theorem dX5_feed_54 : decode cX5_feed 54 = .ok (.aload_n 0, 1) := dk_42 (dk_at dksX5_feed_2 6 rfl rfl)
theorem dX5_feed_55 : decode cX5_feed 55 = .ok (.getfield 211, 3) := dk_180 0 211 (dk_at dksX5_feed_2 7 rfl rfl)
theorem dX5_feed_58 : decode cX5_feed 58 = .ok (.goto 4, 3) := dk_167 0 4 (dk_at dksX5_feed_2 10 rfl rfl)
theorem dX5_feed_61 : decode cX5_feed 61 = .ok (.iconst 0, 1) := dk_3 (dk_at dksX5_feed_2 13 rfl rfl)
theorem dX5_feed_62 : decode cX5_feed 62 = .ok (.ireturn, 1) := dk_172 (dk_at dksX5_feed_2 14 rfl rfl)
abbrev cX5_run : ByteArray := prog_12_method_89_code
def yX5_run : MethodName := ⟨RX5, "run", "()I"⟩
def dkwX5_run_5 : List UInt8 := [167, 255, 185, 42, 42, 180, 0, 252, 182, 0, 96, 172]
abbrev dktX5_run_5 : List UInt8 := dkwX5_run_5 ++ []
def dkwX5_run_4 : List UInt8 := [42, 5, 181, 0, 38, 42, 180, 0, 13, 3, 42, 180, 0, 9, 3, 184, 0, 47, 3, 172, 132, 1, 1]
abbrev dktX5_run_4 : List UInt8 := dkwX5_run_4 ++ dktX5_run_5
def dkwX5_run_3 : List UInt8 := [181, 0, 54, 42, 27, 181, 0, 57, 42, 42, 180, 0, 41, 181, 0, 60, 42, 42, 180, 0, 44, 181, 0, 66]
abbrev dktX5_run_3 : List UInt8 := dkwX5_run_3 ++ dktX5_run_4
def dkwX5_run_2 : List UInt8 := [27, 42, 180, 0, 252, 162, 0, 69, 42, 27, 182, 1, 8, 61, 42, 180, 0, 41, 153, 0, 50, 42, 16, 9]
abbrev dktX5_run_2 : List UInt8 := dkwX5_run_2 ++ dktX5_run_3
def dkwX5_run_1 : List UInt8 := [159, 0, 18, 42, 42, 180, 0, 229, 181, 0, 25, 42, 4, 181, 0, 38, 3, 172, 42, 182, 0, 89, 3, 60]
abbrev dktX5_run_1 : List UInt8 := dkwX5_run_1 ++ dktX5_run_2
def dkwX5_run_0 : List UInt8 := [42, 42, 180, 0, 211, 181, 0, 226, 42, 3, 181, 0, 211, 42, 182, 1, 5, 42, 180, 0, 229, 2]
abbrev dktX5_run_0 : List UInt8 := dkwX5_run_0 ++ dktX5_run_1
theorem dksX5_run_0 : cX5_run.data.toList.drop 0 = dktX5_run_0 := by decide +kernel
theorem dksX5_run_1 : cX5_run.data.toList.drop 22 = dktX5_run_1 := dk_seg dksX5_run_0 22 rfl rfl
theorem dksX5_run_2 : cX5_run.data.toList.drop 46 = dktX5_run_2 := dk_seg dksX5_run_1 24 rfl rfl
theorem dksX5_run_3 : cX5_run.data.toList.drop 70 = dktX5_run_3 := dk_seg dksX5_run_2 24 rfl rfl
theorem dksX5_run_4 : cX5_run.data.toList.drop 94 = dktX5_run_4 := dk_seg dksX5_run_3 24 rfl rfl
theorem dksX5_run_5 : cX5_run.data.toList.drop 117 = dktX5_run_5 := dk_seg dksX5_run_4 23 rfl rfl
theorem dX5_run_0 : decode cX5_run 0 = .ok (.aload_n 0, 1) := dk_42 (dk_at dksX5_run_0 0 rfl rfl)
theorem dX5_run_1 : decode cX5_run 1 = .ok (.aload_n 0, 1) := dk_42 (dk_at dksX5_run_0 1 rfl rfl)
theorem dX5_run_2 : decode cX5_run 2 = .ok (.getfield 211, 3) := dk_180 0 211 (dk_at dksX5_run_0 2 rfl rfl)
theorem dX5_run_5 : decode cX5_run 5 = .ok (.putfield 226, 3) := dk_181 0 226 (dk_at dksX5_run_0 5 rfl rfl)
theorem dX5_run_8 : decode cX5_run 8 = .ok (.aload_n 0, 1) := dk_42 (dk_at dksX5_run_0 8 rfl rfl)
theorem dX5_run_9 : decode cX5_run 9 = .ok (.iconst 0, 1) := dk_3 (dk_at dksX5_run_0 9 rfl rfl)
theorem dX5_run_10 : decode cX5_run 10 = .ok (.putfield 211, 3) := dk_181 0 211 (dk_at dksX5_run_0 10 rfl rfl)
theorem dX5_run_13 : decode cX5_run 13 = .ok (.aload_n 0, 1) := dk_42 (dk_at dksX5_run_0 13 rfl rfl)
theorem dX5_run_14 : decode cX5_run 14 = .ok (.invokevirtual 261, 3) := dk_182 1 5 (dk_at dksX5_run_0 14 rfl rfl)
theorem dX5_run_17 : decode cX5_run 17 = .ok (.aload_n 0, 1) := dk_42 (dk_at dksX5_run_0 17 rfl rfl)
theorem dX5_run_18 : decode cX5_run 18 = .ok (.getfield 229, 3) := dk_180 0 229 (dk_at dksX5_run_0 18 rfl rfl)
theorem dX5_run_21 : decode cX5_run 21 = .ok (.iconst (-1), 1) := dk_2 (dk_at dksX5_run_0 21 rfl rfl)
theorem dX5_run_22 : decode cX5_run 22 = .ok (.if_icmp .eq 18, 3) := dk_159 0 18 (dk_at dksX5_run_1 0 rfl rfl)
theorem dX5_run_25 : decode cX5_run 25 = .ok (.aload_n 0, 1) := dk_42 (dk_at dksX5_run_1 3 rfl rfl)
theorem dX5_run_26 : decode cX5_run 26 = .ok (.aload_n 0, 1) := dk_42 (dk_at dksX5_run_1 4 rfl rfl)
theorem dX5_run_27 : decode cX5_run 27 = .ok (.getfield 229, 3) := dk_180 0 229 (dk_at dksX5_run_1 5 rfl rfl)
theorem dX5_run_30 : decode cX5_run 30 = .ok (.putfield 25, 3) := dk_181 0 25 (dk_at dksX5_run_1 8 rfl rfl)
theorem dX5_run_33 : decode cX5_run 33 = .ok (.aload_n 0, 1) := dk_42 (dk_at dksX5_run_1 11 rfl rfl)
theorem dX5_run_34 : decode cX5_run 34 = .ok (.iconst 1, 1) := dk_4 (dk_at dksX5_run_1 12 rfl rfl)
theorem dX5_run_35 : decode cX5_run 35 = .ok (.putfield 38, 3) := dk_181 0 38 (dk_at dksX5_run_1 13 rfl rfl)
theorem dX5_run_38 : decode cX5_run 38 = .ok (.iconst 0, 1) := dk_3 (dk_at dksX5_run_1 16 rfl rfl)
theorem dX5_run_39 : decode cX5_run 39 = .ok (.ireturn, 1) := dk_172 (dk_at dksX5_run_1 17 rfl rfl)
theorem dX5_run_40 : decode cX5_run 40 = .ok (.aload_n 0, 1) := dk_42 (dk_at dksX5_run_1 18 rfl rfl)
theorem dX5_run_41 : decode cX5_run 41 = .ok (.invokevirtual 89, 3) := dk_182 0 89 (dk_at dksX5_run_1 19 rfl rfl)
theorem dX5_run_44 : decode cX5_run 44 = .ok (.iconst 0, 1) := dk_3 (dk_at dksX5_run_1 22 rfl rfl)
theorem dX5_run_45 : decode cX5_run 45 = .ok (.istore_n 1, 1) := dk_60 (dk_at dksX5_run_1 23 rfl rfl)
theorem dX5_run_46 : decode cX5_run 46 = .ok (.iload_n 1, 1) := dk_27 (dk_at dksX5_run_2 0 rfl rfl)
theorem dX5_run_47 : decode cX5_run 47 = .ok (.aload_n 0, 1) := dk_42 (dk_at dksX5_run_2 1 rfl rfl)
theorem dX5_run_48 : decode cX5_run 48 = .ok (.getfield 252, 3) := dk_180 0 252 (dk_at dksX5_run_2 2 rfl rfl)
theorem dX5_run_51 : decode cX5_run 51 = .ok (.if_icmp .ge 69, 3) := dk_162 0 69 (dk_at dksX5_run_2 5 rfl rfl)
theorem dX5_run_54 : decode cX5_run 54 = .ok (.aload_n 0, 1) := dk_42 (dk_at dksX5_run_2 8 rfl rfl)
theorem dX5_run_55 : decode cX5_run 55 = .ok (.iload_n 1, 1) := dk_27 (dk_at dksX5_run_2 9 rfl rfl)
theorem dX5_run_56 : decode cX5_run 56 = .ok (.invokevirtual 264, 3) := dk_182 1 8 (dk_at dksX5_run_2 10 rfl rfl)
theorem dX5_run_59 : decode cX5_run 59 = .ok (.istore_n 2, 1) := dk_61 (dk_at dksX5_run_2 13 rfl rfl)
theorem dX5_run_60 : decode cX5_run 60 = .ok (.aload_n 0, 1) := dk_42 (dk_at dksX5_run_2 14 rfl rfl)
theorem dX5_run_61 : decode cX5_run 61 = .ok (.getfield 41, 3) := dk_180 0 41 (dk_at dksX5_run_2 15 rfl rfl)
theorem dX5_run_64 : decode cX5_run 64 = .ok (.ifCond .eq 50, 3) := dk_153 0 50 (dk_at dksX5_run_2 18 rfl rfl)
theorem dX5_run_67 : decode cX5_run 67 = .ok (.aload_n 0, 1) := dk_42 (dk_at dksX5_run_2 21 rfl rfl)
theorem dX5_run_68 : decode cX5_run 68 = .ok (.bipush 9, 2) := dk_16 9 (dk_at dksX5_run_2 22 rfl rfl)
theorem dX5_run_70 : decode cX5_run 70 = .ok (.putfield 54, 3) := dk_181 0 54 (dk_at dksX5_run_3 0 rfl rfl)
theorem dX5_run_73 : decode cX5_run 73 = .ok (.aload_n 0, 1) := dk_42 (dk_at dksX5_run_3 3 rfl rfl)
theorem dX5_run_74 : decode cX5_run 74 = .ok (.iload_n 1, 1) := dk_27 (dk_at dksX5_run_3 4 rfl rfl)
theorem dX5_run_75 : decode cX5_run 75 = .ok (.putfield 57, 3) := dk_181 0 57 (dk_at dksX5_run_3 5 rfl rfl)
theorem dX5_run_78 : decode cX5_run 78 = .ok (.aload_n 0, 1) := dk_42 (dk_at dksX5_run_3 8 rfl rfl)
theorem dX5_run_79 : decode cX5_run 79 = .ok (.aload_n 0, 1) := dk_42 (dk_at dksX5_run_3 9 rfl rfl)
theorem dX5_run_80 : decode cX5_run 80 = .ok (.getfield 41, 3) := dk_180 0 41 (dk_at dksX5_run_3 10 rfl rfl)
theorem dX5_run_83 : decode cX5_run 83 = .ok (.putfield 60, 3) := dk_181 0 60 (dk_at dksX5_run_3 13 rfl rfl)
theorem dX5_run_86 : decode cX5_run 86 = .ok (.aload_n 0, 1) := dk_42 (dk_at dksX5_run_3 16 rfl rfl)
theorem dX5_run_87 : decode cX5_run 87 = .ok (.aload_n 0, 1) := dk_42 (dk_at dksX5_run_3 17 rfl rfl)
theorem dX5_run_88 : decode cX5_run 88 = .ok (.getfield 44, 3) := dk_180 0 44 (dk_at dksX5_run_3 18 rfl rfl)
theorem dX5_run_91 : decode cX5_run 91 = .ok (.putfield 66, 3) := dk_181 0 66 (dk_at dksX5_run_3 21 rfl rfl)
theorem dX5_run_94 : decode cX5_run 94 = .ok (.aload_n 0, 1) := dk_42 (dk_at dksX5_run_4 0 rfl rfl)
theorem dX5_run_95 : decode cX5_run 95 = .ok (.iconst 2, 1) := dk_5 (dk_at dksX5_run_4 1 rfl rfl)
theorem dX5_run_96 : decode cX5_run 96 = .ok (.putfield 38, 3) := dk_181 0 38 (dk_at dksX5_run_4 2 rfl rfl)
theorem dX5_run_99 : decode cX5_run 99 = .ok (.aload_n 0, 1) := dk_42 (dk_at dksX5_run_4 5 rfl rfl)
theorem dX5_run_100 : decode cX5_run 100 = .ok (.getfield 13, 3) := dk_180 0 13 (dk_at dksX5_run_4 6 rfl rfl)
theorem dX5_run_103 : decode cX5_run 103 = .ok (.iconst 0, 1) := dk_3 (dk_at dksX5_run_4 9 rfl rfl)
theorem dX5_run_104 : decode cX5_run 104 = .ok (.aload_n 0, 1) := dk_42 (dk_at dksX5_run_4 10 rfl rfl)
theorem dX5_run_105 : decode cX5_run 105 = .ok (.getfield 9, 3) := dk_180 0 9 (dk_at dksX5_run_4 11 rfl rfl)
theorem dX5_run_108 : decode cX5_run 108 = .ok (.iconst 0, 1) := dk_3 (dk_at dksX5_run_4 14 rfl rfl)
theorem dX5_run_109 : decode cX5_run 109 = .ok (.invokestatic 47, 3) := dk_184 0 47 (dk_at dksX5_run_4 15 rfl rfl)
theorem dX5_run_112 : decode cX5_run 112 = .ok (.iconst 0, 1) := dk_3 (dk_at dksX5_run_4 18 rfl rfl)
theorem dX5_run_113 : decode cX5_run 113 = .ok (.ireturn, 1) := dk_172 (dk_at dksX5_run_4 19 rfl rfl)
theorem dX5_run_114 : decode cX5_run 114 = .ok (.iinc 1 1, 3) := dk_132 1 1 (dk_at dksX5_run_4 20 rfl rfl)
theorem dX5_run_117 : decode cX5_run 117 = .ok (.goto (-71), 3) := dk_167 255 185 (dk_at dksX5_run_5 0 rfl rfl)
theorem dX5_run_120 : decode cX5_run 120 = .ok (.aload_n 0, 1) := dk_42 (dk_at dksX5_run_5 3 rfl rfl)
theorem dX5_run_121 : decode cX5_run 121 = .ok (.aload_n 0, 1) := dk_42 (dk_at dksX5_run_5 4 rfl rfl)
theorem dX5_run_122 : decode cX5_run 122 = .ok (.getfield 252, 3) := dk_180 0 252 (dk_at dksX5_run_5 5 rfl rfl)
theorem dX5_run_125 : decode cX5_run 125 = .ok (.invokevirtual 96, 3) := dk_182 0 96 (dk_at dksX5_run_5 8 rfl rfl)
theorem dX5_run_128 : decode cX5_run 128 = .ok (.ireturn, 1) := dk_172 (dk_at dksX5_run_5 11 rfl rfl)
abbrev cX5_readsAll : ByteArray := prog_12_method_87_code
def yX5_readsAll : MethodName := ⟨RX5, "readsAll", "()V"⟩
def dkwX5_readsAll_2 : List UInt8 := [180, 0, 229, 2, 160, 0, 7, 42, 182, 1, 2, 167, 255, 216, 177]
abbrev dktX5_readsAll_2 : List UInt8 := dkwX5_readsAll_2 ++ []
def dkwX5_readsAll_1 : List UInt8 := [160, 0, 38, 42, 180, 0, 223, 42, 180, 0, 226, 162, 0, 27, 42, 16, 59, 16, 59, 182, 0, 235, 60, 42]
abbrev dktX5_readsAll_1 : List UInt8 := dkwX5_readsAll_1 ++ dktX5_readsAll_2
def dkwX5_readsAll_0 : List UInt8 := [42, 3, 181, 0, 223, 42, 2, 181, 0, 229, 42, 3, 181, 0, 252, 42, 182, 1, 2, 42, 180, 0, 229, 2]
abbrev dktX5_readsAll_0 : List UInt8 := dkwX5_readsAll_0 ++ dktX5_readsAll_1
theorem dksX5_readsAll_0 : cX5_readsAll.data.toList.drop 0 = dktX5_readsAll_0 := by decide +kernel
theorem dksX5_readsAll_1 : cX5_readsAll.data.toList.drop 24 = dktX5_readsAll_1 := dk_seg dksX5_readsAll_0 24 rfl rfl
theorem dksX5_readsAll_2 : cX5_readsAll.data.toList.drop 48 = dktX5_readsAll_2 := dk_seg dksX5_readsAll_1 24 rfl rfl
theorem dX5_readsAll_0 : decode cX5_readsAll 0 = .ok (.aload_n 0, 1) := dk_42 (dk_at dksX5_readsAll_0 0 rfl rfl)
theorem dX5_readsAll_1 : decode cX5_readsAll 1 = .ok (.iconst 0, 1) := dk_3 (dk_at dksX5_readsAll_0 1 rfl rfl)
theorem dX5_readsAll_2 : decode cX5_readsAll 2 = .ok (.putfield 223, 3) := dk_181 0 223 (dk_at dksX5_readsAll_0 2 rfl rfl)
theorem dX5_readsAll_5 : decode cX5_readsAll 5 = .ok (.aload_n 0, 1) := dk_42 (dk_at dksX5_readsAll_0 5 rfl rfl)
theorem dX5_readsAll_6 : decode cX5_readsAll 6 = .ok (.iconst (-1), 1) := dk_2 (dk_at dksX5_readsAll_0 6 rfl rfl)
theorem dX5_readsAll_7 : decode cX5_readsAll 7 = .ok (.putfield 229, 3) := dk_181 0 229 (dk_at dksX5_readsAll_0 7 rfl rfl)
theorem dX5_readsAll_10 : decode cX5_readsAll 10 = .ok (.aload_n 0, 1) := dk_42 (dk_at dksX5_readsAll_0 10 rfl rfl)
theorem dX5_readsAll_11 : decode cX5_readsAll 11 = .ok (.iconst 0, 1) := dk_3 (dk_at dksX5_readsAll_0 11 rfl rfl)
theorem dX5_readsAll_12 : decode cX5_readsAll 12 = .ok (.putfield 252, 3) := dk_181 0 252 (dk_at dksX5_readsAll_0 12 rfl rfl)
theorem dX5_readsAll_15 : decode cX5_readsAll 15 = .ok (.aload_n 0, 1) := dk_42 (dk_at dksX5_readsAll_0 15 rfl rfl)
theorem dX5_readsAll_16 : decode cX5_readsAll 16 = .ok (.invokevirtual 258, 3) := dk_182 1 2 (dk_at dksX5_readsAll_0 16 rfl rfl)
theorem dX5_readsAll_19 : decode cX5_readsAll 19 = .ok (.aload_n 0, 1) := dk_42 (dk_at dksX5_readsAll_0 19 rfl rfl)
theorem dX5_readsAll_20 : decode cX5_readsAll 20 = .ok (.getfield 229, 3) := dk_180 0 229 (dk_at dksX5_readsAll_0 20 rfl rfl)
theorem dX5_readsAll_23 : decode cX5_readsAll 23 = .ok (.iconst (-1), 1) := dk_2 (dk_at dksX5_readsAll_0 23 rfl rfl)
theorem dX5_readsAll_24 : decode cX5_readsAll 24 = .ok (.if_icmp .ne 38, 3) := dk_160 0 38 (dk_at dksX5_readsAll_1 0 rfl rfl)
theorem dX5_readsAll_27 : decode cX5_readsAll 27 = .ok (.aload_n 0, 1) := dk_42 (dk_at dksX5_readsAll_1 3 rfl rfl)
theorem dX5_readsAll_28 : decode cX5_readsAll 28 = .ok (.getfield 223, 3) := dk_180 0 223 (dk_at dksX5_readsAll_1 4 rfl rfl)
theorem dX5_readsAll_31 : decode cX5_readsAll 31 = .ok (.aload_n 0, 1) := dk_42 (dk_at dksX5_readsAll_1 7 rfl rfl)
theorem dX5_readsAll_32 : decode cX5_readsAll 32 = .ok (.getfield 226, 3) := dk_180 0 226 (dk_at dksX5_readsAll_1 8 rfl rfl)
theorem dX5_readsAll_35 : decode cX5_readsAll 35 = .ok (.if_icmp .ge 27, 3) := dk_162 0 27 (dk_at dksX5_readsAll_1 11 rfl rfl)
theorem dX5_readsAll_38 : decode cX5_readsAll 38 = .ok (.aload_n 0, 1) := dk_42 (dk_at dksX5_readsAll_1 14 rfl rfl)
theorem dX5_readsAll_39 : decode cX5_readsAll 39 = .ok (.bipush 59, 2) := dk_16 59 (dk_at dksX5_readsAll_1 15 rfl rfl)
theorem dX5_readsAll_41 : decode cX5_readsAll 41 = .ok (.bipush 59, 2) := dk_16 59 (dk_at dksX5_readsAll_1 17 rfl rfl)
theorem dX5_readsAll_43 : decode cX5_readsAll 43 = .ok (.invokevirtual 235, 3) := dk_182 0 235 (dk_at dksX5_readsAll_1 19 rfl rfl)
theorem dX5_readsAll_46 : decode cX5_readsAll 46 = .ok (.istore_n 1, 1) := dk_60 (dk_at dksX5_readsAll_1 22 rfl rfl)
theorem dX5_readsAll_47 : decode cX5_readsAll 47 = .ok (.aload_n 0, 1) := dk_42 (dk_at dksX5_readsAll_1 23 rfl rfl)
theorem dX5_readsAll_48 : decode cX5_readsAll 48 = .ok (.getfield 229, 3) := dk_180 0 229 (dk_at dksX5_readsAll_2 0 rfl rfl)
theorem dX5_readsAll_51 : decode cX5_readsAll 51 = .ok (.iconst (-1), 1) := dk_2 (dk_at dksX5_readsAll_2 3 rfl rfl)
theorem dX5_readsAll_52 : decode cX5_readsAll 52 = .ok (.if_icmp .ne 7, 3) := dk_160 0 7 (dk_at dksX5_readsAll_2 4 rfl rfl)
theorem dX5_readsAll_55 : decode cX5_readsAll 55 = .ok (.aload_n 0, 1) := dk_42 (dk_at dksX5_readsAll_2 7 rfl rfl)
theorem dX5_readsAll_56 : decode cX5_readsAll 56 = .ok (.invokevirtual 258, 3) := dk_182 1 2 (dk_at dksX5_readsAll_2 8 rfl rfl)
theorem dX5_readsAll_59 : decode cX5_readsAll 59 = .ok (.goto (-40), 3) := dk_167 255 216 (dk_at dksX5_readsAll_2 11 rfl rfl)
theorem dX5_readsAll_62 : decode cX5_readsAll 62 = .ok (.return_, 1) := dk_177 (dk_at dksX5_readsAll_2 14 rfl rfl)
abbrev cX5_readsCommand : ByteArray := prog_12_method_86_code
def yX5_readsCommand : MethodName := ⟨RX5, "readsCommand", "()V"⟩
def dkwX5_readsCommand_8 : List UInt8 := [181, 0, 223, 42, 89, 180, 0, 252, 4, 96, 181, 0, 252, 177]
abbrev dktX5_readsCommand_8 : List UInt8 := dkwX5_readsCommand_8 ++ []
def dkwX5_readsCommand_7 : List UInt8 := [153, 0, 7, 4, 167, 0, 4, 3, 79, 42, 89, 180, 0, 223, 28, 153, 0, 7, 4, 167, 0, 4, 3, 96]
abbrev dktX5_readsCommand_7 : List UInt8 := dkwX5_readsCommand_7 ++ dktX5_readsCommand_8
def dkwX5_readsCommand_6 : List UInt8 := [160, 0, 7, 4, 167, 0, 4, 3, 61, 42, 180, 0, 35, 7, 42, 180, 0, 252, 104, 6, 96, 28]
abbrev dktX5_readsCommand_6 : List UInt8 := dkwX5_readsCommand_6 ++ dktX5_readsCommand_7
def dkwX5_readsCommand_5 : List UInt8 := [96, 42, 16, 32, 7, 182, 0, 255, 79, 42, 180, 0, 229, 2, 160, 0, 16, 42, 182, 0, 232, 16, 43]
abbrev dktX5_readsCommand_5 : List UInt8 := dkwX5_readsCommand_5 ++ dktX5_readsCommand_6
def dkwX5_readsCommand_4 : List UInt8 := [167, 0, 4, 7, 182, 0, 255, 79, 27, 4, 160, 0, 86, 42, 180, 0, 35, 7, 42, 180, 0, 252, 104, 5]
abbrev dktX5_readsCommand_4 : List UInt8 := dkwX5_readsCommand_4 ++ dktX5_readsCommand_5
def dkwX5_readsCommand_3 : List UInt8 := [5, 164, 0, 8, 16, 61, 167, 0, 5, 16, 32, 27, 4, 159, 0, 8, 27, 5, 160, 0, 7, 4]
abbrev dktX5_readsCommand_3 : List UInt8 := dkwX5_readsCommand_3 ++ dktX5_readsCommand_4
def dkwX5_readsCommand_2 : List UInt8 := [182, 0, 255, 79, 27, 16, 6, 162, 0, 47, 42, 180, 0, 35, 7, 42, 180, 0, 252, 104, 4, 96, 42, 27]
abbrev dktX5_readsCommand_2 : List UInt8 := dkwX5_readsCommand_2 ++ dktX5_readsCommand_3
def dkwX5_readsCommand_1 : List UInt8 := [180, 0, 35, 7, 42, 180, 0, 252, 104, 42, 16, 32, 27, 6, 160, 0, 7, 7, 167, 0, 4, 4]
abbrev dktX5_readsCommand_1 : List UInt8 := dkwX5_readsCommand_1 ++ dktX5_readsCommand_2
def dkwX5_readsCommand_0 : List UInt8 := [42, 182, 0, 249, 60, 42, 180, 0, 32, 42, 180, 0, 252, 27, 79, 27, 16, 7, 162, 0, 30, 42]
abbrev dktX5_readsCommand_0 : List UInt8 := dkwX5_readsCommand_0 ++ dktX5_readsCommand_1
theorem dksX5_readsCommand_0 : cX5_readsCommand.data.toList.drop 0 = dktX5_readsCommand_0 := by decide +kernel
theorem dksX5_readsCommand_1 : cX5_readsCommand.data.toList.drop 22 = dktX5_readsCommand_1 := dk_seg dksX5_readsCommand_0 22 rfl rfl
theorem dksX5_readsCommand_2 : cX5_readsCommand.data.toList.drop 44 = dktX5_readsCommand_2 := dk_seg dksX5_readsCommand_1 22 rfl rfl
theorem dksX5_readsCommand_3 : cX5_readsCommand.data.toList.drop 68 = dktX5_readsCommand_3 := dk_seg dksX5_readsCommand_2 24 rfl rfl
theorem dksX5_readsCommand_4 : cX5_readsCommand.data.toList.drop 90 = dktX5_readsCommand_4 := dk_seg dksX5_readsCommand_3 22 rfl rfl
theorem dksX5_readsCommand_5 : cX5_readsCommand.data.toList.drop 114 = dktX5_readsCommand_5 := dk_seg dksX5_readsCommand_4 24 rfl rfl
theorem dksX5_readsCommand_6 : cX5_readsCommand.data.toList.drop 137 = dktX5_readsCommand_6 := dk_seg dksX5_readsCommand_5 23 rfl rfl
theorem dksX5_readsCommand_7 : cX5_readsCommand.data.toList.drop 159 = dktX5_readsCommand_7 := dk_seg dksX5_readsCommand_6 22 rfl rfl
theorem dksX5_readsCommand_8 : cX5_readsCommand.data.toList.drop 183 = dktX5_readsCommand_8 := dk_seg dksX5_readsCommand_7 24 rfl rfl
theorem dX5_readsCommand_0 : decode cX5_readsCommand 0 = .ok (.aload_n 0, 1) := dk_42 (dk_at dksX5_readsCommand_0 0 rfl rfl)
theorem dX5_readsCommand_1 : decode cX5_readsCommand 1 = .ok (.invokevirtual 249, 3) := dk_182 0 249 (dk_at dksX5_readsCommand_0 1 rfl rfl)
theorem dX5_readsCommand_4 : decode cX5_readsCommand 4 = .ok (.istore_n 1, 1) := dk_60 (dk_at dksX5_readsCommand_0 4 rfl rfl)
theorem dX5_readsCommand_5 : decode cX5_readsCommand 5 = .ok (.aload_n 0, 1) := dk_42 (dk_at dksX5_readsCommand_0 5 rfl rfl)
theorem dX5_readsCommand_6 : decode cX5_readsCommand 6 = .ok (.getfield 32, 3) := dk_180 0 32 (dk_at dksX5_readsCommand_0 6 rfl rfl)
theorem dX5_readsCommand_9 : decode cX5_readsCommand 9 = .ok (.aload_n 0, 1) := dk_42 (dk_at dksX5_readsCommand_0 9 rfl rfl)
theorem dX5_readsCommand_10 : decode cX5_readsCommand 10 = .ok (.getfield 252, 3) := dk_180 0 252 (dk_at dksX5_readsCommand_0 10 rfl rfl)
theorem dX5_readsCommand_13 : decode cX5_readsCommand 13 = .ok (.iload_n 1, 1) := dk_27 (dk_at dksX5_readsCommand_0 13 rfl rfl)
theorem dX5_readsCommand_14 : decode cX5_readsCommand 14 = .ok (.iastore, 1) := dk_79 (dk_at dksX5_readsCommand_0 14 rfl rfl)
theorem dX5_readsCommand_15 : decode cX5_readsCommand 15 = .ok (.iload_n 1, 1) := dk_27 (dk_at dksX5_readsCommand_0 15 rfl rfl)
theorem dX5_readsCommand_16 : decode cX5_readsCommand 16 = .ok (.bipush 7, 2) := dk_16 7 (dk_at dksX5_readsCommand_0 16 rfl rfl)
theorem dX5_readsCommand_18 : decode cX5_readsCommand 18 = .ok (.if_icmp .ge 30, 3) := dk_162 0 30 (dk_at dksX5_readsCommand_0 18 rfl rfl)
theorem dX5_readsCommand_21 : decode cX5_readsCommand 21 = .ok (.aload_n 0, 1) := dk_42 (dk_at dksX5_readsCommand_0 21 rfl rfl)
theorem dX5_readsCommand_22 : decode cX5_readsCommand 22 = .ok (.getfield 35, 3) := dk_180 0 35 (dk_at dksX5_readsCommand_1 0 rfl rfl)
theorem dX5_readsCommand_25 : decode cX5_readsCommand 25 = .ok (.iconst 4, 1) := dk_7 (dk_at dksX5_readsCommand_1 3 rfl rfl)
theorem dX5_readsCommand_26 : decode cX5_readsCommand 26 = .ok (.aload_n 0, 1) := dk_42 (dk_at dksX5_readsCommand_1 4 rfl rfl)
theorem dX5_readsCommand_27 : decode cX5_readsCommand 27 = .ok (.getfield 252, 3) := dk_180 0 252 (dk_at dksX5_readsCommand_1 5 rfl rfl)
theorem dX5_readsCommand_30 : decode cX5_readsCommand 30 = .ok (.imul, 1) := dk_104 (dk_at dksX5_readsCommand_1 8 rfl rfl)
theorem dX5_readsCommand_31 : decode cX5_readsCommand 31 = .ok (.aload_n 0, 1) := dk_42 (dk_at dksX5_readsCommand_1 9 rfl rfl)
theorem dX5_readsCommand_32 : decode cX5_readsCommand 32 = .ok (.bipush 32, 2) := dk_16 32 (dk_at dksX5_readsCommand_1 10 rfl rfl)
theorem dX5_readsCommand_34 : decode cX5_readsCommand 34 = .ok (.iload_n 1, 1) := dk_27 (dk_at dksX5_readsCommand_1 12 rfl rfl)
theorem dX5_readsCommand_35 : decode cX5_readsCommand 35 = .ok (.iconst 3, 1) := dk_6 (dk_at dksX5_readsCommand_1 13 rfl rfl)
theorem dX5_readsCommand_36 : decode cX5_readsCommand 36 = .ok (.if_icmp .ne 7, 3) := dk_160 0 7 (dk_at dksX5_readsCommand_1 14 rfl rfl)
theorem dX5_readsCommand_39 : decode cX5_readsCommand 39 = .ok (.iconst 4, 1) := dk_7 (dk_at dksX5_readsCommand_1 17 rfl rfl)
theorem dX5_readsCommand_40 : decode cX5_readsCommand 40 = .ok (.goto 4, 3) := dk_167 0 4 (dk_at dksX5_readsCommand_1 18 rfl rfl)
theorem dX5_readsCommand_43 : decode cX5_readsCommand 43 = .ok (.iconst 1, 1) := dk_4 (dk_at dksX5_readsCommand_1 21 rfl rfl)
theorem dX5_readsCommand_44 : decode cX5_readsCommand 44 = .ok (.invokevirtual 255, 3) := dk_182 0 255 (dk_at dksX5_readsCommand_2 0 rfl rfl)
theorem dX5_readsCommand_47 : decode cX5_readsCommand 47 = .ok (.iastore, 1) := dk_79 (dk_at dksX5_readsCommand_2 3 rfl rfl)
theorem dX5_readsCommand_48 : decode cX5_readsCommand 48 = .ok (.iload_n 1, 1) := dk_27 (dk_at dksX5_readsCommand_2 4 rfl rfl)
theorem dX5_readsCommand_49 : decode cX5_readsCommand 49 = .ok (.bipush 6, 2) := dk_16 6 (dk_at dksX5_readsCommand_2 5 rfl rfl)
theorem dX5_readsCommand_51 : decode cX5_readsCommand 51 = .ok (.if_icmp .ge 47, 3) := dk_162 0 47 (dk_at dksX5_readsCommand_2 7 rfl rfl)
theorem dX5_readsCommand_54 : decode cX5_readsCommand 54 = .ok (.aload_n 0, 1) := dk_42 (dk_at dksX5_readsCommand_2 10 rfl rfl)
theorem dX5_readsCommand_55 : decode cX5_readsCommand 55 = .ok (.getfield 35, 3) := dk_180 0 35 (dk_at dksX5_readsCommand_2 11 rfl rfl)
theorem dX5_readsCommand_58 : decode cX5_readsCommand 58 = .ok (.iconst 4, 1) := dk_7 (dk_at dksX5_readsCommand_2 14 rfl rfl)
theorem dX5_readsCommand_59 : decode cX5_readsCommand 59 = .ok (.aload_n 0, 1) := dk_42 (dk_at dksX5_readsCommand_2 15 rfl rfl)
theorem dX5_readsCommand_60 : decode cX5_readsCommand 60 = .ok (.getfield 252, 3) := dk_180 0 252 (dk_at dksX5_readsCommand_2 16 rfl rfl)
theorem dX5_readsCommand_63 : decode cX5_readsCommand 63 = .ok (.imul, 1) := dk_104 (dk_at dksX5_readsCommand_2 19 rfl rfl)
theorem dX5_readsCommand_64 : decode cX5_readsCommand 64 = .ok (.iconst 1, 1) := dk_4 (dk_at dksX5_readsCommand_2 20 rfl rfl)
theorem dX5_readsCommand_65 : decode cX5_readsCommand 65 = .ok (.iadd, 1) := dk_96 (dk_at dksX5_readsCommand_2 21 rfl rfl)
theorem dX5_readsCommand_66 : decode cX5_readsCommand 66 = .ok (.aload_n 0, 1) := dk_42 (dk_at dksX5_readsCommand_2 22 rfl rfl)
theorem dX5_readsCommand_67 : decode cX5_readsCommand 67 = .ok (.iload_n 1, 1) := dk_27 (dk_at dksX5_readsCommand_2 23 rfl rfl)
theorem dX5_readsCommand_68 : decode cX5_readsCommand 68 = .ok (.iconst 2, 1) := dk_5 (dk_at dksX5_readsCommand_3 0 rfl rfl)
theorem dX5_readsCommand_69 : decode cX5_readsCommand 69 = .ok (.if_icmp .le 8, 3) := dk_164 0 8 (dk_at dksX5_readsCommand_3 1 rfl rfl)
theorem dX5_readsCommand_72 : decode cX5_readsCommand 72 = .ok (.bipush 61, 2) := dk_16 61 (dk_at dksX5_readsCommand_3 4 rfl rfl)
theorem dX5_readsCommand_74 : decode cX5_readsCommand 74 = .ok (.goto 5, 3) := dk_167 0 5 (dk_at dksX5_readsCommand_3 6 rfl rfl)
theorem dX5_readsCommand_77 : decode cX5_readsCommand 77 = .ok (.bipush 32, 2) := dk_16 32 (dk_at dksX5_readsCommand_3 9 rfl rfl)
theorem dX5_readsCommand_79 : decode cX5_readsCommand 79 = .ok (.iload_n 1, 1) := dk_27 (dk_at dksX5_readsCommand_3 11 rfl rfl)
theorem dX5_readsCommand_80 : decode cX5_readsCommand 80 = .ok (.iconst 1, 1) := dk_4 (dk_at dksX5_readsCommand_3 12 rfl rfl)
theorem dX5_readsCommand_81 : decode cX5_readsCommand 81 = .ok (.if_icmp .eq 8, 3) := dk_159 0 8 (dk_at dksX5_readsCommand_3 13 rfl rfl)
theorem dX5_readsCommand_84 : decode cX5_readsCommand 84 = .ok (.iload_n 1, 1) := dk_27 (dk_at dksX5_readsCommand_3 16 rfl rfl)
theorem dX5_readsCommand_85 : decode cX5_readsCommand 85 = .ok (.iconst 2, 1) := dk_5 (dk_at dksX5_readsCommand_3 17 rfl rfl)
theorem dX5_readsCommand_86 : decode cX5_readsCommand 86 = .ok (.if_icmp .ne 7, 3) := dk_160 0 7 (dk_at dksX5_readsCommand_3 18 rfl rfl)
theorem dX5_readsCommand_89 : decode cX5_readsCommand 89 = .ok (.iconst 1, 1) := dk_4 (dk_at dksX5_readsCommand_3 21 rfl rfl)
theorem dX5_readsCommand_90 : decode cX5_readsCommand 90 = .ok (.goto 4, 3) := dk_167 0 4 (dk_at dksX5_readsCommand_4 0 rfl rfl)
theorem dX5_readsCommand_93 : decode cX5_readsCommand 93 = .ok (.iconst 4, 1) := dk_7 (dk_at dksX5_readsCommand_4 3 rfl rfl)
theorem dX5_readsCommand_94 : decode cX5_readsCommand 94 = .ok (.invokevirtual 255, 3) := dk_182 0 255 (dk_at dksX5_readsCommand_4 4 rfl rfl)
theorem dX5_readsCommand_97 : decode cX5_readsCommand 97 = .ok (.iastore, 1) := dk_79 (dk_at dksX5_readsCommand_4 7 rfl rfl)
theorem dX5_readsCommand_98 : decode cX5_readsCommand 98 = .ok (.iload_n 1, 1) := dk_27 (dk_at dksX5_readsCommand_4 8 rfl rfl)
theorem dX5_readsCommand_99 : decode cX5_readsCommand 99 = .ok (.iconst 1, 1) := dk_4 (dk_at dksX5_readsCommand_4 9 rfl rfl)
theorem dX5_readsCommand_100 : decode cX5_readsCommand 100 = .ok (.if_icmp .ne 86, 3) := dk_160 0 86 (dk_at dksX5_readsCommand_4 10 rfl rfl)
theorem dX5_readsCommand_103 : decode cX5_readsCommand 103 = .ok (.aload_n 0, 1) := dk_42 (dk_at dksX5_readsCommand_4 13 rfl rfl)
theorem dX5_readsCommand_104 : decode cX5_readsCommand 104 = .ok (.getfield 35, 3) := dk_180 0 35 (dk_at dksX5_readsCommand_4 14 rfl rfl)
theorem dX5_readsCommand_107 : decode cX5_readsCommand 107 = .ok (.iconst 4, 1) := dk_7 (dk_at dksX5_readsCommand_4 17 rfl rfl)
theorem dX5_readsCommand_108 : decode cX5_readsCommand 108 = .ok (.aload_n 0, 1) := dk_42 (dk_at dksX5_readsCommand_4 18 rfl rfl)
theorem dX5_readsCommand_109 : decode cX5_readsCommand 109 = .ok (.getfield 252, 3) := dk_180 0 252 (dk_at dksX5_readsCommand_4 19 rfl rfl)
theorem dX5_readsCommand_112 : decode cX5_readsCommand 112 = .ok (.imul, 1) := dk_104 (dk_at dksX5_readsCommand_4 22 rfl rfl)
theorem dX5_readsCommand_113 : decode cX5_readsCommand 113 = .ok (.iconst 2, 1) := dk_5 (dk_at dksX5_readsCommand_4 23 rfl rfl)
theorem dX5_readsCommand_114 : decode cX5_readsCommand 114 = .ok (.iadd, 1) := dk_96 (dk_at dksX5_readsCommand_5 0 rfl rfl)
theorem dX5_readsCommand_115 : decode cX5_readsCommand 115 = .ok (.aload_n 0, 1) := dk_42 (dk_at dksX5_readsCommand_5 1 rfl rfl)
theorem dX5_readsCommand_116 : decode cX5_readsCommand 116 = .ok (.bipush 32, 2) := dk_16 32 (dk_at dksX5_readsCommand_5 2 rfl rfl)
theorem dX5_readsCommand_118 : decode cX5_readsCommand 118 = .ok (.iconst 4, 1) := dk_7 (dk_at dksX5_readsCommand_5 4 rfl rfl)
theorem dX5_readsCommand_119 : decode cX5_readsCommand 119 = .ok (.invokevirtual 255, 3) := dk_182 0 255 (dk_at dksX5_readsCommand_5 5 rfl rfl)
theorem dX5_readsCommand_122 : decode cX5_readsCommand 122 = .ok (.iastore, 1) := dk_79 (dk_at dksX5_readsCommand_5 8 rfl rfl)
theorem dX5_readsCommand_123 : decode cX5_readsCommand 123 = .ok (.aload_n 0, 1) := dk_42 (dk_at dksX5_readsCommand_5 9 rfl rfl)
theorem dX5_readsCommand_124 : decode cX5_readsCommand 124 = .ok (.getfield 229, 3) := dk_180 0 229 (dk_at dksX5_readsCommand_5 10 rfl rfl)
theorem dX5_readsCommand_127 : decode cX5_readsCommand 127 = .ok (.iconst (-1), 1) := dk_2 (dk_at dksX5_readsCommand_5 13 rfl rfl)
theorem dX5_readsCommand_128 : decode cX5_readsCommand 128 = .ok (.if_icmp .ne 16, 3) := dk_160 0 16 (dk_at dksX5_readsCommand_5 14 rfl rfl)
theorem dX5_readsCommand_131 : decode cX5_readsCommand 131 = .ok (.aload_n 0, 1) := dk_42 (dk_at dksX5_readsCommand_5 17 rfl rfl)
theorem dX5_readsCommand_132 : decode cX5_readsCommand 132 = .ok (.invokevirtual 232, 3) := dk_182 0 232 (dk_at dksX5_readsCommand_5 18 rfl rfl)
theorem dX5_readsCommand_135 : decode cX5_readsCommand 135 = .ok (.bipush 43, 2) := dk_16 43 (dk_at dksX5_readsCommand_5 21 rfl rfl)
theorem dX5_readsCommand_137 : decode cX5_readsCommand 137 = .ok (.if_icmp .ne 7, 3) := dk_160 0 7 (dk_at dksX5_readsCommand_6 0 rfl rfl)
theorem dX5_readsCommand_140 : decode cX5_readsCommand 140 = .ok (.iconst 1, 1) := dk_4 (dk_at dksX5_readsCommand_6 3 rfl rfl)
theorem dX5_readsCommand_141 : decode cX5_readsCommand 141 = .ok (.goto 4, 3) := dk_167 0 4 (dk_at dksX5_readsCommand_6 4 rfl rfl)
theorem dX5_readsCommand_144 : decode cX5_readsCommand 144 = .ok (.iconst 0, 1) := dk_3 (dk_at dksX5_readsCommand_6 7 rfl rfl)
theorem dX5_readsCommand_145 : decode cX5_readsCommand 145 = .ok (.istore_n 2, 1) := dk_61 (dk_at dksX5_readsCommand_6 8 rfl rfl)
theorem dX5_readsCommand_146 : decode cX5_readsCommand 146 = .ok (.aload_n 0, 1) := dk_42 (dk_at dksX5_readsCommand_6 9 rfl rfl)
theorem dX5_readsCommand_147 : decode cX5_readsCommand 147 = .ok (.getfield 35, 3) := dk_180 0 35 (dk_at dksX5_readsCommand_6 10 rfl rfl)
theorem dX5_readsCommand_150 : decode cX5_readsCommand 150 = .ok (.iconst 4, 1) := dk_7 (dk_at dksX5_readsCommand_6 13 rfl rfl)
theorem dX5_readsCommand_151 : decode cX5_readsCommand 151 = .ok (.aload_n 0, 1) := dk_42 (dk_at dksX5_readsCommand_6 14 rfl rfl)
theorem dX5_readsCommand_152 : decode cX5_readsCommand 152 = .ok (.getfield 252, 3) := dk_180 0 252 (dk_at dksX5_readsCommand_6 15 rfl rfl)
theorem dX5_readsCommand_155 : decode cX5_readsCommand 155 = .ok (.imul, 1) := dk_104 (dk_at dksX5_readsCommand_6 18 rfl rfl)
theorem dX5_readsCommand_156 : decode cX5_readsCommand 156 = .ok (.iconst 3, 1) := dk_6 (dk_at dksX5_readsCommand_6 19 rfl rfl)
theorem dX5_readsCommand_157 : decode cX5_readsCommand 157 = .ok (.iadd, 1) := dk_96 (dk_at dksX5_readsCommand_6 20 rfl rfl)
theorem dX5_readsCommand_158 : decode cX5_readsCommand 158 = .ok (.iload_n 2, 1) := dk_28 (dk_at dksX5_readsCommand_6 21 rfl rfl)
theorem dX5_readsCommand_159 : decode cX5_readsCommand 159 = .ok (.ifCond .eq 7, 3) := dk_153 0 7 (dk_at dksX5_readsCommand_7 0 rfl rfl)
theorem dX5_readsCommand_162 : decode cX5_readsCommand 162 = .ok (.iconst 1, 1) := dk_4 (dk_at dksX5_readsCommand_7 3 rfl rfl)
theorem dX5_readsCommand_163 : decode cX5_readsCommand 163 = .ok (.goto 4, 3) := dk_167 0 4 (dk_at dksX5_readsCommand_7 4 rfl rfl)
theorem dX5_readsCommand_166 : decode cX5_readsCommand 166 = .ok (.iconst 0, 1) := dk_3 (dk_at dksX5_readsCommand_7 7 rfl rfl)
theorem dX5_readsCommand_167 : decode cX5_readsCommand 167 = .ok (.iastore, 1) := dk_79 (dk_at dksX5_readsCommand_7 8 rfl rfl)
theorem dX5_readsCommand_168 : decode cX5_readsCommand 168 = .ok (.aload_n 0, 1) := dk_42 (dk_at dksX5_readsCommand_7 9 rfl rfl)
theorem dX5_readsCommand_169 : decode cX5_readsCommand 169 = .ok (.dup, 1) := dk_89 (dk_at dksX5_readsCommand_7 10 rfl rfl)
theorem dX5_readsCommand_170 : decode cX5_readsCommand 170 = .ok (.getfield 223, 3) := dk_180 0 223 (dk_at dksX5_readsCommand_7 11 rfl rfl)
theorem dX5_readsCommand_173 : decode cX5_readsCommand 173 = .ok (.iload_n 2, 1) := dk_28 (dk_at dksX5_readsCommand_7 14 rfl rfl)
theorem dX5_readsCommand_174 : decode cX5_readsCommand 174 = .ok (.ifCond .eq 7, 3) := dk_153 0 7 (dk_at dksX5_readsCommand_7 15 rfl rfl)
theorem dX5_readsCommand_177 : decode cX5_readsCommand 177 = .ok (.iconst 1, 1) := dk_4 (dk_at dksX5_readsCommand_7 18 rfl rfl)
theorem dX5_readsCommand_178 : decode cX5_readsCommand 178 = .ok (.goto 4, 3) := dk_167 0 4 (dk_at dksX5_readsCommand_7 19 rfl rfl)
theorem dX5_readsCommand_181 : decode cX5_readsCommand 181 = .ok (.iconst 0, 1) := dk_3 (dk_at dksX5_readsCommand_7 22 rfl rfl)
theorem dX5_readsCommand_182 : decode cX5_readsCommand 182 = .ok (.iadd, 1) := dk_96 (dk_at dksX5_readsCommand_7 23 rfl rfl)
theorem dX5_readsCommand_183 : decode cX5_readsCommand 183 = .ok (.putfield 223, 3) := dk_181 0 223 (dk_at dksX5_readsCommand_8 0 rfl rfl)
theorem dX5_readsCommand_186 : decode cX5_readsCommand 186 = .ok (.aload_n 0, 1) := dk_42 (dk_at dksX5_readsCommand_8 3 rfl rfl)
theorem dX5_readsCommand_187 : decode cX5_readsCommand 187 = .ok (.dup, 1) := dk_89 (dk_at dksX5_readsCommand_8 4 rfl rfl)
theorem dX5_readsCommand_188 : decode cX5_readsCommand 188 = .ok (.getfield 252, 3) := dk_180 0 252 (dk_at dksX5_readsCommand_8 5 rfl rfl)
theorem dX5_readsCommand_191 : decode cX5_readsCommand 191 = .ok (.iconst 1, 1) := dk_4 (dk_at dksX5_readsCommand_8 8 rfl rfl)
theorem dX5_readsCommand_192 : decode cX5_readsCommand 192 = .ok (.iadd, 1) := dk_96 (dk_at dksX5_readsCommand_8 9 rfl rfl)
theorem dX5_readsCommand_193 : decode cX5_readsCommand 193 = .ok (.putfield 252, 3) := dk_181 0 252 (dk_at dksX5_readsCommand_8 10 rfl rfl)
theorem dX5_readsCommand_196 : decode cX5_readsCommand 196 = .ok (.return_, 1) := dk_177 (dk_at dksX5_readsCommand_8 13 rfl rfl)
abbrev cX5_word : ByteArray := prog_12_method_85_code
def yX5_word : MethodName := ⟨RX5, "word", "()I"⟩
def dkwX5_word_8 : List UInt8 := [167, 0, 4, 28, 172]
abbrev dktX5_word_8 : List UInt8 := dkwX5_word_8 ++ []
def dkwX5_word_7 : List UInt8 := [28, 4, 96, 184, 0, 238, 28, 184, 0, 238, 100, 96, 181, 0, 223, 28, 2, 160, 0, 8, 16, 7]
abbrev dktX5_word_7 : List UInt8 := dkwX5_word_7 ++ dktX5_word_8
def dkwX5_word_6 : List UInt8 := [167, 0, 7, 42, 180, 0, 229, 181, 0, 229, 42, 89, 180, 0, 223, 28, 2, 160, 0, 7, 3, 167, 0, 14]
abbrev dktX5_word_6 : List UInt8 := dkwX5_word_6 ++ dktX5_word_7
def dkwX5_word_5 : List UInt8 := [21, 4, 160, 0, 7, 29, 167, 0, 4, 28, 61, 132, 3, 1, 167, 255, 147, 42, 28, 2, 160, 0, 7, 27]
abbrev dktX5_word_5 : List UInt8 := dkwX5_word_5 ++ dktX5_word_6
def dkwX5_word_4 : List UInt8 := [160, 0, 9, 132, 5, 1, 167, 255, 205, 27, 42, 180, 0, 223, 21, 5, 96, 184, 0, 155, 60, 21, 5]
abbrev dktX5_word_4 : List UInt8 := dkwX5_word_4 ++ dktX5_word_5
def dkwX5_word_3 : List UInt8 := [180, 0, 22, 42, 180, 0, 223, 21, 5, 96, 46, 18, 241, 29, 184, 0, 238, 21, 5, 96, 182, 0, 243]
abbrev dktX5_word_3 : List UInt8 := dkwX5_word_3 ++ dktX5_word_4
def dkwX5_word_2 : List UInt8 := [21, 5, 21, 4, 162, 0, 50, 42, 180, 0, 223, 21, 5, 96, 42, 180, 0, 226, 162, 0, 36, 42]
abbrev dktX5_word_2 : List UInt8 := dkwX5_word_2 ++ dktX5_word_3
def dkwX5_word_1 : List UInt8 := [162, 0, 109, 28, 2, 160, 0, 104, 29, 4, 96, 184, 0, 238, 29, 184, 0, 238, 100, 54, 4, 3, 54, 5]
abbrev dktX5_word_1 : List UInt8 := dkwX5_word_1 ++ dktX5_word_2
def dkwX5_word_0 : List UInt8 := [42, 180, 0, 229, 2, 159, 0, 6, 16, 7, 172, 42, 180, 0, 223, 60, 2, 61, 3, 62, 29, 16, 8]
abbrev dktX5_word_0 : List UInt8 := dkwX5_word_0 ++ dktX5_word_1
theorem dksX5_word_0 : cX5_word.data.toList.drop 0 = dktX5_word_0 := by decide +kernel
theorem dksX5_word_1 : cX5_word.data.toList.drop 23 = dktX5_word_1 := dk_seg dksX5_word_0 23 rfl rfl
theorem dksX5_word_2 : cX5_word.data.toList.drop 47 = dktX5_word_2 := dk_seg dksX5_word_1 24 rfl rfl
theorem dksX5_word_3 : cX5_word.data.toList.drop 69 = dktX5_word_3 := dk_seg dksX5_word_2 22 rfl rfl
theorem dksX5_word_4 : cX5_word.data.toList.drop 92 = dktX5_word_4 := dk_seg dksX5_word_3 23 rfl rfl
theorem dksX5_word_5 : cX5_word.data.toList.drop 115 = dktX5_word_5 := dk_seg dksX5_word_4 23 rfl rfl
theorem dksX5_word_6 : cX5_word.data.toList.drop 139 = dktX5_word_6 := dk_seg dksX5_word_5 24 rfl rfl
theorem dksX5_word_7 : cX5_word.data.toList.drop 163 = dktX5_word_7 := dk_seg dksX5_word_6 24 rfl rfl
theorem dksX5_word_8 : cX5_word.data.toList.drop 185 = dktX5_word_8 := dk_seg dksX5_word_7 22 rfl rfl
theorem dX5_word_0 : decode cX5_word 0 = .ok (.aload_n 0, 1) := dk_42 (dk_at dksX5_word_0 0 rfl rfl)
theorem dX5_word_1 : decode cX5_word 1 = .ok (.getfield 229, 3) := dk_180 0 229 (dk_at dksX5_word_0 1 rfl rfl)
theorem dX5_word_4 : decode cX5_word 4 = .ok (.iconst (-1), 1) := dk_2 (dk_at dksX5_word_0 4 rfl rfl)
theorem dX5_word_5 : decode cX5_word 5 = .ok (.if_icmp .eq 6, 3) := dk_159 0 6 (dk_at dksX5_word_0 5 rfl rfl)
theorem dX5_word_8 : decode cX5_word 8 = .ok (.bipush 7, 2) := dk_16 7 (dk_at dksX5_word_0 8 rfl rfl)
theorem dX5_word_10 : decode cX5_word 10 = .ok (.ireturn, 1) := dk_172 (dk_at dksX5_word_0 10 rfl rfl)
theorem dX5_word_11 : decode cX5_word 11 = .ok (.aload_n 0, 1) := dk_42 (dk_at dksX5_word_0 11 rfl rfl)
theorem dX5_word_12 : decode cX5_word 12 = .ok (.getfield 223, 3) := dk_180 0 223 (dk_at dksX5_word_0 12 rfl rfl)
theorem dX5_word_15 : decode cX5_word 15 = .ok (.istore_n 1, 1) := dk_60 (dk_at dksX5_word_0 15 rfl rfl)
theorem dX5_word_16 : decode cX5_word 16 = .ok (.iconst (-1), 1) := dk_2 (dk_at dksX5_word_0 16 rfl rfl)
theorem dX5_word_17 : decode cX5_word 17 = .ok (.istore_n 2, 1) := dk_61 (dk_at dksX5_word_0 17 rfl rfl)
theorem dX5_word_18 : decode cX5_word 18 = .ok (.iconst 0, 1) := dk_3 (dk_at dksX5_word_0 18 rfl rfl)
theorem dX5_word_19 : decode cX5_word 19 = .ok (.istore_n 3, 1) := dk_62 (dk_at dksX5_word_0 19 rfl rfl)
theorem dX5_word_20 : decode cX5_word 20 = .ok (.iload_n 3, 1) := dk_29 (dk_at dksX5_word_0 20 rfl rfl)
theorem dX5_word_21 : decode cX5_word 21 = .ok (.bipush 8, 2) := dk_16 8 (dk_at dksX5_word_0 21 rfl rfl)
theorem dX5_word_23 : decode cX5_word 23 = .ok (.if_icmp .ge 109, 3) := dk_162 0 109 (dk_at dksX5_word_1 0 rfl rfl)
theorem dX5_word_26 : decode cX5_word 26 = .ok (.iload_n 2, 1) := dk_28 (dk_at dksX5_word_1 3 rfl rfl)
theorem dX5_word_27 : decode cX5_word 27 = .ok (.iconst (-1), 1) := dk_2 (dk_at dksX5_word_1 4 rfl rfl)
theorem dX5_word_28 : decode cX5_word 28 = .ok (.if_icmp .ne 104, 3) := dk_160 0 104 (dk_at dksX5_word_1 5 rfl rfl)
theorem dX5_word_31 : decode cX5_word 31 = .ok (.iload_n 3, 1) := dk_29 (dk_at dksX5_word_1 8 rfl rfl)
theorem dX5_word_32 : decode cX5_word 32 = .ok (.iconst 1, 1) := dk_4 (dk_at dksX5_word_1 9 rfl rfl)
theorem dX5_word_33 : decode cX5_word 33 = .ok (.iadd, 1) := dk_96 (dk_at dksX5_word_1 10 rfl rfl)
theorem dX5_word_34 : decode cX5_word 34 = .ok (.invokestatic 238, 3) := dk_184 0 238 (dk_at dksX5_word_1 11 rfl rfl)
theorem dX5_word_37 : decode cX5_word 37 = .ok (.iload_n 3, 1) := dk_29 (dk_at dksX5_word_1 14 rfl rfl)
theorem dX5_word_38 : decode cX5_word 38 = .ok (.invokestatic 238, 3) := dk_184 0 238 (dk_at dksX5_word_1 15 rfl rfl)
theorem dX5_word_41 : decode cX5_word 41 = .ok (.isub, 1) := dk_100 (dk_at dksX5_word_1 18 rfl rfl)
theorem dX5_word_42 : decode cX5_word 42 = .ok (.istore 4, 2) := dk_54 4 (dk_at dksX5_word_1 19 rfl rfl)
theorem dX5_word_44 : decode cX5_word 44 = .ok (.iconst 0, 1) := dk_3 (dk_at dksX5_word_1 21 rfl rfl)
theorem dX5_word_45 : decode cX5_word 45 = .ok (.istore 5, 2) := dk_54 5 (dk_at dksX5_word_1 22 rfl rfl)
theorem dX5_word_47 : decode cX5_word 47 = .ok (.iload 5, 2) := dk_21 5 (dk_at dksX5_word_2 0 rfl rfl)
theorem dX5_word_49 : decode cX5_word 49 = .ok (.iload 4, 2) := dk_21 4 (dk_at dksX5_word_2 2 rfl rfl)
theorem dX5_word_51 : decode cX5_word 51 = .ok (.if_icmp .ge 50, 3) := dk_162 0 50 (dk_at dksX5_word_2 4 rfl rfl)
theorem dX5_word_54 : decode cX5_word 54 = .ok (.aload_n 0, 1) := dk_42 (dk_at dksX5_word_2 7 rfl rfl)
theorem dX5_word_55 : decode cX5_word 55 = .ok (.getfield 223, 3) := dk_180 0 223 (dk_at dksX5_word_2 8 rfl rfl)
theorem dX5_word_58 : decode cX5_word 58 = .ok (.iload 5, 2) := dk_21 5 (dk_at dksX5_word_2 11 rfl rfl)
theorem dX5_word_60 : decode cX5_word 60 = .ok (.iadd, 1) := dk_96 (dk_at dksX5_word_2 13 rfl rfl)
theorem dX5_word_61 : decode cX5_word 61 = .ok (.aload_n 0, 1) := dk_42 (dk_at dksX5_word_2 14 rfl rfl)
theorem dX5_word_62 : decode cX5_word 62 = .ok (.getfield 226, 3) := dk_180 0 226 (dk_at dksX5_word_2 15 rfl rfl)
theorem dX5_word_65 : decode cX5_word 65 = .ok (.if_icmp .ge 36, 3) := dk_162 0 36 (dk_at dksX5_word_2 18 rfl rfl)
theorem dX5_word_68 : decode cX5_word 68 = .ok (.aload_n 0, 1) := dk_42 (dk_at dksX5_word_2 21 rfl rfl)
theorem dX5_word_69 : decode cX5_word 69 = .ok (.getfield 22, 3) := dk_180 0 22 (dk_at dksX5_word_3 0 rfl rfl)
theorem dX5_word_72 : decode cX5_word 72 = .ok (.aload_n 0, 1) := dk_42 (dk_at dksX5_word_3 3 rfl rfl)
theorem dX5_word_73 : decode cX5_word 73 = .ok (.getfield 223, 3) := dk_180 0 223 (dk_at dksX5_word_3 4 rfl rfl)
theorem dX5_word_76 : decode cX5_word 76 = .ok (.iload 5, 2) := dk_21 5 (dk_at dksX5_word_3 7 rfl rfl)
theorem dX5_word_78 : decode cX5_word 78 = .ok (.iadd, 1) := dk_96 (dk_at dksX5_word_3 9 rfl rfl)
theorem dX5_word_79 : decode cX5_word 79 = .ok (.iaload, 1) := dk_46 (dk_at dksX5_word_3 10 rfl rfl)
theorem dX5_word_80 : decode cX5_word 80 = .ok (.ldc 241, 2) := dk_18 241 (dk_at dksX5_word_3 11 rfl rfl)
theorem dX5_word_82 : decode cX5_word 82 = .ok (.iload_n 3, 1) := dk_29 (dk_at dksX5_word_3 13 rfl rfl)
theorem dX5_word_83 : decode cX5_word 83 = .ok (.invokestatic 238, 3) := dk_184 0 238 (dk_at dksX5_word_3 14 rfl rfl)
theorem dX5_word_86 : decode cX5_word 86 = .ok (.iload 5, 2) := dk_21 5 (dk_at dksX5_word_3 17 rfl rfl)
theorem dX5_word_88 : decode cX5_word 88 = .ok (.iadd, 1) := dk_96 (dk_at dksX5_word_3 19 rfl rfl)
theorem dX5_word_89 : decode cX5_word 89 = .ok (.invokevirtual 243, 3) := dk_182 0 243 (dk_at dksX5_word_3 20 rfl rfl)
theorem dX5_word_92 : decode cX5_word 92 = .ok (.if_icmp .ne 9, 3) := dk_160 0 9 (dk_at dksX5_word_4 0 rfl rfl)
theorem dX5_word_95 : decode cX5_word 95 = .ok (.iinc 5 1, 3) := dk_132 5 1 (dk_at dksX5_word_4 3 rfl rfl)
theorem dX5_word_98 : decode cX5_word 98 = .ok (.goto (-51), 3) := dk_167 255 205 (dk_at dksX5_word_4 6 rfl rfl)
theorem dX5_word_101 : decode cX5_word 101 = .ok (.iload_n 1, 1) := dk_27 (dk_at dksX5_word_4 9 rfl rfl)
theorem dX5_word_102 : decode cX5_word 102 = .ok (.aload_n 0, 1) := dk_42 (dk_at dksX5_word_4 10 rfl rfl)
theorem dX5_word_103 : decode cX5_word 103 = .ok (.getfield 223, 3) := dk_180 0 223 (dk_at dksX5_word_4 11 rfl rfl)
theorem dX5_word_106 : decode cX5_word 106 = .ok (.iload 5, 2) := dk_21 5 (dk_at dksX5_word_4 14 rfl rfl)
theorem dX5_word_108 : decode cX5_word 108 = .ok (.iadd, 1) := dk_96 (dk_at dksX5_word_4 16 rfl rfl)
theorem dX5_word_109 : decode cX5_word 109 = .ok (.invokestatic 155, 3) := dk_184 0 155 (dk_at dksX5_word_4 17 rfl rfl)
theorem dX5_word_112 : decode cX5_word 112 = .ok (.istore_n 1, 1) := dk_60 (dk_at dksX5_word_4 20 rfl rfl)
theorem dX5_word_113 : decode cX5_word 113 = .ok (.iload 5, 2) := dk_21 5 (dk_at dksX5_word_4 21 rfl rfl)
theorem dX5_word_115 : decode cX5_word 115 = .ok (.iload 4, 2) := dk_21 4 (dk_at dksX5_word_5 0 rfl rfl)
theorem dX5_word_117 : decode cX5_word 117 = .ok (.if_icmp .ne 7, 3) := dk_160 0 7 (dk_at dksX5_word_5 2 rfl rfl)
theorem dX5_word_120 : decode cX5_word 120 = .ok (.iload_n 3, 1) := dk_29 (dk_at dksX5_word_5 5 rfl rfl)
theorem dX5_word_121 : decode cX5_word 121 = .ok (.goto 4, 3) := dk_167 0 4 (dk_at dksX5_word_5 6 rfl rfl)
theorem dX5_word_124 : decode cX5_word 124 = .ok (.iload_n 2, 1) := dk_28 (dk_at dksX5_word_5 9 rfl rfl)
theorem dX5_word_125 : decode cX5_word 125 = .ok (.istore_n 2, 1) := dk_61 (dk_at dksX5_word_5 10 rfl rfl)
theorem dX5_word_126 : decode cX5_word 126 = .ok (.iinc 3 1, 3) := dk_132 3 1 (dk_at dksX5_word_5 11 rfl rfl)
theorem dX5_word_129 : decode cX5_word 129 = .ok (.goto (-109), 3) := dk_167 255 147 (dk_at dksX5_word_5 14 rfl rfl)
theorem dX5_word_132 : decode cX5_word 132 = .ok (.aload_n 0, 1) := dk_42 (dk_at dksX5_word_5 17 rfl rfl)
theorem dX5_word_133 : decode cX5_word 133 = .ok (.iload_n 2, 1) := dk_28 (dk_at dksX5_word_5 18 rfl rfl)
theorem dX5_word_134 : decode cX5_word 134 = .ok (.iconst (-1), 1) := dk_2 (dk_at dksX5_word_5 19 rfl rfl)
theorem dX5_word_135 : decode cX5_word 135 = .ok (.if_icmp .ne 7, 3) := dk_160 0 7 (dk_at dksX5_word_5 20 rfl rfl)
theorem dX5_word_138 : decode cX5_word 138 = .ok (.iload_n 1, 1) := dk_27 (dk_at dksX5_word_5 23 rfl rfl)
theorem dX5_word_139 : decode cX5_word 139 = .ok (.goto 7, 3) := dk_167 0 7 (dk_at dksX5_word_6 0 rfl rfl)
theorem dX5_word_142 : decode cX5_word 142 = .ok (.aload_n 0, 1) := dk_42 (dk_at dksX5_word_6 3 rfl rfl)
theorem dX5_word_143 : decode cX5_word 143 = .ok (.getfield 229, 3) := dk_180 0 229 (dk_at dksX5_word_6 4 rfl rfl)
theorem dX5_word_146 : decode cX5_word 146 = .ok (.putfield 229, 3) := dk_181 0 229 (dk_at dksX5_word_6 7 rfl rfl)
theorem dX5_word_149 : decode cX5_word 149 = .ok (.aload_n 0, 1) := dk_42 (dk_at dksX5_word_6 10 rfl rfl)
theorem dX5_word_150 : decode cX5_word 150 = .ok (.dup, 1) := dk_89 (dk_at dksX5_word_6 11 rfl rfl)
theorem dX5_word_151 : decode cX5_word 151 = .ok (.getfield 223, 3) := dk_180 0 223 (dk_at dksX5_word_6 12 rfl rfl)
theorem dX5_word_154 : decode cX5_word 154 = .ok (.iload_n 2, 1) := dk_28 (dk_at dksX5_word_6 15 rfl rfl)
theorem dX5_word_155 : decode cX5_word 155 = .ok (.iconst (-1), 1) := dk_2 (dk_at dksX5_word_6 16 rfl rfl)
theorem dX5_word_156 : decode cX5_word 156 = .ok (.if_icmp .ne 7, 3) := dk_160 0 7 (dk_at dksX5_word_6 17 rfl rfl)
theorem dX5_word_159 : decode cX5_word 159 = .ok (.iconst 0, 1) := dk_3 (dk_at dksX5_word_6 20 rfl rfl)
theorem dX5_word_160 : decode cX5_word 160 = .ok (.goto 14, 3) := dk_167 0 14 (dk_at dksX5_word_6 21 rfl rfl)
theorem dX5_word_163 : decode cX5_word 163 = .ok (.iload_n 2, 1) := dk_28 (dk_at dksX5_word_7 0 rfl rfl)
theorem dX5_word_164 : decode cX5_word 164 = .ok (.iconst 1, 1) := dk_4 (dk_at dksX5_word_7 1 rfl rfl)
theorem dX5_word_165 : decode cX5_word 165 = .ok (.iadd, 1) := dk_96 (dk_at dksX5_word_7 2 rfl rfl)
theorem dX5_word_166 : decode cX5_word 166 = .ok (.invokestatic 238, 3) := dk_184 0 238 (dk_at dksX5_word_7 3 rfl rfl)
theorem dX5_word_169 : decode cX5_word 169 = .ok (.iload_n 2, 1) := dk_28 (dk_at dksX5_word_7 6 rfl rfl)
theorem dX5_word_170 : decode cX5_word 170 = .ok (.invokestatic 238, 3) := dk_184 0 238 (dk_at dksX5_word_7 7 rfl rfl)
theorem dX5_word_173 : decode cX5_word 173 = .ok (.isub, 1) := dk_100 (dk_at dksX5_word_7 10 rfl rfl)
theorem dX5_word_174 : decode cX5_word 174 = .ok (.iadd, 1) := dk_96 (dk_at dksX5_word_7 11 rfl rfl)
theorem dX5_word_175 : decode cX5_word 175 = .ok (.putfield 223, 3) := dk_181 0 223 (dk_at dksX5_word_7 12 rfl rfl)
theorem dX5_word_178 : decode cX5_word 178 = .ok (.iload_n 2, 1) := dk_28 (dk_at dksX5_word_7 15 rfl rfl)
theorem dX5_word_179 : decode cX5_word 179 = .ok (.iconst (-1), 1) := dk_2 (dk_at dksX5_word_7 16 rfl rfl)
theorem dX5_word_180 : decode cX5_word 180 = .ok (.if_icmp .ne 8, 3) := dk_160 0 8 (dk_at dksX5_word_7 17 rfl rfl)
theorem dX5_word_183 : decode cX5_word 183 = .ok (.bipush 7, 2) := dk_16 7 (dk_at dksX5_word_7 20 rfl rfl)
theorem dX5_word_185 : decode cX5_word 185 = .ok (.goto 4, 3) := dk_167 0 4 (dk_at dksX5_word_8 0 rfl rfl)
theorem dX5_word_188 : decode cX5_word 188 = .ok (.iload_n 2, 1) := dk_28 (dk_at dksX5_word_8 3 rfl rfl)
theorem dX5_word_189 : decode cX5_word 189 = .ok (.ireturn, 1) := dk_172 (dk_at dksX5_word_8 4 rfl rfl)
abbrev cX5_begin : ByteArray := prog_12_method_80_code
def yX5_begin : MethodName := ⟨RX5, "begin", "(I)I"⟩
def dkwX5_begin_3 : List UInt8 := [172]
abbrev dktX5_begin_3 : List UInt8 := dkwX5_begin_3 ++ []
def dkwX5_begin_2 : List UInt8 := [3, 172, 7, 172, 16, 9, 172, 16, 14, 172, 16, 21, 172, 16, 25, 172, 16, 28, 172, 16, 32, 172, 16, 36]
abbrev dktX5_begin_2 : List UInt8 := dkwX5_begin_2 ++ dktX5_begin_3
def dkwX5_begin_1 : List UInt8 := [170, 0, 0, 0, 0, 0, 69, 0, 0, 0, 0, 0, 0, 0, 7, 0, 0, 0, 47, 0, 0, 0, 49, 0, 0, 0, 51, 0, 0, 0, 54, 0, 0, 0, 57, 0, 0, 0, 60, 0, 0, 0, 63, 0, 0, 0, 66]
abbrev dktX5_begin_1 : List UInt8 := dkwX5_begin_1 ++ dktX5_begin_2
def dkwX5_begin_0 : List UInt8 := [26]
abbrev dktX5_begin_0 : List UInt8 := dkwX5_begin_0 ++ dktX5_begin_1
theorem dksX5_begin_0 : cX5_begin.data.toList.drop 0 = dktX5_begin_0 := by decide +kernel
theorem dksX5_begin_1 : cX5_begin.data.toList.drop 1 = dktX5_begin_1 := dk_seg dksX5_begin_0 1 rfl rfl
theorem dksX5_begin_2 : cX5_begin.data.toList.drop 48 = dktX5_begin_2 := dk_seg dksX5_begin_1 47 rfl rfl
theorem dksX5_begin_3 : cX5_begin.data.toList.drop 72 = dktX5_begin_3 := dk_seg dksX5_begin_2 24 rfl rfl
theorem dX5_begin_0 : decode cX5_begin 0 = .ok (.iload_n 0, 1) := dk_26 (dk_at dksX5_begin_0 0 rfl rfl)
theorem dX5_begin_1 : decode cX5_begin 1 = .ok (.tableswitch 69 0 7 #[47, 49, 51, 54, 57, 60, 63, 66], 47) := by decide +kernel
theorem dX5_begin_48 : decode cX5_begin 48 = .ok (.iconst 0, 1) := dk_3 (dk_at dksX5_begin_2 0 rfl rfl)
theorem dX5_begin_49 : decode cX5_begin 49 = .ok (.ireturn, 1) := dk_172 (dk_at dksX5_begin_2 1 rfl rfl)
theorem dX5_begin_50 : decode cX5_begin 50 = .ok (.iconst 4, 1) := dk_7 (dk_at dksX5_begin_2 2 rfl rfl)
theorem dX5_begin_51 : decode cX5_begin 51 = .ok (.ireturn, 1) := dk_172 (dk_at dksX5_begin_2 3 rfl rfl)
theorem dX5_begin_52 : decode cX5_begin 52 = .ok (.bipush 9, 2) := dk_16 9 (dk_at dksX5_begin_2 4 rfl rfl)
theorem dX5_begin_54 : decode cX5_begin 54 = .ok (.ireturn, 1) := dk_172 (dk_at dksX5_begin_2 6 rfl rfl)
theorem dX5_begin_55 : decode cX5_begin 55 = .ok (.bipush 14, 2) := dk_16 14 (dk_at dksX5_begin_2 7 rfl rfl)
theorem dX5_begin_57 : decode cX5_begin 57 = .ok (.ireturn, 1) := dk_172 (dk_at dksX5_begin_2 9 rfl rfl)
theorem dX5_begin_58 : decode cX5_begin 58 = .ok (.bipush 21, 2) := dk_16 21 (dk_at dksX5_begin_2 10 rfl rfl)
theorem dX5_begin_60 : decode cX5_begin 60 = .ok (.ireturn, 1) := dk_172 (dk_at dksX5_begin_2 12 rfl rfl)
theorem dX5_begin_61 : decode cX5_begin 61 = .ok (.bipush 25, 2) := dk_16 25 (dk_at dksX5_begin_2 13 rfl rfl)
theorem dX5_begin_63 : decode cX5_begin 63 = .ok (.ireturn, 1) := dk_172 (dk_at dksX5_begin_2 15 rfl rfl)
theorem dX5_begin_64 : decode cX5_begin 64 = .ok (.bipush 28, 2) := dk_16 28 (dk_at dksX5_begin_2 16 rfl rfl)
theorem dX5_begin_66 : decode cX5_begin 66 = .ok (.ireturn, 1) := dk_172 (dk_at dksX5_begin_2 18 rfl rfl)
theorem dX5_begin_67 : decode cX5_begin 67 = .ok (.bipush 32, 2) := dk_16 32 (dk_at dksX5_begin_2 19 rfl rfl)
theorem dX5_begin_69 : decode cX5_begin 69 = .ok (.ireturn, 1) := dk_172 (dk_at dksX5_begin_2 21 rfl rfl)
theorem dX5_begin_70 : decode cX5_begin 70 = .ok (.bipush 36, 2) := dk_16 36 (dk_at dksX5_begin_2 22 rfl rfl)
theorem dX5_begin_72 : decode cX5_begin 72 = .ok (.ireturn, 1) := dk_172 (dk_at dksX5_begin_3 0 rfl rfl)
abbrev cX5_number : ByteArray := prog_12_method_84_code
def yX5_number : MethodName := ⟨RX5, "number", "(II)I"⟩
def dkwX5_number_3 : List UInt8 := [167, 255, 209, 21, 4, 172]
abbrev dktX5_number_3 : List UInt8 := dkwX5_number_3 ++ []
def dkwX5_number_2 : List UInt8 := [153, 0, 25, 16, 10, 21, 4, 104, 42, 16, 48, 16, 57, 182, 0, 235, 96, 54, 4, 132, 5, 1]
abbrev dktX5_number_2 : List UInt8 := dkwX5_number_2 ++ dktX5_number_3
def dkwX5_number_1 : List UInt8 := [162, 0, 47, 42, 180, 0, 229, 2, 160, 0, 39, 42, 182, 0, 232, 16, 48, 16, 57, 184, 0, 73]
abbrev dktX5_number_1 : List UInt8 := dkwX5_number_1 ++ dktX5_number_2
def dkwX5_number_0 : List UInt8 := [42, 27, 27, 182, 0, 235, 62, 42, 16, 48, 16, 57, 182, 0, 235, 54, 4, 4, 54, 5, 21, 5, 28]
abbrev dktX5_number_0 : List UInt8 := dkwX5_number_0 ++ dktX5_number_1
theorem dksX5_number_0 : cX5_number.data.toList.drop 0 = dktX5_number_0 := by decide +kernel
theorem dksX5_number_1 : cX5_number.data.toList.drop 23 = dktX5_number_1 := dk_seg dksX5_number_0 23 rfl rfl
theorem dksX5_number_2 : cX5_number.data.toList.drop 45 = dktX5_number_2 := dk_seg dksX5_number_1 22 rfl rfl
theorem dksX5_number_3 : cX5_number.data.toList.drop 67 = dktX5_number_3 := dk_seg dksX5_number_2 22 rfl rfl
theorem dX5_number_0 : decode cX5_number 0 = .ok (.aload_n 0, 1) := dk_42 (dk_at dksX5_number_0 0 rfl rfl)
theorem dX5_number_1 : decode cX5_number 1 = .ok (.iload_n 1, 1) := dk_27 (dk_at dksX5_number_0 1 rfl rfl)
theorem dX5_number_2 : decode cX5_number 2 = .ok (.iload_n 1, 1) := dk_27 (dk_at dksX5_number_0 2 rfl rfl)
theorem dX5_number_3 : decode cX5_number 3 = .ok (.invokevirtual 235, 3) := dk_182 0 235 (dk_at dksX5_number_0 3 rfl rfl)
theorem dX5_number_6 : decode cX5_number 6 = .ok (.istore_n 3, 1) := dk_62 (dk_at dksX5_number_0 6 rfl rfl)
theorem dX5_number_7 : decode cX5_number 7 = .ok (.aload_n 0, 1) := dk_42 (dk_at dksX5_number_0 7 rfl rfl)
theorem dX5_number_8 : decode cX5_number 8 = .ok (.bipush 48, 2) := dk_16 48 (dk_at dksX5_number_0 8 rfl rfl)
theorem dX5_number_10 : decode cX5_number 10 = .ok (.bipush 57, 2) := dk_16 57 (dk_at dksX5_number_0 10 rfl rfl)
theorem dX5_number_12 : decode cX5_number 12 = .ok (.invokevirtual 235, 3) := dk_182 0 235 (dk_at dksX5_number_0 12 rfl rfl)
theorem dX5_number_15 : decode cX5_number 15 = .ok (.istore 4, 2) := dk_54 4 (dk_at dksX5_number_0 15 rfl rfl)
theorem dX5_number_17 : decode cX5_number 17 = .ok (.iconst 1, 1) := dk_4 (dk_at dksX5_number_0 17 rfl rfl)
theorem dX5_number_18 : decode cX5_number 18 = .ok (.istore 5, 2) := dk_54 5 (dk_at dksX5_number_0 18 rfl rfl)
theorem dX5_number_20 : decode cX5_number 20 = .ok (.iload 5, 2) := dk_21 5 (dk_at dksX5_number_0 20 rfl rfl)
theorem dX5_number_22 : decode cX5_number 22 = .ok (.iload_n 2, 1) := dk_28 (dk_at dksX5_number_0 22 rfl rfl)
theorem dX5_number_23 : decode cX5_number 23 = .ok (.if_icmp .ge 47, 3) := dk_162 0 47 (dk_at dksX5_number_1 0 rfl rfl)
theorem dX5_number_26 : decode cX5_number 26 = .ok (.aload_n 0, 1) := dk_42 (dk_at dksX5_number_1 3 rfl rfl)
theorem dX5_number_27 : decode cX5_number 27 = .ok (.getfield 229, 3) := dk_180 0 229 (dk_at dksX5_number_1 4 rfl rfl)
theorem dX5_number_30 : decode cX5_number 30 = .ok (.iconst (-1), 1) := dk_2 (dk_at dksX5_number_1 7 rfl rfl)
theorem dX5_number_31 : decode cX5_number 31 = .ok (.if_icmp .ne 39, 3) := dk_160 0 39 (dk_at dksX5_number_1 8 rfl rfl)
theorem dX5_number_34 : decode cX5_number 34 = .ok (.aload_n 0, 1) := dk_42 (dk_at dksX5_number_1 11 rfl rfl)
theorem dX5_number_35 : decode cX5_number 35 = .ok (.invokevirtual 232, 3) := dk_182 0 232 (dk_at dksX5_number_1 12 rfl rfl)
theorem dX5_number_38 : decode cX5_number 38 = .ok (.bipush 48, 2) := dk_16 48 (dk_at dksX5_number_1 15 rfl rfl)
theorem dX5_number_40 : decode cX5_number 40 = .ok (.bipush 57, 2) := dk_16 57 (dk_at dksX5_number_1 17 rfl rfl)
theorem dX5_number_42 : decode cX5_number 42 = .ok (.invokestatic 73, 3) := dk_184 0 73 (dk_at dksX5_number_1 19 rfl rfl)
theorem dX5_number_45 : decode cX5_number 45 = .ok (.ifCond .eq 25, 3) := dk_153 0 25 (dk_at dksX5_number_2 0 rfl rfl)
theorem dX5_number_48 : decode cX5_number 48 = .ok (.bipush 10, 2) := dk_16 10 (dk_at dksX5_number_2 3 rfl rfl)
theorem dX5_number_50 : decode cX5_number 50 = .ok (.iload 4, 2) := dk_21 4 (dk_at dksX5_number_2 5 rfl rfl)
theorem dX5_number_52 : decode cX5_number 52 = .ok (.imul, 1) := dk_104 (dk_at dksX5_number_2 7 rfl rfl)
theorem dX5_number_53 : decode cX5_number 53 = .ok (.aload_n 0, 1) := dk_42 (dk_at dksX5_number_2 8 rfl rfl)
theorem dX5_number_54 : decode cX5_number 54 = .ok (.bipush 48, 2) := dk_16 48 (dk_at dksX5_number_2 9 rfl rfl)
theorem dX5_number_56 : decode cX5_number 56 = .ok (.bipush 57, 2) := dk_16 57 (dk_at dksX5_number_2 11 rfl rfl)
theorem dX5_number_58 : decode cX5_number 58 = .ok (.invokevirtual 235, 3) := dk_182 0 235 (dk_at dksX5_number_2 13 rfl rfl)
theorem dX5_number_61 : decode cX5_number 61 = .ok (.iadd, 1) := dk_96 (dk_at dksX5_number_2 16 rfl rfl)
theorem dX5_number_62 : decode cX5_number 62 = .ok (.istore 4, 2) := dk_54 4 (dk_at dksX5_number_2 17 rfl rfl)
theorem dX5_number_64 : decode cX5_number 64 = .ok (.iinc 5 1, 3) := dk_132 5 1 (dk_at dksX5_number_2 19 rfl rfl)
theorem dX5_number_67 : decode cX5_number 67 = .ok (.goto (-47), 3) := dk_167 255 209 (dk_at dksX5_number_3 0 rfl rfl)
theorem dX5_number_70 : decode cX5_number 70 = .ok (.iload 4, 2) := dk_21 4 (dk_at dksX5_number_3 3 rfl rfl)
theorem dX5_number_72 : decode cX5_number 72 = .ok (.ireturn, 1) := dk_172 (dk_at dksX5_number_3 5 rfl rfl)
abbrev cX5_takes : ByteArray := prog_12_method_83_code
def yX5_takes : MethodName := ⟨RX5, "takes", "(II)I"⟩
def dkwX5_takes_2 : List UInt8 := [42, 180, 0, 229, 2, 160, 0, 10, 42, 180, 0, 223, 167, 0, 7, 42, 180, 0, 229, 181, 0, 229, 3, 172]
abbrev dktX5_takes_2 : List UInt8 := dkwX5_takes_2 ++ []
def dkwX5_takes_1 : List UInt8 := [180, 0, 223, 4, 96, 181, 0, 223, 42, 180, 0, 22, 42, 180, 0, 223, 4, 100, 46, 16, 48, 100, 172, 42]
abbrev dktX5_takes_1 : List UInt8 := dkwX5_takes_1 ++ dktX5_takes_2
def dkwX5_takes_0 : List UInt8 := [42, 180, 0, 229, 2, 160, 0, 40, 42, 182, 0, 232, 27, 28, 184, 0, 73, 153, 0, 28, 42, 89]
abbrev dktX5_takes_0 : List UInt8 := dkwX5_takes_0 ++ dktX5_takes_1
theorem dksX5_takes_0 : cX5_takes.data.toList.drop 0 = dktX5_takes_0 := by decide +kernel
theorem dksX5_takes_1 : cX5_takes.data.toList.drop 22 = dktX5_takes_1 := dk_seg dksX5_takes_0 22 rfl rfl
theorem dksX5_takes_2 : cX5_takes.data.toList.drop 46 = dktX5_takes_2 := dk_seg dksX5_takes_1 24 rfl rfl
theorem dX5_takes_0 : decode cX5_takes 0 = .ok (.aload_n 0, 1) := dk_42 (dk_at dksX5_takes_0 0 rfl rfl)
theorem dX5_takes_1 : decode cX5_takes 1 = .ok (.getfield 229, 3) := dk_180 0 229 (dk_at dksX5_takes_0 1 rfl rfl)
theorem dX5_takes_4 : decode cX5_takes 4 = .ok (.iconst (-1), 1) := dk_2 (dk_at dksX5_takes_0 4 rfl rfl)
theorem dX5_takes_5 : decode cX5_takes 5 = .ok (.if_icmp .ne 40, 3) := dk_160 0 40 (dk_at dksX5_takes_0 5 rfl rfl)
theorem dX5_takes_8 : decode cX5_takes 8 = .ok (.aload_n 0, 1) := dk_42 (dk_at dksX5_takes_0 8 rfl rfl)
theorem dX5_takes_9 : decode cX5_takes 9 = .ok (.invokevirtual 232, 3) := dk_182 0 232 (dk_at dksX5_takes_0 9 rfl rfl)
theorem dX5_takes_12 : decode cX5_takes 12 = .ok (.iload_n 1, 1) := dk_27 (dk_at dksX5_takes_0 12 rfl rfl)
theorem dX5_takes_13 : decode cX5_takes 13 = .ok (.iload_n 2, 1) := dk_28 (dk_at dksX5_takes_0 13 rfl rfl)
theorem dX5_takes_14 : decode cX5_takes 14 = .ok (.invokestatic 73, 3) := dk_184 0 73 (dk_at dksX5_takes_0 14 rfl rfl)
theorem dX5_takes_17 : decode cX5_takes 17 = .ok (.ifCond .eq 28, 3) := dk_153 0 28 (dk_at dksX5_takes_0 17 rfl rfl)
theorem dX5_takes_20 : decode cX5_takes 20 = .ok (.aload_n 0, 1) := dk_42 (dk_at dksX5_takes_0 20 rfl rfl)
theorem dX5_takes_21 : decode cX5_takes 21 = .ok (.dup, 1) := dk_89 (dk_at dksX5_takes_0 21 rfl rfl)
theorem dX5_takes_22 : decode cX5_takes 22 = .ok (.getfield 223, 3) := dk_180 0 223 (dk_at dksX5_takes_1 0 rfl rfl)
theorem dX5_takes_25 : decode cX5_takes 25 = .ok (.iconst 1, 1) := dk_4 (dk_at dksX5_takes_1 3 rfl rfl)
theorem dX5_takes_26 : decode cX5_takes 26 = .ok (.iadd, 1) := dk_96 (dk_at dksX5_takes_1 4 rfl rfl)
theorem dX5_takes_27 : decode cX5_takes 27 = .ok (.putfield 223, 3) := dk_181 0 223 (dk_at dksX5_takes_1 5 rfl rfl)
theorem dX5_takes_30 : decode cX5_takes 30 = .ok (.aload_n 0, 1) := dk_42 (dk_at dksX5_takes_1 8 rfl rfl)
theorem dX5_takes_31 : decode cX5_takes 31 = .ok (.getfield 22, 3) := dk_180 0 22 (dk_at dksX5_takes_1 9 rfl rfl)
theorem dX5_takes_34 : decode cX5_takes 34 = .ok (.aload_n 0, 1) := dk_42 (dk_at dksX5_takes_1 12 rfl rfl)
theorem dX5_takes_35 : decode cX5_takes 35 = .ok (.getfield 223, 3) := dk_180 0 223 (dk_at dksX5_takes_1 13 rfl rfl)
theorem dX5_takes_38 : decode cX5_takes 38 = .ok (.iconst 1, 1) := dk_4 (dk_at dksX5_takes_1 16 rfl rfl)
theorem dX5_takes_39 : decode cX5_takes 39 = .ok (.isub, 1) := dk_100 (dk_at dksX5_takes_1 17 rfl rfl)
theorem dX5_takes_40 : decode cX5_takes 40 = .ok (.iaload, 1) := dk_46 (dk_at dksX5_takes_1 18 rfl rfl)
theorem dX5_takes_41 : decode cX5_takes 41 = .ok (.bipush 48, 2) := dk_16 48 (dk_at dksX5_takes_1 19 rfl rfl)
theorem dX5_takes_43 : decode cX5_takes 43 = .ok (.isub, 1) := dk_100 (dk_at dksX5_takes_1 21 rfl rfl)
theorem dX5_takes_44 : decode cX5_takes 44 = .ok (.ireturn, 1) := dk_172 (dk_at dksX5_takes_1 22 rfl rfl)
theorem dX5_takes_45 : decode cX5_takes 45 = .ok (.aload_n 0, 1) := dk_42 (dk_at dksX5_takes_1 23 rfl rfl)
theorem dX5_takes_46 : decode cX5_takes 46 = .ok (.aload_n 0, 1) := dk_42 (dk_at dksX5_takes_2 0 rfl rfl)
theorem dX5_takes_47 : decode cX5_takes 47 = .ok (.getfield 229, 3) := dk_180 0 229 (dk_at dksX5_takes_2 1 rfl rfl)
theorem dX5_takes_50 : decode cX5_takes 50 = .ok (.iconst (-1), 1) := dk_2 (dk_at dksX5_takes_2 4 rfl rfl)
theorem dX5_takes_51 : decode cX5_takes 51 = .ok (.if_icmp .ne 10, 3) := dk_160 0 10 (dk_at dksX5_takes_2 5 rfl rfl)
theorem dX5_takes_54 : decode cX5_takes 54 = .ok (.aload_n 0, 1) := dk_42 (dk_at dksX5_takes_2 8 rfl rfl)
theorem dX5_takes_55 : decode cX5_takes 55 = .ok (.getfield 223, 3) := dk_180 0 223 (dk_at dksX5_takes_2 9 rfl rfl)
theorem dX5_takes_58 : decode cX5_takes 58 = .ok (.goto 7, 3) := dk_167 0 7 (dk_at dksX5_takes_2 12 rfl rfl)
theorem dX5_takes_61 : decode cX5_takes 61 = .ok (.aload_n 0, 1) := dk_42 (dk_at dksX5_takes_2 15 rfl rfl)
theorem dX5_takes_62 : decode cX5_takes 62 = .ok (.getfield 229, 3) := dk_180 0 229 (dk_at dksX5_takes_2 16 rfl rfl)
theorem dX5_takes_65 : decode cX5_takes 65 = .ok (.putfield 229, 3) := dk_181 0 229 (dk_at dksX5_takes_2 19 rfl rfl)
theorem dX5_takes_68 : decode cX5_takes 68 = .ok (.iconst 0, 1) := dk_3 (dk_at dksX5_takes_2 22 rfl rfl)
theorem dX5_takes_69 : decode cX5_takes 69 = .ok (.ireturn, 1) := dk_172 (dk_at dksX5_takes_2 23 rfl rfl)
abbrev cX5_sign : ByteArray := prog_12_method_82_code
def yX5_sign : MethodName := ⟨RX5, "sign", "()I"⟩
def dkwX5_sign_1 : List UInt8 := [172]
abbrev dktX5_sign_1 : List UInt8 := dkwX5_sign_1 ++ []
def dkwX5_sign_0 : List UInt8 := [42, 180, 0, 223, 42, 180, 0, 226, 162, 0, 15, 42, 180, 0, 22, 42, 180, 0, 223, 46, 167, 0, 4, 2]
abbrev dktX5_sign_0 : List UInt8 := dkwX5_sign_0 ++ dktX5_sign_1
theorem dksX5_sign_0 : cX5_sign.data.toList.drop 0 = dktX5_sign_0 := by decide +kernel
theorem dksX5_sign_1 : cX5_sign.data.toList.drop 24 = dktX5_sign_1 := dk_seg dksX5_sign_0 24 rfl rfl
theorem dX5_sign_0 : decode cX5_sign 0 = .ok (.aload_n 0, 1) := dk_42 (dk_at dksX5_sign_0 0 rfl rfl)
theorem dX5_sign_1 : decode cX5_sign 1 = .ok (.getfield 223, 3) := dk_180 0 223 (dk_at dksX5_sign_0 1 rfl rfl)
theorem dX5_sign_4 : decode cX5_sign 4 = .ok (.aload_n 0, 1) := dk_42 (dk_at dksX5_sign_0 4 rfl rfl)
theorem dX5_sign_5 : decode cX5_sign 5 = .ok (.getfield 226, 3) := dk_180 0 226 (dk_at dksX5_sign_0 5 rfl rfl)
theorem dX5_sign_8 : decode cX5_sign 8 = .ok (.if_icmp .ge 15, 3) := dk_162 0 15 (dk_at dksX5_sign_0 8 rfl rfl)
theorem dX5_sign_11 : decode cX5_sign 11 = .ok (.aload_n 0, 1) := dk_42 (dk_at dksX5_sign_0 11 rfl rfl)
theorem dX5_sign_12 : decode cX5_sign 12 = .ok (.getfield 22, 3) := dk_180 0 22 (dk_at dksX5_sign_0 12 rfl rfl)
theorem dX5_sign_15 : decode cX5_sign 15 = .ok (.aload_n 0, 1) := dk_42 (dk_at dksX5_sign_0 15 rfl rfl)
theorem dX5_sign_16 : decode cX5_sign 16 = .ok (.getfield 223, 3) := dk_180 0 223 (dk_at dksX5_sign_0 16 rfl rfl)
theorem dX5_sign_19 : decode cX5_sign 19 = .ok (.iaload, 1) := dk_46 (dk_at dksX5_sign_0 19 rfl rfl)
theorem dX5_sign_20 : decode cX5_sign 20 = .ok (.goto 4, 3) := dk_167 0 4 (dk_at dksX5_sign_0 20 rfl rfl)
theorem dX5_sign_23 : decode cX5_sign 23 = .ok (.iconst (-1), 1) := dk_2 (dk_at dksX5_sign_0 23 rfl rfl)
theorem dX5_sign_24 : decode cX5_sign 24 = .ok (.ireturn, 1) := dk_172 (dk_at dksX5_sign_1 0 rfl rfl)
abbrev cX5_does : ByteArray := prog_12_method_88_code
def yX5_does : MethodName := ⟨RX5, "does", "(I)I"⟩
def dkwX5_does_6 : List UInt8 := [172, 42, 28, 182, 0, 106, 172, 42, 182, 0, 187, 172]
abbrev dktX5_does_6 : List UInt8 := dkwX5_does_6 ++ []
def dkwX5_does_5 : List UInt8 := [182, 0, 152, 172, 42, 28, 29, 182, 0, 92, 172, 42, 28, 29, 182, 0, 109, 172, 42, 28, 29, 182, 0, 115]
abbrev dktX5_does_5 : List UInt8 := dkwX5_does_5 ++ dktX5_does_6
def dkwX5_does_4 : List UInt8 := [7, 27, 104, 6, 96, 46, 4, 160, 0, 7, 4, 167, 0, 4, 3, 182, 0, 148, 172, 42, 28, 29]
abbrev dktX5_does_4 : List UInt8 := dkwX5_does_4 ++ dktX5_does_5
def dkwX5_does_3 : List UInt8 := [42, 28, 29, 182, 0, 130, 172, 42, 28, 29, 42, 180, 0, 35, 7, 27, 104, 5, 96, 46, 42, 180, 0, 35]
abbrev dktX5_does_3 : List UInt8 := dkwX5_does_3 ++ dktX5_does_4
def dkwX5_does_2 : List UInt8 := [170, 0, 0, 0, 0, 119, 0, 0, 0, 0, 0, 0, 0, 6, 0, 0, 0, 42, 0, 0, 0, 49, 0, 0, 0, 85, 0, 0, 0, 92, 0, 0, 0, 99, 0, 0, 0, 106, 0, 0, 0, 113]
abbrev dktX5_does_2 : List UInt8 := dkwX5_does_2 ++ dktX5_does_3
def dkwX5_does_1 : List UInt8 := [27, 46]
abbrev dktX5_does_1 : List UInt8 := dkwX5_does_1 ++ dktX5_does_2
def dkwX5_does_0 : List UInt8 := [42, 180, 0, 35, 7, 27, 104, 46, 61, 42, 180, 0, 35, 7, 27, 104, 4, 96, 46, 62, 42, 180, 0, 32]
abbrev dktX5_does_0 : List UInt8 := dkwX5_does_0 ++ dktX5_does_1
theorem dksX5_does_0 : cX5_does.data.toList.drop 0 = dktX5_does_0 := by decide +kernel
theorem dksX5_does_1 : cX5_does.data.toList.drop 24 = dktX5_does_1 := dk_seg dksX5_does_0 24 rfl rfl
theorem dksX5_does_2 : cX5_does.data.toList.drop 26 = dktX5_does_2 := dk_seg dksX5_does_1 2 rfl rfl
theorem dksX5_does_3 : cX5_does.data.toList.drop 68 = dktX5_does_3 := dk_seg dksX5_does_2 42 rfl rfl
theorem dksX5_does_4 : cX5_does.data.toList.drop 92 = dktX5_does_4 := dk_seg dksX5_does_3 24 rfl rfl
theorem dksX5_does_5 : cX5_does.data.toList.drop 114 = dktX5_does_5 := dk_seg dksX5_does_4 22 rfl rfl
theorem dksX5_does_6 : cX5_does.data.toList.drop 138 = dktX5_does_6 := dk_seg dksX5_does_5 24 rfl rfl
theorem dX5_does_0 : decode cX5_does 0 = .ok (.aload_n 0, 1) := dk_42 (dk_at dksX5_does_0 0 rfl rfl)
theorem dX5_does_1 : decode cX5_does 1 = .ok (.getfield 35, 3) := dk_180 0 35 (dk_at dksX5_does_0 1 rfl rfl)
theorem dX5_does_4 : decode cX5_does 4 = .ok (.iconst 4, 1) := dk_7 (dk_at dksX5_does_0 4 rfl rfl)
theorem dX5_does_5 : decode cX5_does 5 = .ok (.iload_n 1, 1) := dk_27 (dk_at dksX5_does_0 5 rfl rfl)
theorem dX5_does_6 : decode cX5_does 6 = .ok (.imul, 1) := dk_104 (dk_at dksX5_does_0 6 rfl rfl)
theorem dX5_does_7 : decode cX5_does 7 = .ok (.iaload, 1) := dk_46 (dk_at dksX5_does_0 7 rfl rfl)
theorem dX5_does_8 : decode cX5_does 8 = .ok (.istore_n 2, 1) := dk_61 (dk_at dksX5_does_0 8 rfl rfl)
theorem dX5_does_9 : decode cX5_does 9 = .ok (.aload_n 0, 1) := dk_42 (dk_at dksX5_does_0 9 rfl rfl)
theorem dX5_does_10 : decode cX5_does 10 = .ok (.getfield 35, 3) := dk_180 0 35 (dk_at dksX5_does_0 10 rfl rfl)
theorem dX5_does_13 : decode cX5_does 13 = .ok (.iconst 4, 1) := dk_7 (dk_at dksX5_does_0 13 rfl rfl)
theorem dX5_does_14 : decode cX5_does 14 = .ok (.iload_n 1, 1) := dk_27 (dk_at dksX5_does_0 14 rfl rfl)
theorem dX5_does_15 : decode cX5_does 15 = .ok (.imul, 1) := dk_104 (dk_at dksX5_does_0 15 rfl rfl)
theorem dX5_does_16 : decode cX5_does 16 = .ok (.iconst 1, 1) := dk_4 (dk_at dksX5_does_0 16 rfl rfl)
theorem dX5_does_17 : decode cX5_does 17 = .ok (.iadd, 1) := dk_96 (dk_at dksX5_does_0 17 rfl rfl)
theorem dX5_does_18 : decode cX5_does 18 = .ok (.iaload, 1) := dk_46 (dk_at dksX5_does_0 18 rfl rfl)
theorem dX5_does_19 : decode cX5_does 19 = .ok (.istore_n 3, 1) := dk_62 (dk_at dksX5_does_0 19 rfl rfl)
theorem dX5_does_20 : decode cX5_does 20 = .ok (.aload_n 0, 1) := dk_42 (dk_at dksX5_does_0 20 rfl rfl)
theorem dX5_does_21 : decode cX5_does 21 = .ok (.getfield 32, 3) := dk_180 0 32 (dk_at dksX5_does_0 21 rfl rfl)
theorem dX5_does_24 : decode cX5_does 24 = .ok (.iload_n 1, 1) := dk_27 (dk_at dksX5_does_1 0 rfl rfl)
theorem dX5_does_25 : decode cX5_does 25 = .ok (.iaload, 1) := dk_46 (dk_at dksX5_does_1 1 rfl rfl)
theorem dX5_does_26 : decode cX5_does 26 = .ok (.tableswitch 119 0 6 #[42, 49, 85, 92, 99, 106, 113], 42) := by decide +kernel
theorem dX5_does_68 : decode cX5_does 68 = .ok (.aload_n 0, 1) := dk_42 (dk_at dksX5_does_3 0 rfl rfl)
theorem dX5_does_69 : decode cX5_does 69 = .ok (.iload_n 2, 1) := dk_28 (dk_at dksX5_does_3 1 rfl rfl)
theorem dX5_does_70 : decode cX5_does 70 = .ok (.iload_n 3, 1) := dk_29 (dk_at dksX5_does_3 2 rfl rfl)
theorem dX5_does_71 : decode cX5_does 71 = .ok (.invokevirtual 130, 3) := dk_182 0 130 (dk_at dksX5_does_3 3 rfl rfl)
theorem dX5_does_74 : decode cX5_does 74 = .ok (.ireturn, 1) := dk_172 (dk_at dksX5_does_3 6 rfl rfl)
theorem dX5_does_75 : decode cX5_does 75 = .ok (.aload_n 0, 1) := dk_42 (dk_at dksX5_does_3 7 rfl rfl)
theorem dX5_does_76 : decode cX5_does 76 = .ok (.iload_n 2, 1) := dk_28 (dk_at dksX5_does_3 8 rfl rfl)
theorem dX5_does_77 : decode cX5_does 77 = .ok (.iload_n 3, 1) := dk_29 (dk_at dksX5_does_3 9 rfl rfl)
theorem dX5_does_78 : decode cX5_does 78 = .ok (.aload_n 0, 1) := dk_42 (dk_at dksX5_does_3 10 rfl rfl)
theorem dX5_does_79 : decode cX5_does 79 = .ok (.getfield 35, 3) := dk_180 0 35 (dk_at dksX5_does_3 11 rfl rfl)
theorem dX5_does_82 : decode cX5_does 82 = .ok (.iconst 4, 1) := dk_7 (dk_at dksX5_does_3 14 rfl rfl)
theorem dX5_does_83 : decode cX5_does 83 = .ok (.iload_n 1, 1) := dk_27 (dk_at dksX5_does_3 15 rfl rfl)
theorem dX5_does_84 : decode cX5_does 84 = .ok (.imul, 1) := dk_104 (dk_at dksX5_does_3 16 rfl rfl)
theorem dX5_does_85 : decode cX5_does 85 = .ok (.iconst 2, 1) := dk_5 (dk_at dksX5_does_3 17 rfl rfl)
theorem dX5_does_86 : decode cX5_does 86 = .ok (.iadd, 1) := dk_96 (dk_at dksX5_does_3 18 rfl rfl)
theorem dX5_does_87 : decode cX5_does 87 = .ok (.iaload, 1) := dk_46 (dk_at dksX5_does_3 19 rfl rfl)
theorem dX5_does_88 : decode cX5_does 88 = .ok (.aload_n 0, 1) := dk_42 (dk_at dksX5_does_3 20 rfl rfl)
theorem dX5_does_89 : decode cX5_does 89 = .ok (.getfield 35, 3) := dk_180 0 35 (dk_at dksX5_does_3 21 rfl rfl)
theorem dX5_does_92 : decode cX5_does 92 = .ok (.iconst 4, 1) := dk_7 (dk_at dksX5_does_4 0 rfl rfl)
theorem dX5_does_93 : decode cX5_does 93 = .ok (.iload_n 1, 1) := dk_27 (dk_at dksX5_does_4 1 rfl rfl)
theorem dX5_does_94 : decode cX5_does 94 = .ok (.imul, 1) := dk_104 (dk_at dksX5_does_4 2 rfl rfl)
theorem dX5_does_95 : decode cX5_does 95 = .ok (.iconst 3, 1) := dk_6 (dk_at dksX5_does_4 3 rfl rfl)
theorem dX5_does_96 : decode cX5_does 96 = .ok (.iadd, 1) := dk_96 (dk_at dksX5_does_4 4 rfl rfl)
theorem dX5_does_97 : decode cX5_does 97 = .ok (.iaload, 1) := dk_46 (dk_at dksX5_does_4 5 rfl rfl)
theorem dX5_does_98 : decode cX5_does 98 = .ok (.iconst 1, 1) := dk_4 (dk_at dksX5_does_4 6 rfl rfl)
theorem dX5_does_99 : decode cX5_does 99 = .ok (.if_icmp .ne 7, 3) := dk_160 0 7 (dk_at dksX5_does_4 7 rfl rfl)
theorem dX5_does_102 : decode cX5_does 102 = .ok (.iconst 1, 1) := dk_4 (dk_at dksX5_does_4 10 rfl rfl)
theorem dX5_does_103 : decode cX5_does 103 = .ok (.goto 4, 3) := dk_167 0 4 (dk_at dksX5_does_4 11 rfl rfl)
theorem dX5_does_106 : decode cX5_does 106 = .ok (.iconst 0, 1) := dk_3 (dk_at dksX5_does_4 14 rfl rfl)
theorem dX5_does_107 : decode cX5_does 107 = .ok (.invokevirtual 148, 3) := dk_182 0 148 (dk_at dksX5_does_4 15 rfl rfl)
theorem dX5_does_110 : decode cX5_does 110 = .ok (.ireturn, 1) := dk_172 (dk_at dksX5_does_4 18 rfl rfl)
theorem dX5_does_111 : decode cX5_does 111 = .ok (.aload_n 0, 1) := dk_42 (dk_at dksX5_does_4 19 rfl rfl)
theorem dX5_does_112 : decode cX5_does 112 = .ok (.iload_n 2, 1) := dk_28 (dk_at dksX5_does_4 20 rfl rfl)
theorem dX5_does_113 : decode cX5_does 113 = .ok (.iload_n 3, 1) := dk_29 (dk_at dksX5_does_4 21 rfl rfl)
theorem dX5_does_114 : decode cX5_does 114 = .ok (.invokevirtual 152, 3) := dk_182 0 152 (dk_at dksX5_does_5 0 rfl rfl)
theorem dX5_does_117 : decode cX5_does 117 = .ok (.ireturn, 1) := dk_172 (dk_at dksX5_does_5 3 rfl rfl)
theorem dX5_does_118 : decode cX5_does 118 = .ok (.aload_n 0, 1) := dk_42 (dk_at dksX5_does_5 4 rfl rfl)
theorem dX5_does_119 : decode cX5_does 119 = .ok (.iload_n 2, 1) := dk_28 (dk_at dksX5_does_5 5 rfl rfl)
theorem dX5_does_120 : decode cX5_does 120 = .ok (.iload_n 3, 1) := dk_29 (dk_at dksX5_does_5 6 rfl rfl)
theorem dX5_does_121 : decode cX5_does 121 = .ok (.invokevirtual 92, 3) := dk_182 0 92 (dk_at dksX5_does_5 7 rfl rfl)
theorem dX5_does_124 : decode cX5_does 124 = .ok (.ireturn, 1) := dk_172 (dk_at dksX5_does_5 10 rfl rfl)
theorem dX5_does_125 : decode cX5_does 125 = .ok (.aload_n 0, 1) := dk_42 (dk_at dksX5_does_5 11 rfl rfl)
theorem dX5_does_126 : decode cX5_does 126 = .ok (.iload_n 2, 1) := dk_28 (dk_at dksX5_does_5 12 rfl rfl)
theorem dX5_does_127 : decode cX5_does 127 = .ok (.iload_n 3, 1) := dk_29 (dk_at dksX5_does_5 13 rfl rfl)
theorem dX5_does_128 : decode cX5_does 128 = .ok (.invokevirtual 109, 3) := dk_182 0 109 (dk_at dksX5_does_5 14 rfl rfl)
theorem dX5_does_131 : decode cX5_does 131 = .ok (.ireturn, 1) := dk_172 (dk_at dksX5_does_5 17 rfl rfl)
theorem dX5_does_132 : decode cX5_does 132 = .ok (.aload_n 0, 1) := dk_42 (dk_at dksX5_does_5 18 rfl rfl)
theorem dX5_does_133 : decode cX5_does 133 = .ok (.iload_n 2, 1) := dk_28 (dk_at dksX5_does_5 19 rfl rfl)
theorem dX5_does_134 : decode cX5_does 134 = .ok (.iload_n 3, 1) := dk_29 (dk_at dksX5_does_5 20 rfl rfl)
theorem dX5_does_135 : decode cX5_does 135 = .ok (.invokevirtual 115, 3) := dk_182 0 115 (dk_at dksX5_does_5 21 rfl rfl)
theorem dX5_does_138 : decode cX5_does 138 = .ok (.ireturn, 1) := dk_172 (dk_at dksX5_does_6 0 rfl rfl)
theorem dX5_does_139 : decode cX5_does 139 = .ok (.aload_n 0, 1) := dk_42 (dk_at dksX5_does_6 1 rfl rfl)
theorem dX5_does_140 : decode cX5_does 140 = .ok (.iload_n 2, 1) := dk_28 (dk_at dksX5_does_6 2 rfl rfl)
theorem dX5_does_141 : decode cX5_does 141 = .ok (.invokevirtual 106, 3) := dk_182 0 106 (dk_at dksX5_does_6 3 rfl rfl)
theorem dX5_does_144 : decode cX5_does 144 = .ok (.ireturn, 1) := dk_172 (dk_at dksX5_does_6 6 rfl rfl)
theorem dX5_does_145 : decode cX5_does 145 = .ok (.aload_n 0, 1) := dk_42 (dk_at dksX5_does_6 7 rfl rfl)
theorem dX5_does_146 : decode cX5_does 146 = .ok (.invokevirtual 187, 3) := dk_182 0 187 (dk_at dksX5_does_6 8 rfl rfl)
theorem dX5_does_149 : decode cX5_does 149 = .ok (.ireturn, 1) := dk_172 (dk_at dksX5_does_6 11 rfl rfl)
abbrev cX5_faultPosition : ByteArray := prog_12_method_90_code
def yX5_faultPosition : MethodName := ⟨RX5, "faultPosition", "()I"⟩
def dkwX5_faultPosition_1 : List UInt8 := [160, 0, 7, 3, 167, 0, 7, 42, 180, 0, 25, 172]
abbrev dktX5_faultPosition_1 : List UInt8 := dkwX5_faultPosition_1 ++ []
def dkwX5_faultPosition_0 : List UInt8 := [42, 42, 180, 0, 25, 2, 160, 0, 7, 4, 167, 0, 4, 3, 181, 0, 38, 42, 180, 0, 25, 2]
abbrev dktX5_faultPosition_0 : List UInt8 := dkwX5_faultPosition_0 ++ dktX5_faultPosition_1
theorem dksX5_faultPosition_0 : cX5_faultPosition.data.toList.drop 0 = dktX5_faultPosition_0 := by decide +kernel
theorem dksX5_faultPosition_1 : cX5_faultPosition.data.toList.drop 22 = dktX5_faultPosition_1 := dk_seg dksX5_faultPosition_0 22 rfl rfl
theorem dX5_faultPosition_0 : decode cX5_faultPosition 0 = .ok (.aload_n 0, 1) := dk_42 (dk_at dksX5_faultPosition_0 0 rfl rfl)
theorem dX5_faultPosition_1 : decode cX5_faultPosition 1 = .ok (.aload_n 0, 1) := dk_42 (dk_at dksX5_faultPosition_0 1 rfl rfl)
theorem dX5_faultPosition_2 : decode cX5_faultPosition 2 = .ok (.getfield 25, 3) := dk_180 0 25 (dk_at dksX5_faultPosition_0 2 rfl rfl)
theorem dX5_faultPosition_5 : decode cX5_faultPosition 5 = .ok (.iconst (-1), 1) := dk_2 (dk_at dksX5_faultPosition_0 5 rfl rfl)
theorem dX5_faultPosition_6 : decode cX5_faultPosition 6 = .ok (.if_icmp .ne 7, 3) := dk_160 0 7 (dk_at dksX5_faultPosition_0 6 rfl rfl)
theorem dX5_faultPosition_9 : decode cX5_faultPosition 9 = .ok (.iconst 1, 1) := dk_4 (dk_at dksX5_faultPosition_0 9 rfl rfl)
theorem dX5_faultPosition_10 : decode cX5_faultPosition 10 = .ok (.goto 4, 3) := dk_167 0 4 (dk_at dksX5_faultPosition_0 10 rfl rfl)
theorem dX5_faultPosition_13 : decode cX5_faultPosition 13 = .ok (.iconst 0, 1) := dk_3 (dk_at dksX5_faultPosition_0 13 rfl rfl)
theorem dX5_faultPosition_14 : decode cX5_faultPosition 14 = .ok (.putfield 38, 3) := dk_181 0 38 (dk_at dksX5_faultPosition_0 14 rfl rfl)
theorem dX5_faultPosition_17 : decode cX5_faultPosition 17 = .ok (.aload_n 0, 1) := dk_42 (dk_at dksX5_faultPosition_0 17 rfl rfl)
theorem dX5_faultPosition_18 : decode cX5_faultPosition 18 = .ok (.getfield 25, 3) := dk_180 0 25 (dk_at dksX5_faultPosition_0 18 rfl rfl)
theorem dX5_faultPosition_21 : decode cX5_faultPosition 21 = .ok (.iconst (-1), 1) := dk_2 (dk_at dksX5_faultPosition_0 21 rfl rfl)
theorem dX5_faultPosition_22 : decode cX5_faultPosition 22 = .ok (.if_icmp .ne 7, 3) := dk_160 0 7 (dk_at dksX5_faultPosition_1 0 rfl rfl)
theorem dX5_faultPosition_25 : decode cX5_faultPosition 25 = .ok (.iconst 0, 1) := dk_3 (dk_at dksX5_faultPosition_1 3 rfl rfl)
theorem dX5_faultPosition_26 : decode cX5_faultPosition 26 = .ok (.goto 7, 3) := dk_167 0 7 (dk_at dksX5_faultPosition_1 4 rfl rfl)
theorem dX5_faultPosition_29 : decode cX5_faultPosition 29 = .ok (.aload_n 0, 1) := dk_42 (dk_at dksX5_faultPosition_1 7 rfl rfl)
theorem dX5_faultPosition_30 : decode cX5_faultPosition 30 = .ok (.getfield 25, 3) := dk_180 0 25 (dk_at dksX5_faultPosition_1 8 rfl rfl)
theorem dX5_faultPosition_33 : decode cX5_faultPosition 33 = .ok (.ireturn, 1) := dk_172 (dk_at dksX5_faultPosition_1 11 rfl rfl)
theorem q106 : (Jvm.Cond.initialized "CoinTaxesModel") ∈ lw_all := lw_g (lw_at lw_m1 16 rfl) rfl
theorem q975 : (Jvm.Cond.selects "CoinTaxesModel" ({ cls := "java/lang/Object", name := "getClass", desc := "()Ljava/lang/Class;" } : Jvm.MethodName) ({ cls := "java/lang/Object", name := "getClass", desc := "()Ljava/lang/Class;" } : Jvm.MethodName)) ∈ lw_all := lw_g (lw_at lw_m4 165 rfl) rfl
theorem q2549 : (Jvm.Cond.instantiable "CoinTaxesModel" (24 : Nat)) ∈ lw_all := lw_g (lw_at lw_m11 59 rfl) rfl
theorem q2551 : (Jvm.Cond.instanceMethod ({ cls := "CoinTaxesModel", name := "<init>", desc := "()V" } : Jvm.MethodName)) ∈ lw_all := lw_g (lw_at lw_m11 61 rfl) rfl
theorem q2552 : (Jvm.Cond.code ({ cls := "CoinTaxesModel", name := "<init>", desc := "()V" } : Jvm.MethodName) prog_12_method_1_code (2 : Nat) (Option.none : Option Jvm.ClassFile.FieldType)) ∈ lw_all := lw_g (lw_at lw_m11 62 rfl) rfl
theorem q2553 : (Jvm.Cond.methodLink "CoinTaxesModel" (3 : Nat) ({ cls := "java/lang/Object", name := "<init>", desc := "()V" } : Jvm.MethodName)) ∈ lw_all := lw_g (lw_at lw_m11 63 rfl) rfl
theorem q2554 : (Jvm.Cond.fieldLink "CoinTaxesModel" (9 : Nat) "CoinTaxesModel" "now" "[I") ∈ lw_all := lw_g (lw_at lw_m11 64 rfl) rfl
theorem q2555 : (Jvm.Cond.fieldLink "CoinTaxesModel" (13 : Nat) "CoinTaxesModel" "before" "[I") ∈ lw_all := lw_g (lw_at lw_m11 65 rfl) rfl
theorem q2556 : (Jvm.Cond.fieldLink "CoinTaxesModel" (16 : Nat) "CoinTaxesModel" "saved" "[I") ∈ lw_all := lw_g (lw_at lw_m11 66 rfl) rfl
theorem q2557 : (Jvm.Cond.fieldLink "CoinTaxesModel" (19 : Nat) "CoinTaxesModel" "history" "[I") ∈ lw_all := lw_g (lw_at lw_m11 67 rfl) rfl
theorem q2558 : (Jvm.Cond.fieldLink "CoinTaxesModel" (69 : Nat) "CoinTaxesModel" "isSaved" "Z") ∈ lw_all := lw_g (lw_at lw_m11 68 rfl) rfl
theorem q2559 : (Jvm.Cond.fieldLink "CoinTaxesModel" (51 : Nat) "CoinTaxesModel" "remembered" "I") ∈ lw_all := lw_g (lw_at lw_m11 69 rfl) rfl
theorem q2560 : (Jvm.Cond.fieldLink "CoinTaxesModel" (54 : Nat) "CoinTaxesModel" "reason" "I") ∈ lw_all := lw_g (lw_at lw_m11 70 rfl) rfl
theorem q2561 : (Jvm.Cond.fieldLink "CoinTaxesModel" (57 : Nat) "CoinTaxesModel" "detail" "I") ∈ lw_all := lw_g (lw_at lw_m11 71 rfl) rfl
theorem q2562 : (Jvm.Cond.fieldLink "CoinTaxesModel" (60 : Nat) "CoinTaxesModel" "causeReason" "I") ∈ lw_all := lw_g (lw_at lw_m11 72 rfl) rfl
theorem q2563 : (Jvm.Cond.fieldLink "CoinTaxesModel" (66 : Nat) "CoinTaxesModel" "causeDetail" "I") ∈ lw_all := lw_g (lw_at lw_m11 73 rfl) rfl
theorem q2564 : (Jvm.Cond.fieldLink "CoinTaxesModel" (22 : Nat) "CoinTaxesModel" "text" "[I") ∈ lw_all := lw_g (lw_at lw_m11 74 rfl) rfl
theorem q2565 : (Jvm.Cond.fieldLink "CoinTaxesModel" (211 : Nat) "CoinTaxesModel" "typed" "I") ∈ lw_all := lw_g (lw_at lw_m11 75 rfl) rfl
theorem q2566 : (Jvm.Cond.fieldLink "CoinTaxesModel" (25 : Nat) "CoinTaxesModel" "errorAt" "I") ∈ lw_all := lw_g (lw_at lw_m11 76 rfl) rfl
theorem q2567 : (Jvm.Cond.fieldLink "CoinTaxesModel" (29 : Nat) "CoinTaxesModel" "line" "[I") ∈ lw_all := lw_g (lw_at lw_m11 77 rfl) rfl
theorem q2568 : (Jvm.Cond.fieldLink "CoinTaxesModel" (220 : Nat) "CoinTaxesModel" "lined" "I") ∈ lw_all := lw_g (lw_at lw_m11 78 rfl) rfl
theorem q2569 : (Jvm.Cond.fieldLink "CoinTaxesModel" (38 : Nat) "CoinTaxesModel" "thrown" "I") ∈ lw_all := lw_g (lw_at lw_m11 79 rfl) rfl
theorem q2570 : (Jvm.Cond.fieldLink "CoinTaxesModel" (41 : Nat) "CoinTaxesModel" "why" "I") ∈ lw_all := lw_g (lw_at lw_m11 80 rfl) rfl
theorem q2571 : (Jvm.Cond.fieldLink "CoinTaxesModel" (44 : Nat) "CoinTaxesModel" "what" "I") ∈ lw_all := lw_g (lw_at lw_m11 81 rfl) rfl
theorem q2572 : (Jvm.Cond.fieldLink "CoinTaxesModel" (226 : Nat) "CoinTaxesModel" "size" "I") ∈ lw_all := lw_g (lw_at lw_m11 82 rfl) rfl
theorem q2573 : (Jvm.Cond.fieldLink "CoinTaxesModel" (223 : Nat) "CoinTaxesModel" "at" "I") ∈ lw_all := lw_g (lw_at lw_m11 83 rfl) rfl
theorem q2574 : (Jvm.Cond.fieldLink "CoinTaxesModel" (229 : Nat) "CoinTaxesModel" "wrong" "I") ∈ lw_all := lw_g (lw_at lw_m11 84 rfl) rfl
theorem q2575 : (Jvm.Cond.fieldLink "CoinTaxesModel" (252 : Nat) "CoinTaxesModel" "told" "I") ∈ lw_all := lw_g (lw_at lw_m11 85 rfl) rfl
theorem q2576 : (Jvm.Cond.fieldLink "CoinTaxesModel" (32 : Nat) "CoinTaxesModel" "kinds" "[I") ∈ lw_all := lw_g (lw_at lw_m11 86 rfl) rfl
theorem q2577 : (Jvm.Cond.fieldLink "CoinTaxesModel" (35 : Nat) "CoinTaxesModel" "numbers" "[I") ∈ lw_all := lw_g (lw_at lw_m11 87 rfl) rfl
theorem q2578 : (Jvm.Cond.laysFinal "CoinTaxesModel" "CoinTaxesModel" "now" "[I") ∈ lw_all := lw_g (lw_at lw_m11 88 rfl) rfl
theorem q2579 : (Jvm.Cond.soleField "CoinTaxesModel" "now") ∈ lw_all := lw_g (lw_at lw_m11 89 rfl) rfl
theorem q2580 : (Jvm.Cond.laysFinal "CoinTaxesModel" "CoinTaxesModel" "before" "[I") ∈ lw_all := lw_g (lw_at lw_m11 90 rfl) rfl
theorem q2581 : (Jvm.Cond.soleField "CoinTaxesModel" "before") ∈ lw_all := lw_g (lw_at lw_m11 91 rfl) rfl
theorem q2582 : (Jvm.Cond.laysFinal "CoinTaxesModel" "CoinTaxesModel" "saved" "[I") ∈ lw_all := lw_g (lw_at lw_m11 92 rfl) rfl
theorem q2583 : (Jvm.Cond.soleField "CoinTaxesModel" "saved") ∈ lw_all := lw_g (lw_at lw_m11 93 rfl) rfl
theorem q2584 : (Jvm.Cond.laysFinal "CoinTaxesModel" "CoinTaxesModel" "history" "[I") ∈ lw_all := lw_g (lw_at lw_m11 94 rfl) rfl
theorem q2585 : (Jvm.Cond.soleField "CoinTaxesModel" "history") ∈ lw_all := lw_g (lw_at lw_m11 95 rfl) rfl
theorem q2586 : (Jvm.Cond.lays "CoinTaxesModel" "CoinTaxesModel" "isSaved" "Z") ∈ lw_all := lw_g (lw_at lw_m11 96 rfl) rfl
theorem q2587 : (Jvm.Cond.soleField "CoinTaxesModel" "isSaved") ∈ lw_all := lw_g (lw_at lw_m11 97 rfl) rfl
theorem q2588 : (Jvm.Cond.lays "CoinTaxesModel" "CoinTaxesModel" "remembered" "I") ∈ lw_all := lw_g (lw_at lw_m11 98 rfl) rfl
theorem q2589 : (Jvm.Cond.soleField "CoinTaxesModel" "remembered") ∈ lw_all := lw_g (lw_at lw_m11 99 rfl) rfl
theorem q2590 : (Jvm.Cond.lays "CoinTaxesModel" "CoinTaxesModel" "reason" "I") ∈ lw_all := lw_g (lw_at lw_m11 100 rfl) rfl
theorem q2591 : (Jvm.Cond.soleField "CoinTaxesModel" "reason") ∈ lw_all := lw_g (lw_at lw_m11 101 rfl) rfl
theorem q2592 : (Jvm.Cond.lays "CoinTaxesModel" "CoinTaxesModel" "detail" "I") ∈ lw_all := lw_g (lw_at lw_m11 102 rfl) rfl
theorem q2593 : (Jvm.Cond.soleField "CoinTaxesModel" "detail") ∈ lw_all := lw_g (lw_at lw_m11 103 rfl) rfl
theorem q2594 : (Jvm.Cond.lays "CoinTaxesModel" "CoinTaxesModel" "causeReason" "I") ∈ lw_all := lw_g (lw_at lw_m11 104 rfl) rfl
theorem q2595 : (Jvm.Cond.soleField "CoinTaxesModel" "causeReason") ∈ lw_all := lw_g (lw_at lw_m11 105 rfl) rfl
theorem q2596 : (Jvm.Cond.lays "CoinTaxesModel" "CoinTaxesModel" "causeDetail" "I") ∈ lw_all := lw_g (lw_at lw_m11 106 rfl) rfl
theorem q2597 : (Jvm.Cond.soleField "CoinTaxesModel" "causeDetail") ∈ lw_all := lw_g (lw_at lw_m11 107 rfl) rfl
theorem q2598 : (Jvm.Cond.laysFinal "CoinTaxesModel" "CoinTaxesModel" "text" "[I") ∈ lw_all := lw_g (lw_at lw_m11 108 rfl) rfl
theorem q2599 : (Jvm.Cond.soleField "CoinTaxesModel" "text") ∈ lw_all := lw_g (lw_at lw_m11 109 rfl) rfl
theorem q2600 : (Jvm.Cond.lays "CoinTaxesModel" "CoinTaxesModel" "typed" "I") ∈ lw_all := lw_g (lw_at lw_m11 110 rfl) rfl
theorem q2601 : (Jvm.Cond.soleField "CoinTaxesModel" "typed") ∈ lw_all := lw_g (lw_at lw_m11 111 rfl) rfl
theorem q2602 : (Jvm.Cond.lays "CoinTaxesModel" "CoinTaxesModel" "errorAt" "I") ∈ lw_all := lw_g (lw_at lw_m11 112 rfl) rfl
theorem q2603 : (Jvm.Cond.soleField "CoinTaxesModel" "errorAt") ∈ lw_all := lw_g (lw_at lw_m11 113 rfl) rfl
theorem q2604 : (Jvm.Cond.laysFinal "CoinTaxesModel" "CoinTaxesModel" "line" "[I") ∈ lw_all := lw_g (lw_at lw_m11 114 rfl) rfl
theorem q2605 : (Jvm.Cond.soleField "CoinTaxesModel" "line") ∈ lw_all := lw_g (lw_at lw_m11 115 rfl) rfl
theorem q2606 : (Jvm.Cond.lays "CoinTaxesModel" "CoinTaxesModel" "lined" "I") ∈ lw_all := lw_g (lw_at lw_m11 116 rfl) rfl
theorem q2607 : (Jvm.Cond.soleField "CoinTaxesModel" "lined") ∈ lw_all := lw_g (lw_at lw_m11 117 rfl) rfl
theorem q2608 : (Jvm.Cond.lays "CoinTaxesModel" "CoinTaxesModel" "thrown" "I") ∈ lw_all := lw_g (lw_at lw_m11 118 rfl) rfl
theorem q2609 : (Jvm.Cond.soleField "CoinTaxesModel" "thrown") ∈ lw_all := lw_g (lw_at lw_m11 119 rfl) rfl
theorem q2610 : (Jvm.Cond.lays "CoinTaxesModel" "CoinTaxesModel" "why" "I") ∈ lw_all := lw_g (lw_at lw_m11 120 rfl) rfl
theorem q2611 : (Jvm.Cond.soleField "CoinTaxesModel" "why") ∈ lw_all := lw_g (lw_at lw_m11 121 rfl) rfl
theorem q2612 : (Jvm.Cond.lays "CoinTaxesModel" "CoinTaxesModel" "what" "I") ∈ lw_all := lw_g (lw_at lw_m11 122 rfl) rfl
theorem q2613 : (Jvm.Cond.soleField "CoinTaxesModel" "what") ∈ lw_all := lw_g (lw_at lw_m11 123 rfl) rfl
theorem q2614 : (Jvm.Cond.lays "CoinTaxesModel" "CoinTaxesModel" "size" "I") ∈ lw_all := lw_g (lw_at lw_m11 124 rfl) rfl
theorem q2615 : (Jvm.Cond.soleField "CoinTaxesModel" "size") ∈ lw_all := lw_g (lw_at lw_m11 125 rfl) rfl
theorem q2616 : (Jvm.Cond.lays "CoinTaxesModel" "CoinTaxesModel" "at" "I") ∈ lw_all := lw_g (lw_at lw_m11 126 rfl) rfl
theorem q2617 : (Jvm.Cond.soleField "CoinTaxesModel" "at") ∈ lw_all := lw_g (lw_at lw_m11 127 rfl) rfl
theorem q2618 : (Jvm.Cond.lays "CoinTaxesModel" "CoinTaxesModel" "wrong" "I") ∈ lw_all := lw_g (lw_at lw_m11 128 rfl) rfl
theorem q2619 : (Jvm.Cond.soleField "CoinTaxesModel" "wrong") ∈ lw_all := lw_g (lw_at lw_m11 129 rfl) rfl
theorem q2620 : (Jvm.Cond.lays "CoinTaxesModel" "CoinTaxesModel" "told" "I") ∈ lw_all := lw_g (lw_at lw_m11 130 rfl) rfl
theorem q2621 : (Jvm.Cond.soleField "CoinTaxesModel" "told") ∈ lw_all := lw_g (lw_at lw_m11 131 rfl) rfl
theorem q2622 : (Jvm.Cond.laysFinal "CoinTaxesModel" "CoinTaxesModel" "kinds" "[I") ∈ lw_all := lw_g (lw_at lw_m11 132 rfl) rfl
theorem q2623 : (Jvm.Cond.soleField "CoinTaxesModel" "kinds") ∈ lw_all := lw_g (lw_at lw_m11 133 rfl) rfl
theorem q2624 : (Jvm.Cond.laysFinal "CoinTaxesModel" "CoinTaxesModel" "numbers" "[I") ∈ lw_all := lw_g (lw_at lw_m11 134 rfl) rfl
theorem q2625 : (Jvm.Cond.soleField "CoinTaxesModel" "numbers") ∈ lw_all := lw_g (lw_at lw_m11 135 rfl) rfl
theorem q2626 : (Jvm.Cond.superclass "CoinTaxesModel" "java/lang/Object") ∈ lw_all := lw_g (lw_at lw_m11 136 rfl) rfl
theorem q2628 : (Jvm.Cond.instanceMethod ({ cls := "CoinTaxesModel", name := "thrown", desc := "()I" } : Jvm.MethodName)) ∈ lw_all := lw_g (lw_at lw_m11 138 rfl) rfl
theorem q2629 : (Jvm.Cond.selects "CoinTaxesModel" ({ cls := "CoinTaxesModel", name := "thrown", desc := "()I" } : Jvm.MethodName) ({ cls := "CoinTaxesModel", name := "thrown", desc := "()I" } : Jvm.MethodName)) ∈ lw_all := lw_g (lw_at lw_m11 139 rfl) rfl
theorem q2630 : (Jvm.Cond.code ({ cls := "CoinTaxesModel", name := "thrown", desc := "()I" } : Jvm.MethodName) prog_12_method_2_code (1 : Nat) (Option.some Jvm.ClassFile.FieldType.int)) ∈ lw_all := lw_g (lw_at lw_m11 140 rfl) rfl
theorem q2632 : (Jvm.Cond.instanceMethod ({ cls := "CoinTaxesModel", name := "reason", desc := "(ZZ)I" } : Jvm.MethodName)) ∈ lw_all := lw_g (lw_at lw_m11 142 rfl) rfl
theorem q2633 : (Jvm.Cond.selects "CoinTaxesModel" ({ cls := "CoinTaxesModel", name := "reason", desc := "(ZZ)I" } : Jvm.MethodName) ({ cls := "CoinTaxesModel", name := "reason", desc := "(ZZ)I" } : Jvm.MethodName)) ∈ lw_all := lw_g (lw_at lw_m11 143 rfl) rfl
theorem q2634 : (Jvm.Cond.code ({ cls := "CoinTaxesModel", name := "reason", desc := "(ZZ)I" } : Jvm.MethodName) prog_12_method_9_code (4 : Nat) (Option.some Jvm.ClassFile.FieldType.int)) ∈ lw_all := lw_g (lw_at lw_m11 144 rfl) rfl
theorem q2636 : (Jvm.Cond.instanceMethod ({ cls := "CoinTaxesModel", name := "undo", desc := "()I" } : Jvm.MethodName)) ∈ lw_all := lw_g (lw_at lw_m11 146 rfl) rfl
theorem q2637 : (Jvm.Cond.selects "CoinTaxesModel" ({ cls := "CoinTaxesModel", name := "undo", desc := "()I" } : Jvm.MethodName) ({ cls := "CoinTaxesModel", name := "undo", desc := "()I" } : Jvm.MethodName)) ∈ lw_all := lw_g (lw_at lw_m11 147 rfl) rfl
theorem q2638 : (Jvm.Cond.code ({ cls := "CoinTaxesModel", name := "undo", desc := "()I" } : Jvm.MethodName) prog_12_method_10_code (1 : Nat) (Option.some Jvm.ClassFile.FieldType.int)) ∈ lw_all := lw_g (lw_at lw_m11 148 rfl) rfl
theorem q2639 : (Jvm.Cond.methodLink "CoinTaxesModel" (47 : Nat) ({ cls := "CoinTaxesModel", name := "copies", desc := "([II[II)V" } : Jvm.MethodName)) ∈ lw_all := lw_g (lw_at lw_m11 149 rfl) rfl
theorem q2640 : (Jvm.Cond.static ({ cls := "CoinTaxesModel", name := "copies", desc := "([II[II)V" } : Jvm.MethodName)) ∈ lw_all := lw_g (lw_at lw_m11 150 rfl) rfl
theorem q2641 : (Jvm.Cond.code ({ cls := "CoinTaxesModel", name := "copies", desc := "([II[II)V" } : Jvm.MethodName) prog_12_method_4_code (5 : Nat) (Option.none : Option Jvm.ClassFile.FieldType)) ∈ lw_all := lw_g (lw_at lw_m11 151 rfl) rfl
theorem q2643 : (Jvm.Cond.instanceMethod ({ cls := "CoinTaxesModel", name := "save", desc := "()I" } : Jvm.MethodName)) ∈ lw_all := lw_g (lw_at lw_m11 153 rfl) rfl
theorem q2644 : (Jvm.Cond.selects "CoinTaxesModel" ({ cls := "CoinTaxesModel", name := "save", desc := "()I" } : Jvm.MethodName) ({ cls := "CoinTaxesModel", name := "save", desc := "()I" } : Jvm.MethodName)) ∈ lw_all := lw_g (lw_at lw_m11 154 rfl) rfl
theorem q2645 : (Jvm.Cond.code ({ cls := "CoinTaxesModel", name := "save", desc := "()I" } : Jvm.MethodName) prog_12_method_11_code (1 : Nat) (Option.some Jvm.ClassFile.FieldType.int)) ∈ lw_all := lw_g (lw_at lw_m11 155 rfl) rfl
theorem q2647 : (Jvm.Cond.instanceMethod ({ cls := "CoinTaxesModel", name := "restore", desc := "()I" } : Jvm.MethodName)) ∈ lw_all := lw_g (lw_at lw_m11 157 rfl) rfl
theorem q2648 : (Jvm.Cond.selects "CoinTaxesModel" ({ cls := "CoinTaxesModel", name := "restore", desc := "()I" } : Jvm.MethodName) ({ cls := "CoinTaxesModel", name := "restore", desc := "()I" } : Jvm.MethodName)) ∈ lw_all := lw_g (lw_at lw_m11 158 rfl) rfl
theorem q2649 : (Jvm.Cond.code ({ cls := "CoinTaxesModel", name := "restore", desc := "()I" } : Jvm.MethodName) prog_12_method_12_code (1 : Nat) (Option.some Jvm.ClassFile.FieldType.int)) ∈ lw_all := lw_g (lw_at lw_m11 159 rfl) rfl
theorem q2651 : (Jvm.Cond.instanceMethod ({ cls := "CoinTaxesModel", name := "bracket", desc := "(II)I" } : Jvm.MethodName)) ∈ lw_all := lw_g (lw_at lw_m11 161 rfl) rfl
theorem q2652 : (Jvm.Cond.selects "CoinTaxesModel" ({ cls := "CoinTaxesModel", name := "bracket", desc := "(II)I" } : Jvm.MethodName) ({ cls := "CoinTaxesModel", name := "bracket", desc := "(II)I" } : Jvm.MethodName)) ∈ lw_all := lw_g (lw_at lw_m11 162 rfl) rfl
theorem q2653 : (Jvm.Cond.code ({ cls := "CoinTaxesModel", name := "bracket", desc := "(II)I" } : Jvm.MethodName) prog_12_method_20_code (3 : Nat) (Option.some Jvm.ClassFile.FieldType.int)) ∈ lw_all := lw_g (lw_at lw_m11 163 rfl) rfl
theorem q2654 : (Jvm.Cond.methodLink "CoinTaxesModel" (89 : Nat) ({ cls := "CoinTaxesModel", name := "begins", desc := "()V" } : Jvm.MethodName)) ∈ lw_all := lw_g (lw_at lw_m11 164 rfl) rfl
theorem q2655 : (Jvm.Cond.privateMethod ({ cls := "CoinTaxesModel", name := "begins", desc := "()V" } : Jvm.MethodName)) ∈ lw_tbl := lw_at lw_m11 165 rfl
theorem q2656 : (Jvm.Cond.instanceMethod ({ cls := "CoinTaxesModel", name := "begins", desc := "()V" } : Jvm.MethodName)) ∈ lw_all := lw_g (lw_at lw_m11 166 rfl) rfl
theorem q2657 : (Jvm.Cond.code ({ cls := "CoinTaxesModel", name := "begins", desc := "()V" } : Jvm.MethodName) prog_12_method_6_code (1 : Nat) (Option.none : Option Jvm.ClassFile.FieldType)) ∈ lw_all := lw_g (lw_at lw_m11 167 rfl) rfl
theorem q2658 : (Jvm.Cond.methodLink "CoinTaxesModel" (92 : Nat) ({ cls := "CoinTaxesModel", name := "tells", desc := "(II)I" } : Jvm.MethodName)) ∈ lw_all := lw_g (lw_at lw_m11 168 rfl) rfl
theorem q2659 : (Jvm.Cond.privateMethod ({ cls := "CoinTaxesModel", name := "tells", desc := "(II)I" } : Jvm.MethodName)) ∈ lw_tbl := lw_at lw_m11 169 rfl
theorem q2660 : (Jvm.Cond.instanceMethod ({ cls := "CoinTaxesModel", name := "tells", desc := "(II)I" } : Jvm.MethodName)) ∈ lw_all := lw_g (lw_at lw_m11 170 rfl) rfl
theorem q2661 : (Jvm.Cond.code ({ cls := "CoinTaxesModel", name := "tells", desc := "(II)I" } : Jvm.MethodName) prog_12_method_19_code (5 : Nat) (Option.some Jvm.ClassFile.FieldType.int)) ∈ lw_all := lw_g (lw_at lw_m11 171 rfl) rfl
theorem q2662 : (Jvm.Cond.methodLink "CoinTaxesModel" (81 : Nat) ({ cls := "CoinTaxesModel", name := "hindersRange", desc := "(III)V" } : Jvm.MethodName)) ∈ lw_all := lw_g (lw_at lw_m11 172 rfl) rfl
theorem q2663 : (Jvm.Cond.privateMethod ({ cls := "CoinTaxesModel", name := "hindersRange", desc := "(III)V" } : Jvm.MethodName)) ∈ lw_tbl := lw_at lw_m11 173 rfl
theorem q2664 : (Jvm.Cond.instanceMethod ({ cls := "CoinTaxesModel", name := "hindersRange", desc := "(III)V" } : Jvm.MethodName)) ∈ lw_all := lw_g (lw_at lw_m11 174 rfl) rfl
theorem q2665 : (Jvm.Cond.code ({ cls := "CoinTaxesModel", name := "hindersRange", desc := "(III)V" } : Jvm.MethodName) prog_12_method_18_code (4 : Nat) (Option.none : Option Jvm.ClassFile.FieldType)) ∈ lw_all := lw_g (lw_at lw_m11 175 rfl) rfl
theorem q2666 : (Jvm.Cond.methodLink "CoinTaxesModel" (73 : Nat) ({ cls := "CoinTaxesModel", name := "isIn", desc := "(III)Z" } : Jvm.MethodName)) ∈ lw_all := lw_g (lw_at lw_m11 176 rfl) rfl
theorem q2667 : (Jvm.Cond.static ({ cls := "CoinTaxesModel", name := "isIn", desc := "(III)Z" } : Jvm.MethodName)) ∈ lw_all := lw_g (lw_at lw_m11 177 rfl) rfl
theorem q2668 : (Jvm.Cond.code ({ cls := "CoinTaxesModel", name := "isIn", desc := "(III)Z" } : Jvm.MethodName) prog_12_method_3_code (3 : Nat) (Option.some Jvm.ClassFile.FieldType.boolean)) ∈ lw_all := lw_g (lw_at lw_m11 178 rfl) rfl
theorem q2669 : (Jvm.Cond.methodLink "CoinTaxesModel" (77 : Nat) ({ cls := "CoinTaxesModel", name := "hinders", desc := "(ZII)V" } : Jvm.MethodName)) ∈ lw_all := lw_g (lw_at lw_m11 179 rfl) rfl
theorem q2670 : (Jvm.Cond.privateMethod ({ cls := "CoinTaxesModel", name := "hinders", desc := "(ZII)V" } : Jvm.MethodName)) ∈ lw_tbl := lw_at lw_m11 180 rfl
theorem q2671 : (Jvm.Cond.instanceMethod ({ cls := "CoinTaxesModel", name := "hinders", desc := "(ZII)V" } : Jvm.MethodName)) ∈ lw_all := lw_g (lw_at lw_m11 181 rfl) rfl
theorem q2672 : (Jvm.Cond.code ({ cls := "CoinTaxesModel", name := "hinders", desc := "(ZII)V" } : Jvm.MethodName) prog_12_method_5_code (4 : Nat) (Option.none : Option Jvm.ClassFile.FieldType)) ∈ lw_all := lw_g (lw_at lw_m11 182 rfl) rfl
theorem q2673 : (Jvm.Cond.methodLink "CoinTaxesModel" (85 : Nat) ({ cls := "CoinTaxesModel", name := "edge", desc := "(I)I" } : Jvm.MethodName)) ∈ lw_all := lw_g (lw_at lw_m11 183 rfl) rfl
theorem q2674 : (Jvm.Cond.privateMethod ({ cls := "CoinTaxesModel", name := "edge", desc := "(I)I" } : Jvm.MethodName)) ∈ lw_tbl := lw_at lw_m11 184 rfl
theorem q2675 : (Jvm.Cond.instanceMethod ({ cls := "CoinTaxesModel", name := "edge", desc := "(I)I" } : Jvm.MethodName)) ∈ lw_all := lw_g (lw_at lw_m11 185 rfl) rfl
theorem q2676 : (Jvm.Cond.code ({ cls := "CoinTaxesModel", name := "edge", desc := "(I)I" } : Jvm.MethodName) prog_12_method_16_code (2 : Nat) (Option.some Jvm.ClassFile.FieldType.int)) ∈ lw_all := lw_g (lw_at lw_m11 186 rfl) rfl
theorem q2677 : (Jvm.Cond.methodLink "CoinTaxesModel" (96 : Nat) ({ cls := "CoinTaxesModel", name := "ends", desc := "(I)I" } : Jvm.MethodName)) ∈ lw_all := lw_g (lw_at lw_m11 187 rfl) rfl
theorem q2678 : (Jvm.Cond.privateMethod ({ cls := "CoinTaxesModel", name := "ends", desc := "(I)I" } : Jvm.MethodName)) ∈ lw_tbl := lw_at lw_m11 188 rfl
theorem q2679 : (Jvm.Cond.instanceMethod ({ cls := "CoinTaxesModel", name := "ends", desc := "(I)I" } : Jvm.MethodName)) ∈ lw_all := lw_g (lw_at lw_m11 189 rfl) rfl
theorem q2680 : (Jvm.Cond.code ({ cls := "CoinTaxesModel", name := "ends", desc := "(I)I" } : Jvm.MethodName) prog_12_method_8_code (2 : Nat) (Option.some Jvm.ClassFile.FieldType.int)) ∈ lw_all := lw_g (lw_at lw_m11 190 rfl) rfl
theorem q2681 : (Jvm.Cond.methodLink "CoinTaxesModel" (63 : Nat) ({ cls := "CoinTaxesModel", name := "remembers", desc := "()V" } : Jvm.MethodName)) ∈ lw_all := lw_g (lw_at lw_m11 191 rfl) rfl
theorem q2682 : (Jvm.Cond.privateMethod ({ cls := "CoinTaxesModel", name := "remembers", desc := "()V" } : Jvm.MethodName)) ∈ lw_tbl := lw_at lw_m11 192 rfl
theorem q2683 : (Jvm.Cond.instanceMethod ({ cls := "CoinTaxesModel", name := "remembers", desc := "()V" } : Jvm.MethodName)) ∈ lw_all := lw_g (lw_at lw_m11 193 rfl) rfl
theorem q2684 : (Jvm.Cond.code ({ cls := "CoinTaxesModel", name := "remembers", desc := "()V" } : Jvm.MethodName) prog_12_method_7_code (2 : Nat) (Option.none : Option Jvm.ClassFile.FieldType)) ∈ lw_all := lw_g (lw_at lw_m11 194 rfl) rfl
theorem q2686 : (Jvm.Cond.instanceMethod ({ cls := "CoinTaxesModel", name := "drop", desc := "(I)I" } : Jvm.MethodName)) ∈ lw_all := lw_g (lw_at lw_m11 196 rfl) rfl
theorem q2687 : (Jvm.Cond.selects "CoinTaxesModel" ({ cls := "CoinTaxesModel", name := "drop", desc := "(I)I" } : Jvm.MethodName) ({ cls := "CoinTaxesModel", name := "drop", desc := "(I)I" } : Jvm.MethodName)) ∈ lw_all := lw_g (lw_at lw_m11 197 rfl) rfl
theorem q2688 : (Jvm.Cond.code ({ cls := "CoinTaxesModel", name := "drop", desc := "(I)I" } : Jvm.MethodName) prog_12_method_22_code (2 : Nat) (Option.some Jvm.ClassFile.FieldType.int)) ∈ lw_all := lw_g (lw_at lw_m11 198 rfl) rfl
theorem q2689 : (Jvm.Cond.methodLink "CoinTaxesModel" (106 : Nat) ({ cls := "CoinTaxesModel", name := "drops", desc := "(I)I" } : Jvm.MethodName)) ∈ lw_all := lw_g (lw_at lw_m11 199 rfl) rfl
theorem q2690 : (Jvm.Cond.privateMethod ({ cls := "CoinTaxesModel", name := "drops", desc := "(I)I" } : Jvm.MethodName)) ∈ lw_tbl := lw_at lw_m11 200 rfl
theorem q2691 : (Jvm.Cond.instanceMethod ({ cls := "CoinTaxesModel", name := "drops", desc := "(I)I" } : Jvm.MethodName)) ∈ lw_all := lw_g (lw_at lw_m11 201 rfl) rfl
theorem q2692 : (Jvm.Cond.code ({ cls := "CoinTaxesModel", name := "drops", desc := "(I)I" } : Jvm.MethodName) prog_12_method_21_code (4 : Nat) (Option.some Jvm.ClassFile.FieldType.int)) ∈ lw_all := lw_g (lw_at lw_m11 202 rfl) rfl
theorem q2693 : (Jvm.Cond.methodLink "CoinTaxesModel" (99 : Nat) ({ cls := "CoinTaxesModel", name := "isBracket", desc := "(I)Z" } : Jvm.MethodName)) ∈ lw_all := lw_g (lw_at lw_m11 203 rfl) rfl
theorem q2694 : (Jvm.Cond.privateMethod ({ cls := "CoinTaxesModel", name := "isBracket", desc := "(I)Z" } : Jvm.MethodName)) ∈ lw_tbl := lw_at lw_m11 204 rfl
theorem q2695 : (Jvm.Cond.instanceMethod ({ cls := "CoinTaxesModel", name := "isBracket", desc := "(I)Z" } : Jvm.MethodName)) ∈ lw_all := lw_g (lw_at lw_m11 205 rfl) rfl
theorem q2696 : (Jvm.Cond.code ({ cls := "CoinTaxesModel", name := "isBracket", desc := "(I)Z" } : Jvm.MethodName) prog_12_method_13_code (2 : Nat) (Option.some Jvm.ClassFile.FieldType.boolean)) ∈ lw_all := lw_g (lw_at lw_m11 206 rfl) rfl
theorem q2697 : (Jvm.Cond.methodLink "CoinTaxesModel" (103 : Nat) ({ cls := "CoinTaxesModel", name := "rateOf", desc := "(I)I" } : Jvm.MethodName)) ∈ lw_all := lw_g (lw_at lw_m11 207 rfl) rfl
theorem q2698 : (Jvm.Cond.privateMethod ({ cls := "CoinTaxesModel", name := "rateOf", desc := "(I)I" } : Jvm.MethodName)) ∈ lw_tbl := lw_at lw_m11 208 rfl
theorem q2699 : (Jvm.Cond.instanceMethod ({ cls := "CoinTaxesModel", name := "rateOf", desc := "(I)I" } : Jvm.MethodName)) ∈ lw_all := lw_g (lw_at lw_m11 209 rfl) rfl
theorem q2700 : (Jvm.Cond.code ({ cls := "CoinTaxesModel", name := "rateOf", desc := "(I)I" } : Jvm.MethodName) prog_12_method_17_code (2 : Nat) (Option.some Jvm.ClassFile.FieldType.int)) ∈ lw_all := lw_g (lw_at lw_m11 210 rfl) rfl
theorem q2702 : (Jvm.Cond.instanceMethod ({ cls := "CoinTaxesModel", name := "rate", desc := "(II)I" } : Jvm.MethodName)) ∈ lw_all := lw_g (lw_at lw_m11 212 rfl) rfl
theorem q2703 : (Jvm.Cond.selects "CoinTaxesModel" ({ cls := "CoinTaxesModel", name := "rate", desc := "(II)I" } : Jvm.MethodName) ({ cls := "CoinTaxesModel", name := "rate", desc := "(II)I" } : Jvm.MethodName)) ∈ lw_all := lw_g (lw_at lw_m11 213 rfl) rfl
theorem q2704 : (Jvm.Cond.code ({ cls := "CoinTaxesModel", name := "rate", desc := "(II)I" } : Jvm.MethodName) prog_12_method_24_code (3 : Nat) (Option.some Jvm.ClassFile.FieldType.int)) ∈ lw_all := lw_g (lw_at lw_m11 214 rfl) rfl
theorem q2705 : (Jvm.Cond.methodLink "CoinTaxesModel" (109 : Nat) ({ cls := "CoinTaxesModel", name := "rates", desc := "(II)I" } : Jvm.MethodName)) ∈ lw_all := lw_g (lw_at lw_m11 215 rfl) rfl
theorem q2706 : (Jvm.Cond.privateMethod ({ cls := "CoinTaxesModel", name := "rates", desc := "(II)I" } : Jvm.MethodName)) ∈ lw_tbl := lw_at lw_m11 216 rfl
theorem q2707 : (Jvm.Cond.instanceMethod ({ cls := "CoinTaxesModel", name := "rates", desc := "(II)I" } : Jvm.MethodName)) ∈ lw_all := lw_g (lw_at lw_m11 217 rfl) rfl
theorem q2708 : (Jvm.Cond.code ({ cls := "CoinTaxesModel", name := "rates", desc := "(II)I" } : Jvm.MethodName) prog_12_method_23_code (4 : Nat) (Option.some Jvm.ClassFile.FieldType.int)) ∈ lw_all := lw_g (lw_at lw_m11 218 rfl) rfl
theorem q2710 : (Jvm.Cond.instanceMethod ({ cls := "CoinTaxesModel", name := "credit", desc := "(III)I" } : Jvm.MethodName)) ∈ lw_all := lw_g (lw_at lw_m11 220 rfl) rfl
theorem q2711 : (Jvm.Cond.selects "CoinTaxesModel" ({ cls := "CoinTaxesModel", name := "credit", desc := "(III)I" } : Jvm.MethodName) ({ cls := "CoinTaxesModel", name := "credit", desc := "(III)I" } : Jvm.MethodName)) ∈ lw_all := lw_g (lw_at lw_m11 221 rfl) rfl
theorem q2712 : (Jvm.Cond.code ({ cls := "CoinTaxesModel", name := "credit", desc := "(III)I" } : Jvm.MethodName) prog_12_method_25_code (5 : Nat) (Option.some Jvm.ClassFile.FieldType.int)) ∈ lw_all := lw_g (lw_at lw_m11 222 rfl) rfl
theorem q2714 : (Jvm.Cond.instanceMethod ({ cls := "CoinTaxesModel", name := "cap", desc := "(II)I" } : Jvm.MethodName)) ∈ lw_all := lw_g (lw_at lw_m11 224 rfl) rfl
theorem q2715 : (Jvm.Cond.selects "CoinTaxesModel" ({ cls := "CoinTaxesModel", name := "cap", desc := "(II)I" } : Jvm.MethodName) ({ cls := "CoinTaxesModel", name := "cap", desc := "(II)I" } : Jvm.MethodName)) ∈ lw_all := lw_g (lw_at lw_m11 225 rfl) rfl
theorem q2716 : (Jvm.Cond.code ({ cls := "CoinTaxesModel", name := "cap", desc := "(II)I" } : Jvm.MethodName) prog_12_method_27_code (3 : Nat) (Option.some Jvm.ClassFile.FieldType.int)) ∈ lw_all := lw_g (lw_at lw_m11 226 rfl) rfl
theorem q2717 : (Jvm.Cond.methodLink "CoinTaxesModel" (115 : Nat) ({ cls := "CoinTaxesModel", name := "caps", desc := "(II)I" } : Jvm.MethodName)) ∈ lw_all := lw_g (lw_at lw_m11 227 rfl) rfl
theorem q2718 : (Jvm.Cond.privateMethod ({ cls := "CoinTaxesModel", name := "caps", desc := "(II)I" } : Jvm.MethodName)) ∈ lw_tbl := lw_at lw_m11 228 rfl
theorem q2719 : (Jvm.Cond.instanceMethod ({ cls := "CoinTaxesModel", name := "caps", desc := "(II)I" } : Jvm.MethodName)) ∈ lw_all := lw_g (lw_at lw_m11 229 rfl) rfl
theorem q2720 : (Jvm.Cond.code ({ cls := "CoinTaxesModel", name := "caps", desc := "(II)I" } : Jvm.MethodName) prog_12_method_26_code (4 : Nat) (Option.some Jvm.ClassFile.FieldType.int)) ∈ lw_all := lw_g (lw_at lw_m11 230 rfl) rfl
theorem q2721 : (Jvm.Cond.methodLink "CoinTaxesModel" (112 : Nat) ({ cls := "CoinTaxesModel", name := "isKind", desc := "(I)Z" } : Jvm.MethodName)) ∈ lw_all := lw_g (lw_at lw_m11 231 rfl) rfl
theorem q2722 : (Jvm.Cond.static ({ cls := "CoinTaxesModel", name := "isKind", desc := "(I)Z" } : Jvm.MethodName)) ∈ lw_all := lw_g (lw_at lw_m11 232 rfl) rfl
theorem q2723 : (Jvm.Cond.code ({ cls := "CoinTaxesModel", name := "isKind", desc := "(I)Z" } : Jvm.MethodName) prog_12_method_14_code (1 : Nat) (Option.some Jvm.ClassFile.FieldType.boolean)) ∈ lw_all := lw_g (lw_at lw_m11 233 rfl) rfl
theorem q2725 : (Jvm.Cond.instanceMethod ({ cls := "CoinTaxesModel", name := "citizen", desc := "()I" } : Jvm.MethodName)) ∈ lw_all := lw_g (lw_at lw_m11 235 rfl) rfl
theorem q2726 : (Jvm.Cond.selects "CoinTaxesModel" ({ cls := "CoinTaxesModel", name := "citizen", desc := "()I" } : Jvm.MethodName) ({ cls := "CoinTaxesModel", name := "citizen", desc := "()I" } : Jvm.MethodName)) ∈ lw_all := lw_g (lw_at lw_m11 236 rfl) rfl
theorem q2727 : (Jvm.Cond.code ({ cls := "CoinTaxesModel", name := "citizen", desc := "()I" } : Jvm.MethodName) prog_12_method_33_code (1 : Nat) (Option.some Jvm.ClassFile.FieldType.int)) ∈ lw_all := lw_g (lw_at lw_m11 237 rfl) rfl
theorem q2729 : (Jvm.Cond.instanceMethod ({ cls := "CoinTaxesModel", name := "earn", desc := "(II)I" } : Jvm.MethodName)) ∈ lw_all := lw_g (lw_at lw_m11 239 rfl) rfl
theorem q2730 : (Jvm.Cond.selects "CoinTaxesModel" ({ cls := "CoinTaxesModel", name := "earn", desc := "(II)I" } : Jvm.MethodName) ({ cls := "CoinTaxesModel", name := "earn", desc := "(II)I" } : Jvm.MethodName)) ∈ lw_all := lw_g (lw_at lw_m12 0 rfl) rfl
theorem q2731 : (Jvm.Cond.code ({ cls := "CoinTaxesModel", name := "earn", desc := "(II)I" } : Jvm.MethodName) prog_12_method_35_code (3 : Nat) (Option.some Jvm.ClassFile.FieldType.int)) ∈ lw_all := lw_g (lw_at lw_m12 1 rfl) rfl
theorem q2732 : (Jvm.Cond.methodLink "CoinTaxesModel" (130 : Nat) ({ cls := "CoinTaxesModel", name := "earns", desc := "(II)I" } : Jvm.MethodName)) ∈ lw_all := lw_g (lw_at lw_m12 2 rfl) rfl
theorem q2733 : (Jvm.Cond.privateMethod ({ cls := "CoinTaxesModel", name := "earns", desc := "(II)I" } : Jvm.MethodName)) ∈ lw_tbl := lw_at lw_m12 3 rfl
theorem q2734 : (Jvm.Cond.instanceMethod ({ cls := "CoinTaxesModel", name := "earns", desc := "(II)I" } : Jvm.MethodName)) ∈ lw_all := lw_g (lw_at lw_m12 4 rfl) rfl
theorem q2735 : (Jvm.Cond.code ({ cls := "CoinTaxesModel", name := "earns", desc := "(II)I" } : Jvm.MethodName) prog_12_method_34_code (4 : Nat) (Option.some Jvm.ClassFile.FieldType.int)) ∈ lw_all := lw_g (lw_at lw_m12 5 rfl) rfl
theorem q2736 : (Jvm.Cond.methodLink "CoinTaxesModel" (121 : Nat) ({ cls := "CoinTaxesModel", name := "isCitizen", desc := "(I)Z" } : Jvm.MethodName)) ∈ lw_all := lw_g (lw_at lw_m12 6 rfl) rfl
theorem q2737 : (Jvm.Cond.privateMethod ({ cls := "CoinTaxesModel", name := "isCitizen", desc := "(I)Z" } : Jvm.MethodName)) ∈ lw_tbl := lw_at lw_m12 7 rfl
theorem q2738 : (Jvm.Cond.instanceMethod ({ cls := "CoinTaxesModel", name := "isCitizen", desc := "(I)Z" } : Jvm.MethodName)) ∈ lw_all := lw_g (lw_at lw_m12 8 rfl) rfl
theorem q2739 : (Jvm.Cond.code ({ cls := "CoinTaxesModel", name := "isCitizen", desc := "(I)Z" } : Jvm.MethodName) prog_12_method_15_code (2 : Nat) (Option.some Jvm.ClassFile.FieldType.boolean)) ∈ lw_all := lw_g (lw_at lw_m12 9 rfl) rfl
theorem q2740 : (Jvm.Cond.methodLink "CoinTaxesModel" (118 : Nat) ({ cls := "CoinTaxesModel", name := "of", desc := "(II)I" } : Jvm.MethodName)) ∈ lw_all := lw_g (lw_at lw_m12 10 rfl) rfl
theorem q2741 : (Jvm.Cond.privateMethod ({ cls := "CoinTaxesModel", name := "of", desc := "(II)I" } : Jvm.MethodName)) ∈ lw_tbl := lw_at lw_m12 11 rfl
theorem q2742 : (Jvm.Cond.instanceMethod ({ cls := "CoinTaxesModel", name := "of", desc := "(II)I" } : Jvm.MethodName)) ∈ lw_all := lw_g (lw_at lw_m12 12 rfl) rfl
theorem q2743 : (Jvm.Cond.code ({ cls := "CoinTaxesModel", name := "of", desc := "(II)I" } : Jvm.MethodName) prog_12_method_28_code (3 : Nat) (Option.some Jvm.ClassFile.FieldType.int)) ∈ lw_all := lw_g (lw_at lw_m12 13 rfl) rfl
theorem q2744 : (Jvm.Cond.methodLink "CoinTaxesModel" (124 : Nat) ({ cls := "CoinTaxesModel", name := "becomes", desc := "(III)V" } : Jvm.MethodName)) ∈ lw_all := lw_g (lw_at lw_m12 14 rfl) rfl
theorem q2745 : (Jvm.Cond.privateMethod ({ cls := "CoinTaxesModel", name := "becomes", desc := "(III)V" } : Jvm.MethodName)) ∈ lw_tbl := lw_at lw_m12 15 rfl
theorem q2746 : (Jvm.Cond.instanceMethod ({ cls := "CoinTaxesModel", name := "becomes", desc := "(III)V" } : Jvm.MethodName)) ∈ lw_all := lw_g (lw_at lw_m12 16 rfl) rfl
theorem q2747 : (Jvm.Cond.code ({ cls := "CoinTaxesModel", name := "becomes", desc := "(III)V" } : Jvm.MethodName) prog_12_method_29_code (4 : Nat) (Option.none : Option Jvm.ClassFile.FieldType)) ∈ lw_all := lw_g (lw_at lw_m12 17 rfl) rfl
theorem q2748 : (Jvm.Cond.methodLink "CoinTaxesModel" (127 : Nat) ({ cls := "CoinTaxesModel", name := "gets", desc := "(III)V" } : Jvm.MethodName)) ∈ lw_all := lw_g (lw_at lw_m12 18 rfl) rfl
theorem q2749 : (Jvm.Cond.privateMethod ({ cls := "CoinTaxesModel", name := "gets", desc := "(III)V" } : Jvm.MethodName)) ∈ lw_tbl := lw_at lw_m12 19 rfl
theorem q2750 : (Jvm.Cond.instanceMethod ({ cls := "CoinTaxesModel", name := "gets", desc := "(III)V" } : Jvm.MethodName)) ∈ lw_all := lw_g (lw_at lw_m12 20 rfl) rfl
theorem q2751 : (Jvm.Cond.code ({ cls := "CoinTaxesModel", name := "gets", desc := "(III)V" } : Jvm.MethodName) prog_12_method_30_code (4 : Nat) (Option.none : Option Jvm.ClassFile.FieldType)) ∈ lw_all := lw_g (lw_at lw_m12 21 rfl) rfl
theorem q2753 : (Jvm.Cond.instanceMethod ({ cls := "CoinTaxesModel", name := "claim", desc := "(IIIZ)I" } : Jvm.MethodName)) ∈ lw_all := lw_g (lw_at lw_m12 23 rfl) rfl
theorem q2754 : (Jvm.Cond.selects "CoinTaxesModel" ({ cls := "CoinTaxesModel", name := "claim", desc := "(IIIZ)I" } : Jvm.MethodName) ({ cls := "CoinTaxesModel", name := "claim", desc := "(IIIZ)I" } : Jvm.MethodName)) ∈ lw_all := lw_g (lw_at lw_m12 24 rfl) rfl
theorem q2755 : (Jvm.Cond.code ({ cls := "CoinTaxesModel", name := "claim", desc := "(IIIZ)I" } : Jvm.MethodName) prog_12_method_38_code (5 : Nat) (Option.some Jvm.ClassFile.FieldType.int)) ∈ lw_all := lw_g (lw_at lw_m12 25 rfl) rfl
theorem q2756 : (Jvm.Cond.methodLink "CoinTaxesModel" (148 : Nat) ({ cls := "CoinTaxesModel", name := "claims", desc := "(IIIZ)I" } : Jvm.MethodName)) ∈ lw_all := lw_g (lw_at lw_m12 26 rfl) rfl
theorem q2757 : (Jvm.Cond.privateMethod ({ cls := "CoinTaxesModel", name := "claims", desc := "(IIIZ)I" } : Jvm.MethodName)) ∈ lw_tbl := lw_at lw_m12 27 rfl
theorem q2758 : (Jvm.Cond.instanceMethod ({ cls := "CoinTaxesModel", name := "claims", desc := "(IIIZ)I" } : Jvm.MethodName)) ∈ lw_all := lw_g (lw_at lw_m12 28 rfl) rfl
theorem q2759 : (Jvm.Cond.code ({ cls := "CoinTaxesModel", name := "claims", desc := "(IIIZ)I" } : Jvm.MethodName) prog_12_method_37_code (6 : Nat) (Option.some Jvm.ClassFile.FieldType.int)) ∈ lw_all := lw_g (lw_at lw_m12 29 rfl) rfl
theorem q2760 : (Jvm.Cond.methodLink "CoinTaxesModel" (144 : Nat) ({ cls := "CoinTaxesModel", name := "countsOf", desc := "(IIZ)I" } : Jvm.MethodName)) ∈ lw_all := lw_g (lw_at lw_m12 30 rfl) rfl
theorem q2761 : (Jvm.Cond.privateMethod ({ cls := "CoinTaxesModel", name := "countsOf", desc := "(IIZ)I" } : Jvm.MethodName)) ∈ lw_tbl := lw_at lw_m12 31 rfl
theorem q2762 : (Jvm.Cond.instanceMethod ({ cls := "CoinTaxesModel", name := "countsOf", desc := "(IIZ)I" } : Jvm.MethodName)) ∈ lw_all := lw_g (lw_at lw_m12 32 rfl) rfl
theorem q2763 : (Jvm.Cond.code ({ cls := "CoinTaxesModel", name := "countsOf", desc := "(IIZ)I" } : Jvm.MethodName) prog_12_method_36_code (4 : Nat) (Option.some Jvm.ClassFile.FieldType.int)) ∈ lw_all := lw_g (lw_at lw_m12 33 rfl) rfl
theorem q2764 : (Jvm.Cond.methodLink "CoinTaxesModel" (133 : Nat) ({ cls := "CoinTaxesModel", name := "proved", desc := "(II)I" } : Jvm.MethodName)) ∈ lw_all := lw_g (lw_at lw_m12 34 rfl) rfl
theorem q2765 : (Jvm.Cond.privateMethod ({ cls := "CoinTaxesModel", name := "proved", desc := "(II)I" } : Jvm.MethodName)) ∈ lw_tbl := lw_at lw_m12 35 rfl
theorem q2766 : (Jvm.Cond.instanceMethod ({ cls := "CoinTaxesModel", name := "proved", desc := "(II)I" } : Jvm.MethodName)) ∈ lw_all := lw_g (lw_at lw_m12 36 rfl) rfl
theorem q2767 : (Jvm.Cond.code ({ cls := "CoinTaxesModel", name := "proved", desc := "(II)I" } : Jvm.MethodName) prog_12_method_31_code (3 : Nat) (Option.some Jvm.ClassFile.FieldType.int)) ∈ lw_all := lw_g (lw_at lw_m12 37 rfl) rfl
theorem q2768 : (Jvm.Cond.methodLink "CoinTaxesModel" (136 : Nat) ({ cls := "CoinTaxesModel", name := "unproved", desc := "(II)I" } : Jvm.MethodName)) ∈ lw_all := lw_g (lw_at lw_m12 38 rfl) rfl
theorem q2769 : (Jvm.Cond.privateMethod ({ cls := "CoinTaxesModel", name := "unproved", desc := "(II)I" } : Jvm.MethodName)) ∈ lw_tbl := lw_at lw_m12 39 rfl
theorem q2770 : (Jvm.Cond.instanceMethod ({ cls := "CoinTaxesModel", name := "unproved", desc := "(II)I" } : Jvm.MethodName)) ∈ lw_all := lw_g (lw_at lw_m12 40 rfl) rfl
theorem q2771 : (Jvm.Cond.code ({ cls := "CoinTaxesModel", name := "unproved", desc := "(II)I" } : Jvm.MethodName) prog_12_method_32_code (3 : Nat) (Option.some Jvm.ClassFile.FieldType.int)) ∈ lw_all := lw_g (lw_at lw_m12 41 rfl) rfl
theorem q2772 : (Jvm.Cond.methodLink "CoinTaxesModel" (139 : Nat) ({ cls := "java/lang/Math", name := "min", desc := "(II)I" } : Jvm.MethodName)) ∈ lw_all := lw_g (lw_at lw_m12 42 rfl) rfl
theorem q2774 : (Jvm.Cond.instanceMethod ({ cls := "CoinTaxesModel", name := "prove", desc := "(II)I" } : Jvm.MethodName)) ∈ lw_all := lw_g (lw_at lw_m12 44 rfl) rfl
theorem q2775 : (Jvm.Cond.selects "CoinTaxesModel" ({ cls := "CoinTaxesModel", name := "prove", desc := "(II)I" } : Jvm.MethodName) ({ cls := "CoinTaxesModel", name := "prove", desc := "(II)I" } : Jvm.MethodName)) ∈ lw_all := lw_g (lw_at lw_m12 45 rfl) rfl
theorem q2776 : (Jvm.Cond.code ({ cls := "CoinTaxesModel", name := "prove", desc := "(II)I" } : Jvm.MethodName) prog_12_method_40_code (3 : Nat) (Option.some Jvm.ClassFile.FieldType.int)) ∈ lw_all := lw_g (lw_at lw_m12 46 rfl) rfl
theorem q2777 : (Jvm.Cond.methodLink "CoinTaxesModel" (152 : Nat) ({ cls := "CoinTaxesModel", name := "proves", desc := "(II)I" } : Jvm.MethodName)) ∈ lw_all := lw_g (lw_at lw_m12 47 rfl) rfl
theorem q2778 : (Jvm.Cond.privateMethod ({ cls := "CoinTaxesModel", name := "proves", desc := "(II)I" } : Jvm.MethodName)) ∈ lw_tbl := lw_at lw_m12 48 rfl
theorem q2779 : (Jvm.Cond.instanceMethod ({ cls := "CoinTaxesModel", name := "proves", desc := "(II)I" } : Jvm.MethodName)) ∈ lw_all := lw_g (lw_at lw_m12 49 rfl) rfl
theorem q2780 : (Jvm.Cond.code ({ cls := "CoinTaxesModel", name := "proves", desc := "(II)I" } : Jvm.MethodName) prog_12_method_39_code (4 : Nat) (Option.some Jvm.ClassFile.FieldType.int)) ∈ lw_all := lw_g (lw_at lw_m12 50 rfl) rfl
theorem q2782 : (Jvm.Cond.instanceMethod ({ cls := "CoinTaxesModel", name := "endYear", desc := "()I" } : Jvm.MethodName)) ∈ lw_all := lw_g (lw_at lw_m12 52 rfl) rfl
theorem q2783 : (Jvm.Cond.selects "CoinTaxesModel" ({ cls := "CoinTaxesModel", name := "endYear", desc := "()I" } : Jvm.MethodName) ({ cls := "CoinTaxesModel", name := "endYear", desc := "()I" } : Jvm.MethodName)) ∈ lw_all := lw_g (lw_at lw_m12 53 rfl) rfl
theorem q2784 : (Jvm.Cond.code ({ cls := "CoinTaxesModel", name := "endYear", desc := "()I" } : Jvm.MethodName) prog_12_method_52_code (1 : Nat) (Option.some Jvm.ClassFile.FieldType.int)) ∈ lw_all := lw_g (lw_at lw_m12 54 rfl) rfl
theorem q2785 : (Jvm.Cond.methodLink "CoinTaxesModel" (187 : Nat) ({ cls := "CoinTaxesModel", name := "endsYear", desc := "()I" } : Jvm.MethodName)) ∈ lw_all := lw_g (lw_at lw_m12 55 rfl) rfl
theorem q2786 : (Jvm.Cond.privateMethod ({ cls := "CoinTaxesModel", name := "endsYear", desc := "()I" } : Jvm.MethodName)) ∈ lw_tbl := lw_at lw_m12 56 rfl
theorem q2787 : (Jvm.Cond.instanceMethod ({ cls := "CoinTaxesModel", name := "endsYear", desc := "()I" } : Jvm.MethodName)) ∈ lw_all := lw_g (lw_at lw_m12 57 rfl) rfl
theorem q2788 : (Jvm.Cond.code ({ cls := "CoinTaxesModel", name := "endsYear", desc := "()I" } : Jvm.MethodName) prog_12_method_51_code (4 : Nat) (Option.some Jvm.ClassFile.FieldType.int)) ∈ lw_all := lw_g (lw_at lw_m12 58 rfl) rfl
theorem q2789 : (Jvm.Cond.methodLink "CoinTaxesModel" (181 : Nat) ({ cls := "CoinTaxesModel", name := "nextLot", desc := "(I)I" } : Jvm.MethodName)) ∈ lw_all := lw_g (lw_at lw_m12 59 rfl) rfl
theorem q2790 : (Jvm.Cond.static ({ cls := "CoinTaxesModel", name := "nextLot", desc := "(I)I" } : Jvm.MethodName)) ∈ lw_all := lw_g (lw_at lw_m12 60 rfl) rfl
theorem q2791 : (Jvm.Cond.code ({ cls := "CoinTaxesModel", name := "nextLot", desc := "(I)I" } : Jvm.MethodName) prog_12_method_50_code (1 : Nat) (Option.some Jvm.ClassFile.FieldType.int)) ∈ lw_all := lw_g (lw_at lw_m12 61 rfl) rfl
theorem q2792 : (Jvm.Cond.methodLink "CoinTaxesModel" (184 : Nat) ({ cls := "CoinTaxesModel", name := "pays", desc := "(IZ)I" } : Jvm.MethodName)) ∈ lw_all := lw_g (lw_at lw_m12 62 rfl) rfl
theorem q2793 : (Jvm.Cond.privateMethod ({ cls := "CoinTaxesModel", name := "pays", desc := "(IZ)I" } : Jvm.MethodName)) ∈ lw_tbl := lw_at lw_m12 63 rfl
theorem q2794 : (Jvm.Cond.instanceMethod ({ cls := "CoinTaxesModel", name := "pays", desc := "(IZ)I" } : Jvm.MethodName)) ∈ lw_all := lw_g (lw_at lw_m12 64 rfl) rfl
theorem q2795 : (Jvm.Cond.code ({ cls := "CoinTaxesModel", name := "pays", desc := "(IZ)I" } : Jvm.MethodName) prog_12_method_49_code (9 : Nat) (Option.some Jvm.ClassFile.FieldType.int)) ∈ lw_all := lw_g (lw_at lw_m12 65 rfl) rfl
theorem q2796 : (Jvm.Cond.methodLink "CoinTaxesModel" (161 : Nat) ({ cls := "CoinTaxesModel", name := "counts", desc := "(IZ)I" } : Jvm.MethodName)) ∈ lw_all := lw_g (lw_at lw_m12 66 rfl) rfl
theorem q2797 : (Jvm.Cond.privateMethod ({ cls := "CoinTaxesModel", name := "counts", desc := "(IZ)I" } : Jvm.MethodName)) ∈ lw_tbl := lw_at lw_m12 67 rfl
theorem q2798 : (Jvm.Cond.instanceMethod ({ cls := "CoinTaxesModel", name := "counts", desc := "(IZ)I" } : Jvm.MethodName)) ∈ lw_all := lw_g (lw_at lw_m12 68 rfl) rfl
theorem q2799 : (Jvm.Cond.code ({ cls := "CoinTaxesModel", name := "counts", desc := "(IZ)I" } : Jvm.MethodName) prog_12_method_41_code (5 : Nat) (Option.some Jvm.ClassFile.FieldType.int)) ∈ lw_all := lw_g (lw_at lw_m12 69 rfl) rfl
theorem q2800 : (Jvm.Cond.methodLink "CoinTaxesModel" (165 : Nat) ({ cls := "CoinTaxesModel", name := "dues", desc := "(II)I" } : Jvm.MethodName)) ∈ lw_all := lw_g (lw_at lw_m12 70 rfl) rfl
theorem q2801 : (Jvm.Cond.privateMethod ({ cls := "CoinTaxesModel", name := "dues", desc := "(II)I" } : Jvm.MethodName)) ∈ lw_tbl := lw_at lw_m12 71 rfl
theorem q2802 : (Jvm.Cond.instanceMethod ({ cls := "CoinTaxesModel", name := "dues", desc := "(II)I" } : Jvm.MethodName)) ∈ lw_all := lw_g (lw_at lw_m12 72 rfl) rfl
theorem q2803 : (Jvm.Cond.code ({ cls := "CoinTaxesModel", name := "dues", desc := "(II)I" } : Jvm.MethodName) prog_12_method_44_code (7 : Nat) (Option.some Jvm.ClassFile.FieldType.int)) ∈ lw_all := lw_g (lw_at lw_m12 73 rfl) rfl
theorem q2804 : (Jvm.Cond.methodLink "CoinTaxesModel" (155 : Nat) ({ cls := "java/lang/Math", name := "max", desc := "(II)I" } : Jvm.MethodName)) ∈ lw_all := lw_g (lw_at lw_m12 74 rfl) rfl
theorem q2805 : (Jvm.Cond.methodLink "CoinTaxesModel" (158 : Nat) ({ cls := "CoinTaxesModel", name := "leftOfCredit", desc := "(I)I" } : Jvm.MethodName)) ∈ lw_all := lw_g (lw_at lw_m12 75 rfl) rfl
theorem q2806 : (Jvm.Cond.privateMethod ({ cls := "CoinTaxesModel", name := "leftOfCredit", desc := "(I)I" } : Jvm.MethodName)) ∈ lw_tbl := lw_at lw_m12 76 rfl
theorem q2807 : (Jvm.Cond.instanceMethod ({ cls := "CoinTaxesModel", name := "leftOfCredit", desc := "(I)I" } : Jvm.MethodName)) ∈ lw_all := lw_g (lw_at lw_m12 77 rfl) rfl
theorem q2808 : (Jvm.Cond.code ({ cls := "CoinTaxesModel", name := "leftOfCredit", desc := "(I)I" } : Jvm.MethodName) prog_12_method_43_code (2 : Nat) (Option.some Jvm.ClassFile.FieldType.int)) ∈ lw_all := lw_g (lw_at lw_m12 78 rfl) rfl
theorem q2809 : (Jvm.Cond.methodLink "CoinTaxesModel" (171 : Nat) ({ cls := "CoinTaxesModel", name := "allUnproved", desc := "(I)I" } : Jvm.MethodName)) ∈ lw_all := lw_g (lw_at lw_m12 79 rfl) rfl
theorem q2810 : (Jvm.Cond.privateMethod ({ cls := "CoinTaxesModel", name := "allUnproved", desc := "(I)I" } : Jvm.MethodName)) ∈ lw_tbl := lw_at lw_m12 80 rfl
theorem q2811 : (Jvm.Cond.instanceMethod ({ cls := "CoinTaxesModel", name := "allUnproved", desc := "(I)I" } : Jvm.MethodName)) ∈ lw_all := lw_g (lw_at lw_m12 81 rfl) rfl
theorem q2812 : (Jvm.Cond.code ({ cls := "CoinTaxesModel", name := "allUnproved", desc := "(I)I" } : Jvm.MethodName) prog_12_method_42_code (4 : Nat) (Option.some Jvm.ClassFile.FieldType.int)) ∈ lw_all := lw_g (lw_at lw_m12 82 rfl) rfl
theorem q2813 : (Jvm.Cond.methodLink "CoinTaxesModel" (174 : Nat) ({ cls := "CoinTaxesModel", name := "uses", desc := "(II)I" } : Jvm.MethodName)) ∈ lw_all := lw_g (lw_at lw_m12 83 rfl) rfl
theorem q2814 : (Jvm.Cond.privateMethod ({ cls := "CoinTaxesModel", name := "uses", desc := "(II)I" } : Jvm.MethodName)) ∈ lw_tbl := lw_at lw_m12 84 rfl
theorem q2815 : (Jvm.Cond.instanceMethod ({ cls := "CoinTaxesModel", name := "uses", desc := "(II)I" } : Jvm.MethodName)) ∈ lw_all := lw_g (lw_at lw_m12 85 rfl) rfl
theorem q2816 : (Jvm.Cond.code ({ cls := "CoinTaxesModel", name := "uses", desc := "(II)I" } : Jvm.MethodName) prog_12_method_47_code (6 : Nat) (Option.some Jvm.ClassFile.FieldType.int)) ∈ lw_all := lw_g (lw_at lw_m12 86 rfl) rfl
theorem q2817 : (Jvm.Cond.methodLink "CoinTaxesModel" (177 : Nat) ({ cls := "CoinTaxesModel", name := "ages", desc := "(II)V" } : Jvm.MethodName)) ∈ lw_all := lw_g (lw_at lw_m12 87 rfl) rfl
theorem q2818 : (Jvm.Cond.privateMethod ({ cls := "CoinTaxesModel", name := "ages", desc := "(II)V" } : Jvm.MethodName)) ∈ lw_tbl := lw_at lw_m12 88 rfl
theorem q2819 : (Jvm.Cond.instanceMethod ({ cls := "CoinTaxesModel", name := "ages", desc := "(II)V" } : Jvm.MethodName)) ∈ lw_all := lw_g (lw_at lw_m12 89 rfl) rfl
theorem q2820 : (Jvm.Cond.code ({ cls := "CoinTaxesModel", name := "ages", desc := "(II)V" } : Jvm.MethodName) prog_12_method_48_code (7 : Nat) (Option.none : Option Jvm.ClassFile.FieldType)) ∈ lw_all := lw_g (lw_at lw_m12 90 rfl) rfl
theorem q2822 : (Jvm.Cond.instanceMethod ({ cls := "CoinTaxesModel", name := "bracketOf", desc := "(II)I" } : Jvm.MethodName)) ∈ lw_all := lw_g (lw_at lw_m12 92 rfl) rfl
theorem q2823 : (Jvm.Cond.selects "CoinTaxesModel" ({ cls := "CoinTaxesModel", name := "bracketOf", desc := "(II)I" } : Jvm.MethodName) ({ cls := "CoinTaxesModel", name := "bracketOf", desc := "(II)I" } : Jvm.MethodName)) ∈ lw_all := lw_g (lw_at lw_m12 93 rfl) rfl
theorem q2824 : (Jvm.Cond.code ({ cls := "CoinTaxesModel", name := "bracketOf", desc := "(II)I" } : Jvm.MethodName) prog_12_method_54_code (3 : Nat) (Option.some Jvm.ClassFile.FieldType.int)) ∈ lw_all := lw_g (lw_at lw_m12 94 rfl) rfl
theorem q2825 : (Jvm.Cond.methodLink "CoinTaxesModel" (191 : Nat) ({ cls := "CoinTaxesModel", name := "goes", desc := "(ZIZI)Z" } : Jvm.MethodName)) ∈ lw_all := lw_g (lw_at lw_m12 95 rfl) rfl
theorem q2826 : (Jvm.Cond.privateMethod ({ cls := "CoinTaxesModel", name := "goes", desc := "(ZIZI)Z" } : Jvm.MethodName)) ∈ lw_tbl := lw_at lw_m12 96 rfl
theorem q2827 : (Jvm.Cond.instanceMethod ({ cls := "CoinTaxesModel", name := "goes", desc := "(ZIZI)Z" } : Jvm.MethodName)) ∈ lw_all := lw_g (lw_at lw_m12 97 rfl) rfl
theorem q2828 : (Jvm.Cond.code ({ cls := "CoinTaxesModel", name := "goes", desc := "(ZIZI)Z" } : Jvm.MethodName) prog_12_method_53_code (5 : Nat) (Option.some Jvm.ClassFile.FieldType.boolean)) ∈ lw_all := lw_g (lw_at lw_m12 98 rfl) rfl
theorem q2830 : (Jvm.Cond.instanceMethod ({ cls := "CoinTaxesModel", name := "bracketAt", desc := "(I)I" } : Jvm.MethodName)) ∈ lw_all := lw_g (lw_at lw_m12 100 rfl) rfl
theorem q2831 : (Jvm.Cond.selects "CoinTaxesModel" ({ cls := "CoinTaxesModel", name := "bracketAt", desc := "(I)I" } : Jvm.MethodName) ({ cls := "CoinTaxesModel", name := "bracketAt", desc := "(I)I" } : Jvm.MethodName)) ∈ lw_all := lw_g (lw_at lw_m12 101 rfl) rfl
theorem q2832 : (Jvm.Cond.code ({ cls := "CoinTaxesModel", name := "bracketAt", desc := "(I)I" } : Jvm.MethodName) prog_12_method_55_code (4 : Nat) (Option.some Jvm.ClassFile.FieldType.int)) ∈ lw_all := lw_g (lw_at lw_m12 102 rfl) rfl
theorem q2834 : (Jvm.Cond.instanceMethod ({ cls := "CoinTaxesModel", name := "citizenOf", desc := "(II)I" } : Jvm.MethodName)) ∈ lw_all := lw_g (lw_at lw_m12 104 rfl) rfl
theorem q2835 : (Jvm.Cond.selects "CoinTaxesModel" ({ cls := "CoinTaxesModel", name := "citizenOf", desc := "(II)I" } : Jvm.MethodName) ({ cls := "CoinTaxesModel", name := "citizenOf", desc := "(II)I" } : Jvm.MethodName)) ∈ lw_all := lw_g (lw_at lw_m12 105 rfl) rfl
theorem q2836 : (Jvm.Cond.code ({ cls := "CoinTaxesModel", name := "citizenOf", desc := "(II)I" } : Jvm.MethodName) prog_12_method_56_code (3 : Nat) (Option.some Jvm.ClassFile.FieldType.int)) ∈ lw_all := lw_g (lw_at lw_m12 106 rfl) rfl
theorem q2837 : (Jvm.Cond.methodLink "CoinTaxesModel" (168 : Nat) ({ cls := "CoinTaxesModel", name := "carried", desc := "(I)I" } : Jvm.MethodName)) ∈ lw_all := lw_g (lw_at lw_m12 107 rfl) rfl
theorem q2838 : (Jvm.Cond.privateMethod ({ cls := "CoinTaxesModel", name := "carried", desc := "(I)I" } : Jvm.MethodName)) ∈ lw_tbl := lw_at lw_m12 108 rfl
theorem q2839 : (Jvm.Cond.instanceMethod ({ cls := "CoinTaxesModel", name := "carried", desc := "(I)I" } : Jvm.MethodName)) ∈ lw_all := lw_g (lw_at lw_m12 109 rfl) rfl
theorem q2840 : (Jvm.Cond.code ({ cls := "CoinTaxesModel", name := "carried", desc := "(I)I" } : Jvm.MethodName) prog_12_method_45_code (4 : Nat) (Option.some Jvm.ClassFile.FieldType.int)) ∈ lw_all := lw_g (lw_at lw_m12 110 rfl) rfl
theorem q2842 : (Jvm.Cond.instanceMethod ({ cls := "CoinTaxesModel", name := "claimOf", desc := "(IIZ)I" } : Jvm.MethodName)) ∈ lw_all := lw_g (lw_at lw_m12 112 rfl) rfl
theorem q2843 : (Jvm.Cond.selects "CoinTaxesModel" ({ cls := "CoinTaxesModel", name := "claimOf", desc := "(IIZ)I" } : Jvm.MethodName) ({ cls := "CoinTaxesModel", name := "claimOf", desc := "(IIZ)I" } : Jvm.MethodName)) ∈ lw_all := lw_g (lw_at lw_m12 113 rfl) rfl
theorem q2844 : (Jvm.Cond.code ({ cls := "CoinTaxesModel", name := "claimOf", desc := "(IIZ)I" } : Jvm.MethodName) prog_12_method_57_code (4 : Nat) (Option.some Jvm.ClassFile.FieldType.int)) ∈ lw_all := lw_g (lw_at lw_m12 114 rfl) rfl
theorem q2846 : (Jvm.Cond.instanceMethod ({ cls := "CoinTaxesModel", name := "carriedOf", desc := "(III)I" } : Jvm.MethodName)) ∈ lw_all := lw_g (lw_at lw_m12 116 rfl) rfl
theorem q2847 : (Jvm.Cond.selects "CoinTaxesModel" ({ cls := "CoinTaxesModel", name := "carriedOf", desc := "(III)I" } : Jvm.MethodName) ({ cls := "CoinTaxesModel", name := "carriedOf", desc := "(III)I" } : Jvm.MethodName)) ∈ lw_all := lw_g (lw_at lw_m12 117 rfl) rfl
theorem q2848 : (Jvm.Cond.code ({ cls := "CoinTaxesModel", name := "carriedOf", desc := "(III)I" } : Jvm.MethodName) prog_12_method_58_code (4 : Nat) (Option.some Jvm.ClassFile.FieldType.int)) ∈ lw_all := lw_g (lw_at lw_m12 118 rfl) rfl
theorem q2850 : (Jvm.Cond.instanceMethod ({ cls := "CoinTaxesModel", name := "creditFor", desc := "(I)I" } : Jvm.MethodName)) ∈ lw_all := lw_g (lw_at lw_m12 120 rfl) rfl
theorem q2851 : (Jvm.Cond.selects "CoinTaxesModel" ({ cls := "CoinTaxesModel", name := "creditFor", desc := "(I)I" } : Jvm.MethodName) ({ cls := "CoinTaxesModel", name := "creditFor", desc := "(I)I" } : Jvm.MethodName)) ∈ lw_all := lw_g (lw_at lw_m12 121 rfl) rfl
theorem q2852 : (Jvm.Cond.code ({ cls := "CoinTaxesModel", name := "creditFor", desc := "(I)I" } : Jvm.MethodName) prog_12_method_60_code (2 : Nat) (Option.some Jvm.ClassFile.FieldType.int)) ∈ lw_all := lw_g (lw_at lw_m12 122 rfl) rfl
theorem q2853 : (Jvm.Cond.methodLink "CoinTaxesModel" (195 : Nat) ({ cls := "CoinTaxesModel", name := "isIncome", desc := "(I)Z" } : Jvm.MethodName)) ∈ lw_all := lw_g (lw_at lw_m12 123 rfl) rfl
theorem q2854 : (Jvm.Cond.privateMethod ({ cls := "CoinTaxesModel", name := "isIncome", desc := "(I)Z" } : Jvm.MethodName)) ∈ lw_tbl := lw_at lw_m12 124 rfl
theorem q2855 : (Jvm.Cond.instanceMethod ({ cls := "CoinTaxesModel", name := "isIncome", desc := "(I)Z" } : Jvm.MethodName)) ∈ lw_all := lw_g (lw_at lw_m12 125 rfl) rfl
theorem q2856 : (Jvm.Cond.code ({ cls := "CoinTaxesModel", name := "isIncome", desc := "(I)Z" } : Jvm.MethodName) prog_12_method_59_code (2 : Nat) (Option.some Jvm.ClassFile.FieldType.boolean)) ∈ lw_all := lw_g (lw_at lw_m12 126 rfl) rfl
theorem q2858 : (Jvm.Cond.instanceMethod ({ cls := "CoinTaxesModel", name := "taxNow", desc := "(I)I" } : Jvm.MethodName)) ∈ lw_all := lw_g (lw_at lw_m12 128 rfl) rfl
theorem q2859 : (Jvm.Cond.selects "CoinTaxesModel" ({ cls := "CoinTaxesModel", name := "taxNow", desc := "(I)I" } : Jvm.MethodName) ({ cls := "CoinTaxesModel", name := "taxNow", desc := "(I)I" } : Jvm.MethodName)) ∈ lw_all := lw_g (lw_at lw_m12 129 rfl) rfl
theorem q2860 : (Jvm.Cond.code ({ cls := "CoinTaxesModel", name := "taxNow", desc := "(I)I" } : Jvm.MethodName) prog_12_method_61_code (2 : Nat) (Option.some Jvm.ClassFile.FieldType.int)) ∈ lw_all := lw_g (lw_at lw_m12 130 rfl) rfl
theorem q2861 : (Jvm.Cond.methodLink "CoinTaxesModel" (198 : Nat) ({ cls := "CoinTaxesModel", name := "taxOf", desc := "(IIZ)I" } : Jvm.MethodName)) ∈ lw_all := lw_g (lw_at lw_m12 131 rfl) rfl
theorem q2862 : (Jvm.Cond.privateMethod ({ cls := "CoinTaxesModel", name := "taxOf", desc := "(IIZ)I" } : Jvm.MethodName)) ∈ lw_tbl := lw_at lw_m12 132 rfl
theorem q2863 : (Jvm.Cond.instanceMethod ({ cls := "CoinTaxesModel", name := "taxOf", desc := "(IIZ)I" } : Jvm.MethodName)) ∈ lw_all := lw_g (lw_at lw_m12 133 rfl) rfl
theorem q2864 : (Jvm.Cond.code ({ cls := "CoinTaxesModel", name := "taxOf", desc := "(IIZ)I" } : Jvm.MethodName) prog_12_method_46_code (5 : Nat) (Option.some Jvm.ClassFile.FieldType.int)) ∈ lw_all := lw_g (lw_at lw_m12 134 rfl) rfl
theorem q2866 : (Jvm.Cond.instanceMethod ({ cls := "CoinTaxesModel", name := "taxAgain", desc := "(I)I" } : Jvm.MethodName)) ∈ lw_all := lw_g (lw_at lw_m12 136 rfl) rfl
theorem q2867 : (Jvm.Cond.selects "CoinTaxesModel" ({ cls := "CoinTaxesModel", name := "taxAgain", desc := "(I)I" } : Jvm.MethodName) ({ cls := "CoinTaxesModel", name := "taxAgain", desc := "(I)I" } : Jvm.MethodName)) ∈ lw_all := lw_g (lw_at lw_m12 137 rfl) rfl
theorem q2868 : (Jvm.Cond.code ({ cls := "CoinTaxesModel", name := "taxAgain", desc := "(I)I" } : Jvm.MethodName) prog_12_method_62_code (2 : Nat) (Option.some Jvm.ClassFile.FieldType.int)) ∈ lw_all := lw_g (lw_at lw_m12 138 rfl) rfl
theorem q2869 : (Jvm.Cond.methodLink "CoinTaxesModel" (201 : Nat) ({ cls := "CoinTaxesModel", name := "taxNow", desc := "(I)I" } : Jvm.MethodName)) ∈ lw_all := lw_g (lw_at lw_m12 139 rfl) rfl
theorem q2871 : (Jvm.Cond.instanceMethod ({ cls := "CoinTaxesModel", name := "auditCosts", desc := "(I)I" } : Jvm.MethodName)) ∈ lw_all := lw_g (lw_at lw_m12 141 rfl) rfl
theorem q2872 : (Jvm.Cond.selects "CoinTaxesModel" ({ cls := "CoinTaxesModel", name := "auditCosts", desc := "(I)I" } : Jvm.MethodName) ({ cls := "CoinTaxesModel", name := "auditCosts", desc := "(I)I" } : Jvm.MethodName)) ∈ lw_all := lw_g (lw_at lw_m12 142 rfl) rfl
theorem q2873 : (Jvm.Cond.code ({ cls := "CoinTaxesModel", name := "auditCosts", desc := "(I)I" } : Jvm.MethodName) prog_12_method_63_code (3 : Nat) (Option.some Jvm.ClassFile.FieldType.int)) ∈ lw_all := lw_g (lw_at lw_m12 143 rfl) rfl
theorem q2875 : (Jvm.Cond.instanceMethod ({ cls := "CoinTaxesModel", name := "left", desc := "(II)I" } : Jvm.MethodName)) ∈ lw_all := lw_g (lw_at lw_m12 145 rfl) rfl
theorem q2876 : (Jvm.Cond.selects "CoinTaxesModel" ({ cls := "CoinTaxesModel", name := "left", desc := "(II)I" } : Jvm.MethodName) ({ cls := "CoinTaxesModel", name := "left", desc := "(II)I" } : Jvm.MethodName)) ∈ lw_all := lw_g (lw_at lw_m12 146 rfl) rfl
theorem q2877 : (Jvm.Cond.code ({ cls := "CoinTaxesModel", name := "left", desc := "(II)I" } : Jvm.MethodName) prog_12_method_64_code (3 : Nat) (Option.some Jvm.ClassFile.FieldType.int)) ∈ lw_all := lw_g (lw_at lw_m12 147 rfl) rfl
theorem q2879 : (Jvm.Cond.instanceMethod ({ cls := "CoinTaxesModel", name := "margin", desc := "(I)I" } : Jvm.MethodName)) ∈ lw_all := lw_g (lw_at lw_m12 149 rfl) rfl
theorem q2880 : (Jvm.Cond.selects "CoinTaxesModel" ({ cls := "CoinTaxesModel", name := "margin", desc := "(I)I" } : Jvm.MethodName) ({ cls := "CoinTaxesModel", name := "margin", desc := "(I)I" } : Jvm.MethodName)) ∈ lw_all := lw_g (lw_at lw_m12 150 rfl) rfl
theorem q2881 : (Jvm.Cond.code ({ cls := "CoinTaxesModel", name := "margin", desc := "(I)I" } : Jvm.MethodName) prog_12_method_65_code (3 : Nat) (Option.some Jvm.ClassFile.FieldType.int)) ∈ lw_all := lw_g (lw_at lw_m12 151 rfl) rfl
theorem q2883 : (Jvm.Cond.instanceMethod ({ cls := "CoinTaxesModel", name := "isNoLoss", desc := "(I)Z" } : Jvm.MethodName)) ∈ lw_all := lw_g (lw_at lw_m12 153 rfl) rfl
theorem q2884 : (Jvm.Cond.selects "CoinTaxesModel" ({ cls := "CoinTaxesModel", name := "isNoLoss", desc := "(I)Z" } : Jvm.MethodName) ({ cls := "CoinTaxesModel", name := "isNoLoss", desc := "(I)Z" } : Jvm.MethodName)) ∈ lw_all := lw_g (lw_at lw_m12 154 rfl) rfl
theorem q2885 : (Jvm.Cond.code ({ cls := "CoinTaxesModel", name := "isNoLoss", desc := "(I)Z" } : Jvm.MethodName) prog_12_method_66_code (4 : Nat) (Option.some Jvm.ClassFile.FieldType.boolean)) ∈ lw_all := lw_g (lw_at lw_m12 155 rfl) rfl
theorem q2887 : (Jvm.Cond.instanceMethod ({ cls := "CoinTaxesModel", name := "auditIn", desc := "(I)I" } : Jvm.MethodName)) ∈ lw_all := lw_g (lw_at lw_m12 157 rfl) rfl
theorem q2888 : (Jvm.Cond.selects "CoinTaxesModel" ({ cls := "CoinTaxesModel", name := "auditIn", desc := "(I)I" } : Jvm.MethodName) ({ cls := "CoinTaxesModel", name := "auditIn", desc := "(I)I" } : Jvm.MethodName)) ∈ lw_all := lw_g (lw_at lw_m12 158 rfl) rfl
theorem q2889 : (Jvm.Cond.code ({ cls := "CoinTaxesModel", name := "auditIn", desc := "(I)I" } : Jvm.MethodName) prog_12_method_67_code (4 : Nat) (Option.some Jvm.ClassFile.FieldType.int)) ∈ lw_all := lw_g (lw_at lw_m12 159 rfl) rfl
theorem q2891 : (Jvm.Cond.instanceMethod ({ cls := "CoinTaxesModel", name := "ranked", desc := "(I)I" } : Jvm.MethodName)) ∈ lw_all := lw_g (lw_at lw_m12 161 rfl) rfl
theorem q2892 : (Jvm.Cond.selects "CoinTaxesModel" ({ cls := "CoinTaxesModel", name := "ranked", desc := "(I)I" } : Jvm.MethodName) ({ cls := "CoinTaxesModel", name := "ranked", desc := "(I)I" } : Jvm.MethodName)) ∈ lw_all := lw_g (lw_at lw_m12 162 rfl) rfl
theorem q2893 : (Jvm.Cond.code ({ cls := "CoinTaxesModel", name := "ranked", desc := "(I)I" } : Jvm.MethodName) prog_12_method_69_code (6 : Nat) (Option.some Jvm.ClassFile.FieldType.int)) ∈ lw_all := lw_g (lw_at lw_m12 163 rfl) rfl
theorem q2894 : (Jvm.Cond.methodLink "CoinTaxesModel" (204 : Nat) ({ cls := "CoinTaxesModel", name := "isAhead", desc := "(II)Z" } : Jvm.MethodName)) ∈ lw_all := lw_g (lw_at lw_m12 164 rfl) rfl
theorem q2895 : (Jvm.Cond.privateMethod ({ cls := "CoinTaxesModel", name := "isAhead", desc := "(II)Z" } : Jvm.MethodName)) ∈ lw_tbl := lw_at lw_m12 165 rfl
theorem q2896 : (Jvm.Cond.instanceMethod ({ cls := "CoinTaxesModel", name := "isAhead", desc := "(II)Z" } : Jvm.MethodName)) ∈ lw_all := lw_g (lw_at lw_m12 166 rfl) rfl
theorem q2897 : (Jvm.Cond.code ({ cls := "CoinTaxesModel", name := "isAhead", desc := "(II)Z" } : Jvm.MethodName) prog_12_method_68_code (5 : Nat) (Option.some Jvm.ClassFile.FieldType.boolean)) ∈ lw_all := lw_g (lw_at lw_m12 167 rfl) rfl
theorem q2899 : (Jvm.Cond.instanceMethod ({ cls := "CoinTaxesModel", name := "share", desc := "(I)F" } : Jvm.MethodName)) ∈ lw_all := lw_g (lw_at lw_m12 169 rfl) rfl
theorem q2900 : (Jvm.Cond.selects "CoinTaxesModel" ({ cls := "CoinTaxesModel", name := "share", desc := "(I)F" } : Jvm.MethodName) ({ cls := "CoinTaxesModel", name := "share", desc := "(I)F" } : Jvm.MethodName)) ∈ lw_all := lw_g (lw_at lw_m12 170 rfl) rfl
theorem q2901 : (Jvm.Cond.code ({ cls := "CoinTaxesModel", name := "share", desc := "(I)F" } : Jvm.MethodName) prog_12_method_70_code (2 : Nat) (Option.some Jvm.ClassFile.FieldType.float)) ∈ lw_all := lw_g (lw_at lw_m12 171 rfl) rfl
theorem q2903 : (Jvm.Cond.instanceMethod ({ cls := "CoinTaxesModel", name := "meanIncome", desc := "()D" } : Jvm.MethodName)) ∈ lw_all := lw_g (lw_at lw_m12 173 rfl) rfl
theorem q2904 : (Jvm.Cond.selects "CoinTaxesModel" ({ cls := "CoinTaxesModel", name := "meanIncome", desc := "()D" } : Jvm.MethodName) ({ cls := "CoinTaxesModel", name := "meanIncome", desc := "()D" } : Jvm.MethodName)) ∈ lw_all := lw_g (lw_at lw_m12 174 rfl) rfl
theorem q2905 : (Jvm.Cond.code ({ cls := "CoinTaxesModel", name := "meanIncome", desc := "()D" } : Jvm.MethodName) prog_12_method_72_code (1 : Nat) (Option.some Jvm.ClassFile.FieldType.double)) ∈ lw_all := lw_g (lw_at lw_m12 175 rfl) rfl
theorem q2906 : (Jvm.Cond.methodLink "CoinTaxesModel" (208 : Nat) ({ cls := "CoinTaxesModel", name := "sumOf", desc := "(I)I" } : Jvm.MethodName)) ∈ lw_all := lw_g (lw_at lw_m12 176 rfl) rfl
theorem q2907 : (Jvm.Cond.privateMethod ({ cls := "CoinTaxesModel", name := "sumOf", desc := "(I)I" } : Jvm.MethodName)) ∈ lw_tbl := lw_at lw_m12 177 rfl
theorem q2908 : (Jvm.Cond.instanceMethod ({ cls := "CoinTaxesModel", name := "sumOf", desc := "(I)I" } : Jvm.MethodName)) ∈ lw_all := lw_g (lw_at lw_m12 178 rfl) rfl
theorem q2909 : (Jvm.Cond.code ({ cls := "CoinTaxesModel", name := "sumOf", desc := "(I)I" } : Jvm.MethodName) prog_12_method_71_code (4 : Nat) (Option.some Jvm.ClassFile.FieldType.int)) ∈ lw_all := lw_g (lw_at lw_m12 179 rfl) rfl
theorem q2911 : (Jvm.Cond.instanceMethod ({ cls := "CoinTaxesModel", name := "account", desc := "(I)I" } : Jvm.MethodName)) ∈ lw_all := lw_g (lw_at lw_m12 181 rfl) rfl
theorem q2912 : (Jvm.Cond.selects "CoinTaxesModel" ({ cls := "CoinTaxesModel", name := "account", desc := "(I)I" } : Jvm.MethodName) ({ cls := "CoinTaxesModel", name := "account", desc := "(I)I" } : Jvm.MethodName)) ∈ lw_all := lw_g (lw_at lw_m12 182 rfl) rfl
theorem q2913 : (Jvm.Cond.code ({ cls := "CoinTaxesModel", name := "account", desc := "(I)I" } : Jvm.MethodName) prog_12_method_73_code (2 : Nat) (Option.some Jvm.ClassFile.FieldType.int)) ∈ lw_all := lw_g (lw_at lw_m12 183 rfl) rfl
theorem q2915 : (Jvm.Cond.instanceMethod ({ cls := "CoinTaxesModel", name := "isBalanced", desc := "()Z" } : Jvm.MethodName)) ∈ lw_all := lw_g (lw_at lw_m12 185 rfl) rfl
theorem q2916 : (Jvm.Cond.selects "CoinTaxesModel" ({ cls := "CoinTaxesModel", name := "isBalanced", desc := "()Z" } : Jvm.MethodName) ({ cls := "CoinTaxesModel", name := "isBalanced", desc := "()Z" } : Jvm.MethodName)) ∈ lw_all := lw_g (lw_at lw_m12 186 rfl) rfl
theorem q2917 : (Jvm.Cond.code ({ cls := "CoinTaxesModel", name := "isBalanced", desc := "()Z" } : Jvm.MethodName) prog_12_method_74_code (1 : Nat) (Option.some Jvm.ClassFile.FieldType.boolean)) ∈ lw_all := lw_g (lw_at lw_m12 187 rfl) rfl
theorem q2919 : (Jvm.Cond.instanceMethod ({ cls := "CoinTaxesModel", name := "line", desc := "(I)I" } : Jvm.MethodName)) ∈ lw_all := lw_g (lw_at lw_m12 189 rfl) rfl
theorem q2920 : (Jvm.Cond.selects "CoinTaxesModel" ({ cls := "CoinTaxesModel", name := "line", desc := "(I)I" } : Jvm.MethodName) ({ cls := "CoinTaxesModel", name := "line", desc := "(I)I" } : Jvm.MethodName)) ∈ lw_all := lw_g (lw_at lw_m12 190 rfl) rfl
theorem q2921 : (Jvm.Cond.code ({ cls := "CoinTaxesModel", name := "line", desc := "(I)I" } : Jvm.MethodName) prog_12_method_77_code (5 : Nat) (Option.some Jvm.ClassFile.FieldType.int)) ∈ lw_all := lw_g (lw_at lw_m12 191 rfl) rfl
theorem q2922 : (Jvm.Cond.methodLink "CoinTaxesModel" (217 : Nat) ({ cls := "CoinTaxesModel", name := "writesNumber", desc := "(II)I" } : Jvm.MethodName)) ∈ lw_all := lw_g (lw_at lw_m12 192 rfl) rfl
theorem q2923 : (Jvm.Cond.privateMethod ({ cls := "CoinTaxesModel", name := "writesNumber", desc := "(II)I" } : Jvm.MethodName)) ∈ lw_tbl := lw_at lw_m12 193 rfl
theorem q2924 : (Jvm.Cond.instanceMethod ({ cls := "CoinTaxesModel", name := "writesNumber", desc := "(II)I" } : Jvm.MethodName)) ∈ lw_all := lw_g (lw_at lw_m12 194 rfl) rfl
theorem q2925 : (Jvm.Cond.code ({ cls := "CoinTaxesModel", name := "writesNumber", desc := "(II)I" } : Jvm.MethodName) prog_12_method_76_code (5 : Nat) (Option.some Jvm.ClassFile.FieldType.int)) ∈ lw_all := lw_g (lw_at lw_m12 195 rfl) rfl
theorem q2926 : (Jvm.Cond.methodLink "CoinTaxesModel" (214 : Nat) ({ cls := "CoinTaxesModel", name := "put", desc := "(II)I" } : Jvm.MethodName)) ∈ lw_all := lw_g (lw_at lw_m12 196 rfl) rfl
theorem q2927 : (Jvm.Cond.privateMethod ({ cls := "CoinTaxesModel", name := "put", desc := "(II)I" } : Jvm.MethodName)) ∈ lw_tbl := lw_at lw_m12 197 rfl
theorem q2928 : (Jvm.Cond.instanceMethod ({ cls := "CoinTaxesModel", name := "put", desc := "(II)I" } : Jvm.MethodName)) ∈ lw_all := lw_g (lw_at lw_m12 198 rfl) rfl
theorem q2929 : (Jvm.Cond.code ({ cls := "CoinTaxesModel", name := "put", desc := "(II)I" } : Jvm.MethodName) prog_12_method_75_code (3 : Nat) (Option.some Jvm.ClassFile.FieldType.int)) ∈ lw_all := lw_g (lw_at lw_m12 199 rfl) rfl
theorem q2931 : (Jvm.Cond.instanceMethod ({ cls := "CoinTaxesModel", name := "bracketLine", desc := "()I" } : Jvm.MethodName)) ∈ lw_all := lw_g (lw_at lw_m12 201 rfl) rfl
theorem q2932 : (Jvm.Cond.selects "CoinTaxesModel" ({ cls := "CoinTaxesModel", name := "bracketLine", desc := "()I" } : Jvm.MethodName) ({ cls := "CoinTaxesModel", name := "bracketLine", desc := "()I" } : Jvm.MethodName)) ∈ lw_all := lw_g (lw_at lw_m12 202 rfl) rfl
theorem q2933 : (Jvm.Cond.code ({ cls := "CoinTaxesModel", name := "bracketLine", desc := "()I" } : Jvm.MethodName) prog_12_method_78_code (3 : Nat) (Option.some Jvm.ClassFile.FieldType.int)) ∈ lw_all := lw_g (lw_at lw_m12 203 rfl) rfl
theorem q2935 : (Jvm.Cond.instanceMethod ({ cls := "CoinTaxesModel", name := "character", desc := "(I)C" } : Jvm.MethodName)) ∈ lw_all := lw_g (lw_at lw_m12 205 rfl) rfl
theorem q2936 : (Jvm.Cond.selects "CoinTaxesModel" ({ cls := "CoinTaxesModel", name := "character", desc := "(I)C" } : Jvm.MethodName) ({ cls := "CoinTaxesModel", name := "character", desc := "(I)C" } : Jvm.MethodName)) ∈ lw_all := lw_g (lw_at lw_m12 206 rfl) rfl
theorem q2937 : (Jvm.Cond.code ({ cls := "CoinTaxesModel", name := "character", desc := "(I)C" } : Jvm.MethodName) prog_12_method_79_code (2 : Nat) (Option.some Jvm.ClassFile.FieldType.char)) ∈ lw_all := lw_g (lw_at lw_m12 207 rfl) rfl
theorem q2939 : (Jvm.Cond.instanceMethod ({ cls := "CoinTaxesModel", name := "feed", desc := "(C)I" } : Jvm.MethodName)) ∈ lw_all := lw_g (lw_at lw_m12 209 rfl) rfl
theorem q2940 : (Jvm.Cond.selects "CoinTaxesModel" ({ cls := "CoinTaxesModel", name := "feed", desc := "(C)I" } : Jvm.MethodName) ({ cls := "CoinTaxesModel", name := "feed", desc := "(C)I" } : Jvm.MethodName)) ∈ lw_all := lw_g (lw_at lw_m12 210 rfl) rfl
theorem q2941 : (Jvm.Cond.code ({ cls := "CoinTaxesModel", name := "feed", desc := "(C)I" } : Jvm.MethodName) prog_12_method_81_code (2 : Nat) (Option.some Jvm.ClassFile.FieldType.int)) ∈ lw_all := lw_g (lw_at lw_m12 211 rfl) rfl
theorem q2943 : (Jvm.Cond.instanceMethod ({ cls := "CoinTaxesModel", name := "run", desc := "()I" } : Jvm.MethodName)) ∈ lw_all := lw_g (lw_at lw_m12 213 rfl) rfl
theorem q2944 : (Jvm.Cond.selects "CoinTaxesModel" ({ cls := "CoinTaxesModel", name := "run", desc := "()I" } : Jvm.MethodName) ({ cls := "CoinTaxesModel", name := "run", desc := "()I" } : Jvm.MethodName)) ∈ lw_all := lw_g (lw_at lw_m12 214 rfl) rfl
theorem q2945 : (Jvm.Cond.code ({ cls := "CoinTaxesModel", name := "run", desc := "()I" } : Jvm.MethodName) prog_12_method_89_code (3 : Nat) (Option.some Jvm.ClassFile.FieldType.int)) ∈ lw_all := lw_g (lw_at lw_m12 215 rfl) rfl
theorem q2946 : (Jvm.Cond.methodLink "CoinTaxesModel" (261 : Nat) ({ cls := "CoinTaxesModel", name := "readsAll", desc := "()V" } : Jvm.MethodName)) ∈ lw_all := lw_g (lw_at lw_m12 216 rfl) rfl
theorem q2947 : (Jvm.Cond.privateMethod ({ cls := "CoinTaxesModel", name := "readsAll", desc := "()V" } : Jvm.MethodName)) ∈ lw_tbl := lw_at lw_m12 217 rfl
theorem q2948 : (Jvm.Cond.instanceMethod ({ cls := "CoinTaxesModel", name := "readsAll", desc := "()V" } : Jvm.MethodName)) ∈ lw_all := lw_g (lw_at lw_m12 218 rfl) rfl
theorem q2949 : (Jvm.Cond.code ({ cls := "CoinTaxesModel", name := "readsAll", desc := "()V" } : Jvm.MethodName) prog_12_method_87_code (2 : Nat) (Option.none : Option Jvm.ClassFile.FieldType)) ∈ lw_all := lw_g (lw_at lw_m12 219 rfl) rfl
theorem q2950 : (Jvm.Cond.methodLink "CoinTaxesModel" (258 : Nat) ({ cls := "CoinTaxesModel", name := "readsCommand", desc := "()V" } : Jvm.MethodName)) ∈ lw_all := lw_g (lw_at lw_m12 220 rfl) rfl
theorem q2951 : (Jvm.Cond.privateMethod ({ cls := "CoinTaxesModel", name := "readsCommand", desc := "()V" } : Jvm.MethodName)) ∈ lw_tbl := lw_at lw_m12 221 rfl
theorem q2952 : (Jvm.Cond.instanceMethod ({ cls := "CoinTaxesModel", name := "readsCommand", desc := "()V" } : Jvm.MethodName)) ∈ lw_all := lw_g (lw_at lw_m12 222 rfl) rfl
theorem q2953 : (Jvm.Cond.code ({ cls := "CoinTaxesModel", name := "readsCommand", desc := "()V" } : Jvm.MethodName) prog_12_method_86_code (3 : Nat) (Option.none : Option Jvm.ClassFile.FieldType)) ∈ lw_all := lw_g (lw_at lw_m12 223 rfl) rfl
theorem q2954 : (Jvm.Cond.methodLink "CoinTaxesModel" (249 : Nat) ({ cls := "CoinTaxesModel", name := "word", desc := "()I" } : Jvm.MethodName)) ∈ lw_all := lw_g (lw_at lw_m12 224 rfl) rfl
theorem q2955 : (Jvm.Cond.privateMethod ({ cls := "CoinTaxesModel", name := "word", desc := "()I" } : Jvm.MethodName)) ∈ lw_tbl := lw_at lw_m12 225 rfl
theorem q2956 : (Jvm.Cond.instanceMethod ({ cls := "CoinTaxesModel", name := "word", desc := "()I" } : Jvm.MethodName)) ∈ lw_all := lw_g (lw_at lw_m12 226 rfl) rfl
theorem q2957 : (Jvm.Cond.code ({ cls := "CoinTaxesModel", name := "word", desc := "()I" } : Jvm.MethodName) prog_12_method_85_code (6 : Nat) (Option.some Jvm.ClassFile.FieldType.int)) ∈ lw_all := lw_g (lw_at lw_m12 227 rfl) rfl
theorem q2958 : (Jvm.Cond.methodLink "CoinTaxesModel" (238 : Nat) ({ cls := "CoinTaxesModel", name := "begin", desc := "(I)I" } : Jvm.MethodName)) ∈ lw_all := lw_g (lw_at lw_m12 228 rfl) rfl
theorem q2959 : (Jvm.Cond.static ({ cls := "CoinTaxesModel", name := "begin", desc := "(I)I" } : Jvm.MethodName)) ∈ lw_all := lw_g (lw_at lw_m12 229 rfl) rfl
theorem q2960 : (Jvm.Cond.code ({ cls := "CoinTaxesModel", name := "begin", desc := "(I)I" } : Jvm.MethodName) prog_12_method_80_code (1 : Nat) (Option.some Jvm.ClassFile.FieldType.int)) ∈ lw_all := lw_g (lw_at lw_m12 230 rfl) rfl
theorem q2961 : (Jvm.Cond.stringRef "CoinTaxesModel" (241 : Nat) "earnclaimprovebracketratecapdropyear") ∈ lw_tbl := lw_at lw_m12 231 rfl
theorem q2962 : (Jvm.Cond.methodLink "CoinTaxesModel" (243 : Nat) ({ cls := "java/lang/String", name := "charAt", desc := "(I)C" } : Jvm.MethodName)) ∈ lw_all := lw_g (lw_at lw_m12 232 rfl) rfl
theorem q2963 : (Jvm.Cond.methodLink "CoinTaxesModel" (255 : Nat) ({ cls := "CoinTaxesModel", name := "number", desc := "(II)I" } : Jvm.MethodName)) ∈ lw_all := lw_g (lw_at lw_m12 233 rfl) rfl
theorem q2964 : (Jvm.Cond.privateMethod ({ cls := "CoinTaxesModel", name := "number", desc := "(II)I" } : Jvm.MethodName)) ∈ lw_tbl := lw_at lw_m12 234 rfl
theorem q2965 : (Jvm.Cond.instanceMethod ({ cls := "CoinTaxesModel", name := "number", desc := "(II)I" } : Jvm.MethodName)) ∈ lw_all := lw_g (lw_at lw_m12 235 rfl) rfl
theorem q2966 : (Jvm.Cond.code ({ cls := "CoinTaxesModel", name := "number", desc := "(II)I" } : Jvm.MethodName) prog_12_method_84_code (6 : Nat) (Option.some Jvm.ClassFile.FieldType.int)) ∈ lw_all := lw_g (lw_at lw_m12 236 rfl) rfl
theorem q2967 : (Jvm.Cond.methodLink "CoinTaxesModel" (235 : Nat) ({ cls := "CoinTaxesModel", name := "takes", desc := "(II)I" } : Jvm.MethodName)) ∈ lw_all := lw_g (lw_at lw_m12 237 rfl) rfl
theorem q2968 : (Jvm.Cond.privateMethod ({ cls := "CoinTaxesModel", name := "takes", desc := "(II)I" } : Jvm.MethodName)) ∈ lw_tbl := lw_at lw_m12 238 rfl
theorem q2969 : (Jvm.Cond.instanceMethod ({ cls := "CoinTaxesModel", name := "takes", desc := "(II)I" } : Jvm.MethodName)) ∈ lw_all := lw_g (lw_at lw_m12 239 rfl) rfl
theorem q2970 : (Jvm.Cond.code ({ cls := "CoinTaxesModel", name := "takes", desc := "(II)I" } : Jvm.MethodName) prog_12_method_83_code (3 : Nat) (Option.some Jvm.ClassFile.FieldType.int)) ∈ lw_all := lw_g (lw_at lw_m13 0 rfl) rfl
theorem q2971 : (Jvm.Cond.methodLink "CoinTaxesModel" (232 : Nat) ({ cls := "CoinTaxesModel", name := "sign", desc := "()I" } : Jvm.MethodName)) ∈ lw_all := lw_g (lw_at lw_m13 1 rfl) rfl
theorem q2972 : (Jvm.Cond.privateMethod ({ cls := "CoinTaxesModel", name := "sign", desc := "()I" } : Jvm.MethodName)) ∈ lw_tbl := lw_at lw_m13 2 rfl
theorem q2973 : (Jvm.Cond.instanceMethod ({ cls := "CoinTaxesModel", name := "sign", desc := "()I" } : Jvm.MethodName)) ∈ lw_all := lw_g (lw_at lw_m13 3 rfl) rfl
theorem q2974 : (Jvm.Cond.code ({ cls := "CoinTaxesModel", name := "sign", desc := "()I" } : Jvm.MethodName) prog_12_method_82_code (1 : Nat) (Option.some Jvm.ClassFile.FieldType.int)) ∈ lw_all := lw_g (lw_at lw_m13 4 rfl) rfl
theorem q2975 : (Jvm.Cond.methodLink "CoinTaxesModel" (264 : Nat) ({ cls := "CoinTaxesModel", name := "does", desc := "(I)I" } : Jvm.MethodName)) ∈ lw_all := lw_g (lw_at lw_m13 5 rfl) rfl
theorem q2976 : (Jvm.Cond.privateMethod ({ cls := "CoinTaxesModel", name := "does", desc := "(I)I" } : Jvm.MethodName)) ∈ lw_tbl := lw_at lw_m13 6 rfl
theorem q2977 : (Jvm.Cond.instanceMethod ({ cls := "CoinTaxesModel", name := "does", desc := "(I)I" } : Jvm.MethodName)) ∈ lw_all := lw_g (lw_at lw_m13 7 rfl) rfl
theorem q2978 : (Jvm.Cond.code ({ cls := "CoinTaxesModel", name := "does", desc := "(I)I" } : Jvm.MethodName) prog_12_method_88_code (4 : Nat) (Option.some Jvm.ClassFile.FieldType.int)) ∈ lw_all := lw_g (lw_at lw_m13 8 rfl) rfl
theorem q2980 : (Jvm.Cond.instanceMethod ({ cls := "CoinTaxesModel", name := "faultPosition", desc := "()I" } : Jvm.MethodName)) ∈ lw_all := lw_g (lw_at lw_m13 10 rfl) rfl
theorem q2981 : (Jvm.Cond.selects "CoinTaxesModel" ({ cls := "CoinTaxesModel", name := "faultPosition", desc := "()I" } : Jvm.MethodName) ({ cls := "CoinTaxesModel", name := "faultPosition", desc := "()I" } : Jvm.MethodName)) ∈ lw_all := lw_g (lw_at lw_m13 11 rfl) rfl
theorem q2982 : (Jvm.Cond.code ({ cls := "CoinTaxesModel", name := "faultPosition", desc := "()I" } : Jvm.MethodName) prog_12_method_90_code (1 : Nat) (Option.some Jvm.ClassFile.FieldType.int)) ∈ lw_all := lw_g (lw_at lw_m13 12 rfl) rfl
theorem q3015 : (Jvm.Cond.castable "CoinTaxesModel" "java/lang/Object") ∈ lw_tbl := lw_at lw_m13 45 rfl
theorem in_X5 : ∀ w ∈ wsX50, w ∈ lw_all := lw_in wsX50 [2578, 2580, 2582, 2584, 2586, 2588, 2590, 2592, 2594, 2596, 2598, 2600, 2602, 2604, 2606, 2608, 2610, 2612, 2614, 2616, 2618, 2620, 2622, 2624] (by decide +kernel) (by decide +kernel)
