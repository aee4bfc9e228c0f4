/-! CoinTaxes$Order -/
set_option maxRecDepth 100000
def RX6 : String := "CoinTaxes$Order"
def TX6 : u_T := fun k => match k with
  | 0 => ("CoinTaxes$Order", "word", "Ljava/lang/String;", true)
  | 1 => ("CoinTaxes$Order", "first", "I", true)
  | 2 => ("CoinTaxes$Order", "second", "I", true)
  | 3 => ("CoinTaxes$Order", "third", "I", true)
  | _ => ("CoinTaxes$Order", "isProved", "Z", true)
def tyX6 : Nat → FieldType := fun k => match k with
  | 0 => .object "java/lang/String"
  | 1 => .int
  | 2 => .int
  | 3 => .int
  | _ => .boolean
abbrev wsX60 : List Cond := u_ws RX6 TX6 5
theorem nmX6 : ∀ a, a < 5 → ∀ b, b < 5 → a ≠ b → (TX6 a).2.1 ≠ (TX6 b).2.1 := by decide +kernel
theorem tyX6_ok : ∀ k, k < 5 → parseFieldDescriptor (TX6 k).2.2.1 = some (tyX6 k) := by decide +kernel
abbrev cX6_init : ByteArray := prog_7_method_2_code
def yX6_init : MethodName := ⟨RX6, "<init>", "(Ljava/lang/String;III)V"⟩
def dkwX6_init_0 : List UInt8 := [42, 43, 28, 29, 21, 4, 3, 183, 0, 27, 177]
abbrev dktX6_init_0 : List UInt8 := dkwX6_init_0 ++ []
theorem dksX6_init_0 : cX6_init.data.toList.drop 0 = dktX6_init_0 := by decide +kernel
theorem dX6_init_0 : decode cX6_init 0 = .ok (.aload_n 0, 1) := dk_42 (dk_at dksX6_init_0 0 rfl rfl)
theorem dX6_init_1 : decode cX6_init 1 = .ok (.aload_n 1, 1) := dk_43 (dk_at dksX6_init_0 1 rfl rfl)
theorem dX6_init_2 : decode cX6_init 2 = .ok (.iload_n 2, 1) := dk_28 (dk_at dksX6_init_0 2 rfl rfl)
theorem dX6_init_3 : decode cX6_init 3 = .ok (.iload_n 3, 1) := dk_29 (dk_at dksX6_init_0 3 rfl rfl)
theorem dX6_init_4 : decode cX6_init 4 = .ok (.iload 4, 2) := dk_21 4 (dk_at dksX6_init_0 4 rfl rfl)
theorem dX6_init_6 : decode cX6_init 6 = .ok (.iconst 0, 1) := dk_3 (dk_at dksX6_init_0 6 rfl rfl)
theorem dX6_init_7 : decode cX6_init 7 = .ok (.invokespecial 27, 3) := dk_183 0 27 (dk_at dksX6_init_0 7 rfl rfl)
theorem dX6_init_10 : decode cX6_init 10 = .ok (.return_, 1) := dk_177 (dk_at dksX6_init_0 10 rfl rfl)
abbrev cX6_init_2 : ByteArray := prog_7_method_1_code
def yX6_init_2 : MethodName := ⟨RX6, "<init>", "(Ljava/lang/String;IIIZ)V"⟩
def dkwX6_init_2_1 : List UInt8 := [181, 0, 20, 42, 21, 5, 181, 0, 23, 177]
abbrev dktX6_init_2_1 : List UInt8 := dkwX6_init_2_1 ++ []
def dkwX6_init_2_0 : List UInt8 := [42, 183, 0, 1, 42, 43, 181, 0, 7, 42, 28, 181, 0, 13, 42, 29, 181, 0, 17, 42, 21, 4]
abbrev dktX6_init_2_0 : List UInt8 := dkwX6_init_2_0 ++ dktX6_init_2_1
theorem dksX6_init_2_0 : cX6_init_2.data.toList.drop 0 = dktX6_init_2_0 := by decide +kernel
theorem dksX6_init_2_1 : cX6_init_2.data.toList.drop 22 = dktX6_init_2_1 := dk_seg dksX6_init_2_0 22 rfl rfl
theorem dX6_init_2_0 : decode cX6_init_2 0 = .ok (.aload_n 0, 1) := dk_42 (dk_at dksX6_init_2_0 0 rfl rfl)
theorem dX6_init_2_1 : decode cX6_init_2 1 = .ok (.invokespecial 1, 3) := dk_183 0 1 (dk_at dksX6_init_2_0 1 rfl rfl)
theorem dX6_init_2_4 : decode cX6_init_2 4 = .ok (.aload_n 0, 1) := dk_42 (dk_at dksX6_init_2_0 4 rfl rfl)
theorem dX6_init_2_5 : decode cX6_init_2 5 = .ok (.aload_n 1, 1) := dk_43 (dk_at dksX6_init_2_0 5 rfl rfl)
theorem dX6_init_2_6 : decode cX6_init_2 6 = .ok (.putfield 7, 3) := dk_181 0 7 (dk_at dksX6_init_2_0 6 rfl rfl)
theorem dX6_init_2_9 : decode cX6_init_2 9 = .ok (.aload_n 0, 1) := dk_42 (dk_at dksX6_init_2_0 9 rfl rfl)
theorem dX6_init_2_10 : decode cX6_init_2 10 = .ok (.iload_n 2, 1) := dk_28 (dk_at dksX6_init_2_0 10 rfl rfl)
theorem dX6_init_2_11 : decode cX6_init_2 11 = .ok (.putfield 13, 3) := dk_181 0 13 (dk_at dksX6_init_2_0 11 rfl rfl)
theorem dX6_init_2_14 : decode cX6_init_2 14 = .ok (.aload_n 0, 1) := dk_42 (dk_at dksX6_init_2_0 14 rfl rfl)
theorem dX6_init_2_15 : decode cX6_init_2 15 = .ok (.iload_n 3, 1) := dk_29 (dk_at dksX6_init_2_0 15 rfl rfl)
theorem dX6_init_2_16 : decode cX6_init_2 16 = .ok (.putfield 17, 3) := dk_181 0 17 (dk_at dksX6_init_2_0 16 rfl rfl)
theorem dX6_init_2_19 : decode cX6_init_2 19 = .ok (.aload_n 0, 1) := dk_42 (dk_at dksX6_init_2_0 19 rfl rfl)
theorem dX6_init_2_20 : decode cX6_init_2 20 = .ok (.iload 4, 2) := dk_21 4 (dk_at dksX6_init_2_0 20 rfl rfl)
theorem dX6_init_2_22 : decode cX6_init_2 22 = .ok (.putfield 20, 3) := dk_181 0 20 (dk_at dksX6_init_2_1 0 rfl rfl)
theorem dX6_init_2_25 : decode cX6_init_2 25 = .ok (.aload_n 0, 1) := dk_42 (dk_at dksX6_init_2_1 3 rfl rfl)
theorem dX6_init_2_26 : decode cX6_init_2 26 = .ok (.iload 5, 2) := dk_21 5 (dk_at dksX6_init_2_1 4 rfl rfl)
theorem dX6_init_2_28 : decode cX6_init_2 28 = .ok (.putfield 23, 3) := dk_181 0 23 (dk_at dksX6_init_2_1 6 rfl rfl)
theorem dX6_init_2_31 : decode cX6_init_2 31 = .ok (.return_, 1) := dk_177 (dk_at dksX6_init_2_1 9 rfl rfl)
abbrev cX6_does : ByteArray := prog_7_method_3_code
def yX6_does : MethodName := ⟨RX6, "does", "(LCoinTaxes$Office;)I"⟩
def dkwX6_does_14 : List UInt8 := [182, 0, 91, 172]
abbrev dktX6_does_14 : List UInt8 := dkwX6_does_14 ++ []
def dkwX6_does_13 : List UInt8 := [42, 180, 0, 23, 182, 0, 84, 172, 43, 42, 180, 0, 13, 42, 180, 0, 17, 182, 0, 88, 172, 43]
abbrev dktX6_does_13 : List UInt8 := dkwX6_does_13 ++ dktX6_does_14
def dkwX6_does_12 : List UInt8 := [180, 0, 13, 42, 180, 0, 17, 182, 0, 81, 172, 43, 42, 180, 0, 13, 42, 180, 0, 17, 42, 180, 0, 20]
abbrev dktX6_does_12 : List UInt8 := dkwX6_does_12 ++ dktX6_does_13
def dkwX6_does_11 : List UInt8 := [182, 0, 71, 172, 43, 42, 180, 0, 13, 42, 180, 0, 17, 182, 0, 75, 172, 43, 182, 0, 78, 172, 43, 42]
abbrev dktX6_does_11 : List UInt8 := dkwX6_does_11 ++ dktX6_does_12
def dkwX6_does_10 : List UInt8 := [180, 0, 13, 42, 180, 0, 17, 182, 0, 68, 172, 43, 42, 180, 0, 13, 42, 180, 0, 17, 42, 180, 0, 20]
abbrev dktX6_does_10 : List UInt8 := dkwX6_does_10 ++ dktX6_does_11
def dkwX6_does_9 : List UInt8 := [43, 42, 180, 0, 13, 42, 180, 0, 17, 182, 0, 58, 172, 43, 42, 180, 0, 13, 182, 0, 64, 172, 43, 42]
abbrev dktX6_does_9 : List UInt8 := dkwX6_does_9 ++ dktX6_does_10
def dkwX6_does_8 : List UInt8 := [170, 0, 0, 0, 166, 0, 0, 0, 0, 0, 0, 0, 8, 0, 0, 0, 49, 0, 0, 0, 62, 0, 0, 0, 71, 0, 0, 0, 84, 0, 0, 0, 101, 0, 0, 0, 114, 0, 0, 0, 119, 0, 0, 0, 132, 0, 0, 0, 153]
abbrev dktX6_does_8 : List UInt8 := dkwX6_does_8 ++ dktX6_does_9
def dkwX6_does_7 : List UInt8 := [182, 0, 38, 153, 0, 6, 16, 8, 62, 29]
abbrev dktX6_does_7 : List UInt8 := dkwX6_does_7 ++ dktX6_does_8
def dkwX6_does_6 : List UInt8 := [62, 167, 0, 30, 44, 18, 54, 182, 0, 38, 153, 0, 21, 16, 7, 62, 167, 0, 15, 44, 18, 56]
abbrev dktX6_does_6 : List UInt8 := dkwX6_does_6 ++ dktX6_does_7
def dkwX6_does_5 : List UInt8 := [18, 50, 182, 0, 38, 153, 0, 50, 8, 62, 167, 0, 45, 44, 18, 52, 182, 0, 38, 153, 0, 36, 16, 6]
abbrev dktX6_does_5 : List UInt8 := dkwX6_does_5 ++ dktX6_does_6
def dkwX6_does_4 : List UInt8 := [153, 0, 78, 6, 62, 167, 0, 73, 44, 18, 48, 182, 0, 38, 153, 0, 64, 7, 62, 167, 0, 59, 44]
abbrev dktX6_does_4 : List UInt8 := dkwX6_does_4 ++ dktX6_does_5
def dkwX6_does_3 : List UInt8 := [62, 167, 0, 101, 44, 18, 44, 182, 0, 38, 153, 0, 92, 5, 62, 167, 0, 87, 44, 18, 46, 182, 0, 38]
abbrev dktX6_does_3 : List UInt8 := dkwX6_does_3 ++ dktX6_does_4
def dkwX6_does_2 : List UInt8 := [44, 18, 36, 182, 0, 38, 153, 0, 120, 3, 62, 167, 0, 115, 44, 18, 42, 182, 0, 38, 153, 0, 106, 4]
abbrev dktX6_does_2 : List UInt8 := dkwX6_does_2 ++ dktX6_does_3
def dkwX6_does_1 : List UInt8 := [171, 0, 0, 0, 207, 0, 0, 0, 9, 175, 101, 170, 249, 0, 0, 0, 123, 0, 1, 127, 210, 0, 0, 0, 137, 0, 47, 46, 239, 0, 0, 0, 95, 0, 47, 99, 216, 0, 0, 0, 165, 0, 53, 76, 224, 0, 0, 0, 109, 5, 165, 168, 60, 0, 0, 0, 180, 6, 95, 202, 28, 0, 0, 0, 195, 8, 48, 172, 168, 0, 0, 0, 81, 46, 201, 251, 104, 0, 0, 0, 151]
abbrev dktX6_does_1 : List UInt8 := dkwX6_does_1 ++ dktX6_does_2
def dkwX6_does_0 : List UInt8 := [42, 180, 0, 7, 77, 2, 62, 44, 182, 0, 30]
abbrev dktX6_does_0 : List UInt8 := dkwX6_does_0 ++ dktX6_does_1
theorem dksX6_does_0 : cX6_does.data.toList.drop 0 = dktX6_does_0 := by decide +kernel
theorem dksX6_does_1 : cX6_does.data.toList.drop 11 = dktX6_does_1 := dk_seg dksX6_does_0 11 rfl rfl
theorem dksX6_does_2 : cX6_does.data.toList.drop 92 = dktX6_does_2 := dk_seg dksX6_does_1 81 rfl rfl
theorem dksX6_does_3 : cX6_does.data.toList.drop 116 = dktX6_does_3 := dk_seg dksX6_does_2 24 rfl rfl
theorem dksX6_does_4 : cX6_does.data.toList.drop 140 = dktX6_does_4 := dk_seg dksX6_does_3 24 rfl rfl
theorem dksX6_does_5 : cX6_does.data.toList.drop 163 = dktX6_does_5 := dk_seg dksX6_does_4 23 rfl rfl
theorem dksX6_does_6 : cX6_does.data.toList.drop 187 = dktX6_does_6 := dk_seg dksX6_does_5 24 rfl rfl
theorem dksX6_does_7 : cX6_does.data.toList.drop 209 = dktX6_does_7 := dk_seg dksX6_does_6 22 rfl rfl
theorem dksX6_does_8 : cX6_does.data.toList.drop 219 = dktX6_does_8 := dk_seg dksX6_does_7 10 rfl rfl
theorem dksX6_does_9 : cX6_does.data.toList.drop 268 = dktX6_does_9 := dk_seg dksX6_does_8 49 rfl rfl
theorem dksX6_does_10 : cX6_does.data.toList.drop 292 = dktX6_does_10 := dk_seg dksX6_does_9 24 rfl rfl
theorem dksX6_does_11 : cX6_does.data.toList.drop 316 = dktX6_does_11 := dk_seg dksX6_does_10 24 rfl rfl
theorem dksX6_does_12 : cX6_does.data.toList.drop 340 = dktX6_does_12 := dk_seg dksX6_does_11 24 rfl rfl
theorem dksX6_does_13 : cX6_does.data.toList.drop 364 = dktX6_does_13 := dk_seg dksX6_does_12 24 rfl rfl
theorem dksX6_does_14 : cX6_does.data.toList.drop 386 = dktX6_does_14 := dk_seg dksX6_does_13 22 rfl rfl
theorem dX6_does_0 : decode cX6_does 0 = .ok (.aload_n 0, 1) := dk_42 (dk_at dksX6_does_0 0 rfl rfl)
theorem dX6_does_1 : decode cX6_does 1 = .ok (.getfield 7, 3) := dk_180 0 7 (dk_at dksX6_does_0 1 rfl rfl)
theorem dX6_does_4 : decode cX6_does 4 = .ok (.astore_n 2, 1) := dk_77 (dk_at dksX6_does_0 4 rfl rfl)
theorem dX6_does_5 : decode cX6_does 5 = .ok (.iconst (-1), 1) := dk_2 (dk_at dksX6_does_0 5 rfl rfl)
theorem dX6_does_6 : decode cX6_does 6 = .ok (.istore_n 3, 1) := dk_62 (dk_at dksX6_does_0 6 rfl rfl)
theorem dX6_does_7 : decode cX6_does 7 = .ok (.aload_n 2, 1) := dk_44 (dk_at dksX6_does_0 7 rfl rfl)
theorem dX6_does_8 : decode cX6_does 8 = .ok (.invokevirtual 30, 3) := dk_182 0 30 (dk_at dksX6_does_0 8 rfl rfl)
theorem dX6_does_11 : decode cX6_does 11 = .ok (.lookupswitch 207 #[(-1352291591, 123), (98258, 137), (3092207, 95), (3105752, 165), (3493088, 109), (94742588, 180), (106940956, 195), (137407656, 81), (784989032, 151)], 81) := by decide +kernel
theorem dX6_does_92 : decode cX6_does 92 = .ok (.aload_n 2, 1) := dk_44 (dk_at dksX6_does_2 0 rfl rfl)
theorem dX6_does_93 : decode cX6_does 93 = .ok (.ldc 36, 2) := dk_18 36 (dk_at dksX6_does_2 1 rfl rfl)
theorem dX6_does_95 : decode cX6_does 95 = .ok (.invokevirtual 38, 3) := dk_182 0 38 (dk_at dksX6_does_2 3 rfl rfl)
theorem dX6_does_98 : decode cX6_does 98 = .ok (.ifCond .eq 120, 3) := dk_153 0 120 (dk_at dksX6_does_2 6 rfl rfl)
theorem dX6_does_101 : decode cX6_does 101 = .ok (.iconst 0, 1) := dk_3 (dk_at dksX6_does_2 9 rfl rfl)
theorem dX6_does_102 : decode cX6_does 102 = .ok (.istore_n 3, 1) := dk_62 (dk_at dksX6_does_2 10 rfl rfl)
theorem dX6_does_103 : decode cX6_does 103 = .ok (.goto 115, 3) := dk_167 0 115 (dk_at dksX6_does_2 11 rfl rfl)
theorem dX6_does_106 : decode cX6_does 106 = .ok (.aload_n 2, 1) := dk_44 (dk_at dksX6_does_2 14 rfl rfl)
theorem dX6_does_107 : decode cX6_does 107 = .ok (.ldc 42, 2) := dk_18 42 (dk_at dksX6_does_2 15 rfl rfl)
theorem dX6_does_109 : decode cX6_does 109 = .ok (.invokevirtual 38, 3) := dk_182 0 38 (dk_at dksX6_does_2 17 rfl rfl)
theorem dX6_does_112 : decode cX6_does 112 = .ok (.ifCond .eq 106, 3) := dk_153 0 106 (dk_at dksX6_does_2 20 rfl rfl)
theorem dX6_does_115 : decode cX6_does 115 = .ok (.iconst 1, 1) := dk_4 (dk_at dksX6_does_2 23 rfl rfl)
theorem dX6_does_116 : decode cX6_does 116 = .ok (.istore_n 3, 1) := dk_62 (dk_at dksX6_does_3 0 rfl rfl)
theorem dX6_does_117 : decode cX6_does 117 = .ok (.goto 101, 3) := dk_167 0 101 (dk_at dksX6_does_3 1 rfl rfl)
theorem dX6_does_120 : decode cX6_does 120 = .ok (.aload_n 2, 1) := dk_44 (dk_at dksX6_does_3 4 rfl rfl)
theorem dX6_does_121 : decode cX6_does 121 = .ok (.ldc 44, 2) := dk_18 44 (dk_at dksX6_does_3 5 rfl rfl)
theorem dX6_does_123 : decode cX6_does 123 = .ok (.invokevirtual 38, 3) := dk_182 0 38 (dk_at dksX6_does_3 7 rfl rfl)
theorem dX6_does_126 : decode cX6_does 126 = .ok (.ifCond .eq 92, 3) := dk_153 0 92 (dk_at dksX6_does_3 10 rfl rfl)
theorem dX6_does_129 : decode cX6_does 129 = .ok (.iconst 2, 1) := dk_5 (dk_at dksX6_does_3 13 rfl rfl)
theorem dX6_does_130 : decode cX6_does 130 = .ok (.istore_n 3, 1) := dk_62 (dk_at dksX6_does_3 14 rfl rfl)
theorem dX6_does_131 : decode cX6_does 131 = .ok (.goto 87, 3) := dk_167 0 87 (dk_at dksX6_does_3 15 rfl rfl)
theorem dX6_does_134 : decode cX6_does 134 = .ok (.aload_n 2, 1) := dk_44 (dk_at dksX6_does_3 18 rfl rfl)
theorem dX6_does_135 : decode cX6_does 135 = .ok (.ldc 46, 2) := dk_18 46 (dk_at dksX6_does_3 19 rfl rfl)
theorem dX6_does_137 : decode cX6_does 137 = .ok (.invokevirtual 38, 3) := dk_182 0 38 (dk_at dksX6_does_3 21 rfl rfl)
theorem dX6_does_140 : decode cX6_does 140 = .ok (.ifCond .eq 78, 3) := dk_153 0 78 (dk_at dksX6_does_4 0 rfl rfl)
theorem dX6_does_143 : decode cX6_does 143 = .ok (.iconst 3, 1) := dk_6 (dk_at dksX6_does_4 3 rfl rfl)
theorem dX6_does_144 : decode cX6_does 144 = .ok (.istore_n 3, 1) := dk_62 (dk_at dksX6_does_4 4 rfl rfl)
theorem dX6_does_145 : decode cX6_does 145 = .ok (.goto 73, 3) := dk_167 0 73 (dk_at dksX6_does_4 5 rfl rfl)
theorem dX6_does_148 : decode cX6_does 148 = .ok (.aload_n 2, 1) := dk_44 (dk_at dksX6_does_4 8 rfl rfl)
theorem dX6_does_149 : decode cX6_does 149 = .ok (.ldc 48, 2) := dk_18 48 (dk_at dksX6_does_4 9 rfl rfl)
theorem dX6_does_151 : decode cX6_does 151 = .ok (.invokevirtual 38, 3) := dk_182 0 38 (dk_at dksX6_does_4 11 rfl rfl)
theorem dX6_does_154 : decode cX6_does 154 = .ok (.ifCond .eq 64, 3) := dk_153 0 64 (dk_at dksX6_does_4 14 rfl rfl)
theorem dX6_does_157 : decode cX6_does 157 = .ok (.iconst 4, 1) := dk_7 (dk_at dksX6_does_4 17 rfl rfl)
theorem dX6_does_158 : decode cX6_does 158 = .ok (.istore_n 3, 1) := dk_62 (dk_at dksX6_does_4 18 rfl rfl)
theorem dX6_does_159 : decode cX6_does 159 = .ok (.goto 59, 3) := dk_167 0 59 (dk_at dksX6_does_4 19 rfl rfl)
theorem dX6_does_162 : decode cX6_does 162 = .ok (.aload_n 2, 1) := dk_44 (dk_at dksX6_does_4 22 rfl rfl)
theorem dX6_does_163 : decode cX6_does 163 = .ok (.ldc 50, 2) := dk_18 50 (dk_at dksX6_does_5 0 rfl rfl)
theorem dX6_does_165 : decode cX6_does 165 = .ok (.invokevirtual 38, 3) := dk_182 0 38 (dk_at dksX6_does_5 2 rfl rfl)
theorem dX6_does_168 : decode cX6_does 168 = .ok (.ifCond .eq 50, 3) := dk_153 0 50 (dk_at dksX6_does_5 5 rfl rfl)
theorem dX6_does_171 : decode cX6_does 171 = .ok (.iconst 5, 1) := dk_8 (dk_at dksX6_does_5 8 rfl rfl)
theorem dX6_does_172 : decode cX6_does 172 = .ok (.istore_n 3, 1) := dk_62 (dk_at dksX6_does_5 9 rfl rfl)
theorem dX6_does_173 : decode cX6_does 173 = .ok (.goto 45, 3) := dk_167 0 45 (dk_at dksX6_does_5 10 rfl rfl)
theorem dX6_does_176 : decode cX6_does 176 = .ok (.aload_n 2, 1) := dk_44 (dk_at dksX6_does_5 13 rfl rfl)
theorem dX6_does_177 : decode cX6_does 177 = .ok (.ldc 52, 2) := dk_18 52 (dk_at dksX6_does_5 14 rfl rfl)
theorem dX6_does_179 : decode cX6_does 179 = .ok (.invokevirtual 38, 3) := dk_182 0 38 (dk_at dksX6_does_5 16 rfl rfl)
theorem dX6_does_182 : decode cX6_does 182 = .ok (.ifCond .eq 36, 3) := dk_153 0 36 (dk_at dksX6_does_5 19 rfl rfl)
theorem dX6_does_185 : decode cX6_does 185 = .ok (.bipush 6, 2) := dk_16 6 (dk_at dksX6_does_5 22 rfl rfl)
theorem dX6_does_187 : decode cX6_does 187 = .ok (.istore_n 3, 1) := dk_62 (dk_at dksX6_does_6 0 rfl rfl)
theorem dX6_does_188 : decode cX6_does 188 = .ok (.goto 30, 3) := dk_167 0 30 (dk_at dksX6_does_6 1 rfl rfl)
theorem dX6_does_191 : decode cX6_does 191 = .ok (.aload_n 2, 1) := dk_44 (dk_at dksX6_does_6 4 rfl rfl)
theorem dX6_does_192 : decode cX6_does 192 = .ok (.ldc 54, 2) := dk_18 54 (dk_at dksX6_does_6 5 rfl rfl)
theorem dX6_does_194 : decode cX6_does 194 = .ok (.invokevirtual 38, 3) := dk_182 0 38 (dk_at dksX6_does_6 7 rfl rfl)
theorem dX6_does_197 : decode cX6_does 197 = .ok (.ifCond .eq 21, 3) := dk_153 0 21 (dk_at dksX6_does_6 10 rfl rfl)
theorem dX6_does_200 : decode cX6_does 200 = .ok (.bipush 7, 2) := dk_16 7 (dk_at dksX6_does_6 13 rfl rfl)
theorem dX6_does_202 : decode cX6_does 202 = .ok (.istore_n 3, 1) := dk_62 (dk_at dksX6_does_6 15 rfl rfl)
theorem dX6_does_203 : decode cX6_does 203 = .ok (.goto 15, 3) := dk_167 0 15 (dk_at dksX6_does_6 16 rfl rfl)
theorem dX6_does_206 : decode cX6_does 206 = .ok (.aload_n 2, 1) := dk_44 (dk_at dksX6_does_6 19 rfl rfl)
theorem dX6_does_207 : decode cX6_does 207 = .ok (.ldc 56, 2) := dk_18 56 (dk_at dksX6_does_6 20 rfl rfl)
theorem dX6_does_209 : decode cX6_does 209 = .ok (.invokevirtual 38, 3) := dk_182 0 38 (dk_at dksX6_does_7 0 rfl rfl)
theorem dX6_does_212 : decode cX6_does 212 = .ok (.ifCond .eq 6, 3) := dk_153 0 6 (dk_at dksX6_does_7 3 rfl rfl)
theorem dX6_does_215 : decode cX6_does 215 = .ok (.bipush 8, 2) := dk_16 8 (dk_at dksX6_does_7 6 rfl rfl)
theorem dX6_does_217 : decode cX6_does 217 = .ok (.istore_n 3, 1) := dk_62 (dk_at dksX6_does_7 8 rfl rfl)
theorem dX6_does_218 : decode cX6_does 218 = .ok (.iload_n 3, 1) := dk_29 (dk_at dksX6_does_7 9 rfl rfl)
theorem dX6_does_219 : decode cX6_does 219 = .ok (.tableswitch 166 0 8 #[49, 62, 71, 84, 101, 114, 119, 132, 153], 49) := by decide +kernel
theorem dX6_does_268 : decode cX6_does 268 = .ok (.aload_n 1, 1) := dk_43 (dk_at dksX6_does_9 0 rfl rfl)
theorem dX6_does_269 : decode cX6_does 269 = .ok (.aload_n 0, 1) := dk_42 (dk_at dksX6_does_9 1 rfl rfl)
theorem dX6_does_270 : decode cX6_does 270 = .ok (.getfield 13, 3) := dk_180 0 13 (dk_at dksX6_does_9 2 rfl rfl)
theorem dX6_does_273 : decode cX6_does 273 = .ok (.aload_n 0, 1) := dk_42 (dk_at dksX6_does_9 5 rfl rfl)
theorem dX6_does_274 : decode cX6_does 274 = .ok (.getfield 17, 3) := dk_180 0 17 (dk_at dksX6_does_9 6 rfl rfl)
theorem dX6_does_277 : decode cX6_does 277 = .ok (.invokevirtual 58, 3) := dk_182 0 58 (dk_at dksX6_does_9 9 rfl rfl)
theorem dX6_does_280 : decode cX6_does 280 = .ok (.ireturn, 1) := dk_172 (dk_at dksX6_does_9 12 rfl rfl)
theorem dX6_does_281 : decode cX6_does 281 = .ok (.aload_n 1, 1) := dk_43 (dk_at dksX6_does_9 13 rfl rfl)
theorem dX6_does_282 : decode cX6_does 282 = .ok (.aload_n 0, 1) := dk_42 (dk_at dksX6_does_9 14 rfl rfl)
theorem dX6_does_283 : decode cX6_does 283 = .ok (.getfield 13, 3) := dk_180 0 13 (dk_at dksX6_does_9 15 rfl rfl)
theorem dX6_does_286 : decode cX6_does 286 = .ok (.invokevirtual 64, 3) := dk_182 0 64 (dk_at dksX6_does_9 18 rfl rfl)
theorem dX6_does_289 : decode cX6_does 289 = .ok (.ireturn, 1) := dk_172 (dk_at dksX6_does_9 21 rfl rfl)
theorem dX6_does_290 : decode cX6_does 290 = .ok (.aload_n 1, 1) := dk_43 (dk_at dksX6_does_9 22 rfl rfl)
theorem dX6_does_291 : decode cX6_does 291 = .ok (.aload_n 0, 1) := dk_42 (dk_at dksX6_does_9 23 rfl rfl)
theorem dX6_does_292 : decode cX6_does 292 = .ok (.getfield 13, 3) := dk_180 0 13 (dk_at dksX6_does_10 0 rfl rfl)
theorem dX6_does_295 : decode cX6_does 295 = .ok (.aload_n 0, 1) := dk_42 (dk_at dksX6_does_10 3 rfl rfl)
theorem dX6_does_296 : decode cX6_does 296 = .ok (.getfield 17, 3) := dk_180 0 17 (dk_at dksX6_does_10 4 rfl rfl)
theorem dX6_does_299 : decode cX6_does 299 = .ok (.invokevirtual 68, 3) := dk_182 0 68 (dk_at dksX6_does_10 7 rfl rfl)
theorem dX6_does_302 : decode cX6_does 302 = .ok (.ireturn, 1) := dk_172 (dk_at dksX6_does_10 10 rfl rfl)
theorem dX6_does_303 : decode cX6_does 303 = .ok (.aload_n 1, 1) := dk_43 (dk_at dksX6_does_10 11 rfl rfl)
theorem dX6_does_304 : decode cX6_does 304 = .ok (.aload_n 0, 1) := dk_42 (dk_at dksX6_does_10 12 rfl rfl)
theorem dX6_does_305 : decode cX6_does 305 = .ok (.getfield 13, 3) := dk_180 0 13 (dk_at dksX6_does_10 13 rfl rfl)
theorem dX6_does_308 : decode cX6_does 308 = .ok (.aload_n 0, 1) := dk_42 (dk_at dksX6_does_10 16 rfl rfl)
theorem dX6_does_309 : decode cX6_does 309 = .ok (.getfield 17, 3) := dk_180 0 17 (dk_at dksX6_does_10 17 rfl rfl)
theorem dX6_does_312 : decode cX6_does 312 = .ok (.aload_n 0, 1) := dk_42 (dk_at dksX6_does_10 20 rfl rfl)
theorem dX6_does_313 : decode cX6_does 313 = .ok (.getfield 20, 3) := dk_180 0 20 (dk_at dksX6_does_10 21 rfl rfl)
theorem dX6_does_316 : decode cX6_does 316 = .ok (.invokevirtual 71, 3) := dk_182 0 71 (dk_at dksX6_does_11 0 rfl rfl)
theorem dX6_does_319 : decode cX6_does 319 = .ok (.ireturn, 1) := dk_172 (dk_at dksX6_does_11 3 rfl rfl)
theorem dX6_does_320 : decode cX6_does 320 = .ok (.aload_n 1, 1) := dk_43 (dk_at dksX6_does_11 4 rfl rfl)
theorem dX6_does_321 : decode cX6_does 321 = .ok (.aload_n 0, 1) := dk_42 (dk_at dksX6_does_11 5 rfl rfl)
theorem dX6_does_322 : decode cX6_does 322 = .ok (.getfield 13, 3) := dk_180 0 13 (dk_at dksX6_does_11 6 rfl rfl)
theorem dX6_does_325 : decode cX6_does 325 = .ok (.aload_n 0, 1) := dk_42 (dk_at dksX6_does_11 9 rfl rfl)
theorem dX6_does_326 : decode cX6_does 326 = .ok (.getfield 17, 3) := dk_180 0 17 (dk_at dksX6_does_11 10 rfl rfl)
theorem dX6_does_329 : decode cX6_does 329 = .ok (.invokevirtual 75, 3) := dk_182 0 75 (dk_at dksX6_does_11 13 rfl rfl)
theorem dX6_does_332 : decode cX6_does 332 = .ok (.ireturn, 1) := dk_172 (dk_at dksX6_does_11 16 rfl rfl)
theorem dX6_does_333 : decode cX6_does 333 = .ok (.aload_n 1, 1) := dk_43 (dk_at dksX6_does_11 17 rfl rfl)
theorem dX6_does_334 : decode cX6_does 334 = .ok (.invokevirtual 78, 3) := dk_182 0 78 (dk_at dksX6_does_11 18 rfl rfl)
theorem dX6_does_337 : decode cX6_does 337 = .ok (.ireturn, 1) := dk_172 (dk_at dksX6_does_11 21 rfl rfl)
theorem dX6_does_338 : decode cX6_does 338 = .ok (.aload_n 1, 1) := dk_43 (dk_at dksX6_does_11 22 rfl rfl)
theorem dX6_does_339 : decode cX6_does 339 = .ok (.aload_n 0, 1) := dk_42 (dk_at dksX6_does_11 23 rfl rfl)
theorem dX6_does_340 : decode cX6_does 340 = .ok (.getfield 13, 3) := dk_180 0 13 (dk_at dksX6_does_12 0 rfl rfl)
theorem dX6_does_343 : decode cX6_does 343 = .ok (.aload_n 0, 1) := dk_42 (dk_at dksX6_does_12 3 rfl rfl)
theorem dX6_does_344 : decode cX6_does 344 = .ok (.getfield 17, 3) := dk_180 0 17 (dk_at dksX6_does_12 4 rfl rfl)
theorem dX6_does_347 : decode cX6_does 347 = .ok (.invokevirtual 81, 3) := dk_182 0 81 (dk_at dksX6_does_12 7 rfl rfl)
theorem dX6_does_350 : decode cX6_does 350 = .ok (.ireturn, 1) := dk_172 (dk_at dksX6_does_12 10 rfl rfl)
theorem dX6_does_351 : decode cX6_does 351 = .ok (.aload_n 1, 1) := dk_43 (dk_at dksX6_does_12 11 rfl rfl)
theorem dX6_does_352 : decode cX6_does 352 = .ok (.aload_n 0, 1) := dk_42 (dk_at dksX6_does_12 12 rfl rfl)
theorem dX6_does_353 : decode cX6_does 353 = .ok (.getfield 13, 3) := dk_180 0 13 (dk_at dksX6_does_12 13 rfl rfl)
theorem dX6_does_356 : decode cX6_does 356 = .ok (.aload_n 0, 1) := dk_42 (dk_at dksX6_does_12 16 rfl rfl)
theorem dX6_does_357 : decode cX6_does 357 = .ok (.getfield 17, 3) := dk_180 0 17 (dk_at dksX6_does_12 17 rfl rfl)
theorem dX6_does_360 : decode cX6_does 360 = .ok (.aload_n 0, 1) := dk_42 (dk_at dksX6_does_12 20 rfl rfl)
theorem dX6_does_361 : decode cX6_does 361 = .ok (.getfield 20, 3) := dk_180 0 20 (dk_at dksX6_does_12 21 rfl rfl)
theorem dX6_does_364 : decode cX6_does 364 = .ok (.aload_n 0, 1) := dk_42 (dk_at dksX6_does_13 0 rfl rfl)
theorem dX6_does_365 : decode cX6_does 365 = .ok (.getfield 23, 3) := dk_180 0 23 (dk_at dksX6_does_13 1 rfl rfl)
theorem dX6_does_368 : decode cX6_does 368 = .ok (.invokevirtual 84, 3) := dk_182 0 84 (dk_at dksX6_does_13 4 rfl rfl)
theorem dX6_does_371 : decode cX6_does 371 = .ok (.ireturn, 1) := dk_172 (dk_at dksX6_does_13 7 rfl rfl)
theorem dX6_does_372 : decode cX6_does 372 = .ok (.aload_n 1, 1) := dk_43 (dk_at dksX6_does_13 8 rfl rfl)
theorem dX6_does_373 : decode cX6_does 373 = .ok (.aload_n 0, 1) := dk_42 (dk_at dksX6_does_13 9 rfl rfl)
theorem dX6_does_374 : decode cX6_does 374 = .ok (.getfield 13, 3) := dk_180 0 13 (dk_at dksX6_does_13 10 rfl rfl)
theorem dX6_does_377 : decode cX6_does 377 = .ok (.aload_n 0, 1) := dk_42 (dk_at dksX6_does_13 13 rfl rfl)
theorem dX6_does_378 : decode cX6_does 378 = .ok (.getfield 17, 3) := dk_180 0 17 (dk_at dksX6_does_13 14 rfl rfl)
theorem dX6_does_381 : decode cX6_does 381 = .ok (.invokevirtual 88, 3) := dk_182 0 88 (dk_at dksX6_does_13 17 rfl rfl)
theorem dX6_does_384 : decode cX6_does 384 = .ok (.ireturn, 1) := dk_172 (dk_at dksX6_does_13 20 rfl rfl)
theorem dX6_does_385 : decode cX6_does 385 = .ok (.aload_n 1, 1) := dk_43 (dk_at dksX6_does_13 21 rfl rfl)
theorem dX6_does_386 : decode cX6_does 386 = .ok (.invokevirtual 91, 3) := dk_182 0 91 (dk_at dksX6_does_14 0 rfl rfl)
theorem dX6_does_389 : decode cX6_does 389 = .ok (.ireturn, 1) := dk_172 (dk_at dksX6_does_14 3 rfl rfl)
theorem q107 : (Jvm.Cond.initialized "CoinTaxes$Order") ∈ lw_all := lw_g (lw_at lw_m1 17 rfl) rfl
theorem q400 : (Jvm.Cond.instantiable "CoinTaxes$Order" (5 : Nat)) ∈ lw_all := lw_g (lw_at lw_m2 70 rfl) rfl
theorem q403 : (Jvm.Cond.instanceMethod ({ cls := "CoinTaxes$Order", name := "<init>", desc := "(Ljava/lang/String;III)V" } : Jvm.MethodName)) ∈ lw_all := lw_g (lw_at lw_m2 73 rfl) rfl
theorem q404 : (Jvm.Cond.code ({ cls := "CoinTaxes$Order", name := "<init>", desc := "(Ljava/lang/String;III)V" } : Jvm.MethodName) prog_7_method_2_code (5 : Nat) (Option.none : Option Jvm.ClassFile.FieldType)) ∈ lw_all := lw_g (lw_at lw_m2 74 rfl) rfl
theorem q405 : (Jvm.Cond.methodLink "CoinTaxes$Order" (27 : Nat) ({ cls := "CoinTaxes$Order", name := "<init>", desc := "(Ljava/lang/String;IIIZ)V" } : Jvm.MethodName)) ∈ lw_all := lw_g (lw_at lw_m2 75 rfl) rfl
theorem q406 : (Jvm.Cond.instanceMethod ({ cls := "CoinTaxes$Order", name := "<init>", desc := "(Ljava/lang/String;IIIZ)V" } : Jvm.MethodName)) ∈ lw_all := lw_g (lw_at lw_m2 76 rfl) rfl
theorem q407 : (Jvm.Cond.code ({ cls := "CoinTaxes$Order", name := "<init>", desc := "(Ljava/lang/String;IIIZ)V" } : Jvm.MethodName) prog_7_method_1_code (6 : Nat) (Option.none : Option Jvm.ClassFile.FieldType)) ∈ lw_all := lw_g (lw_at lw_m2 77 rfl) rfl
theorem q408 : (Jvm.Cond.methodLink "CoinTaxes$Order" (1 : Nat) ({ cls := "java/lang/Object", name := "<init>", desc := "()V" } : Jvm.MethodName)) ∈ lw_all := lw_g (lw_at lw_m2 78 rfl) rfl
theorem q409 : (Jvm.Cond.fieldLink "CoinTaxes$Order" (7 : Nat) "CoinTaxes$Order" "word" "Ljava/lang/String;") ∈ lw_all := lw_g (lw_at lw_m2 79 rfl) rfl
theorem q410 : (Jvm.Cond.fieldLink "CoinTaxes$Order" (13 : Nat) "CoinTaxes$Order" "first" "I") ∈ lw_all := lw_g (lw_at lw_m2 80 rfl) rfl
theorem q411 : (Jvm.Cond.fieldLink "CoinTaxes$Order" (17 : Nat) "CoinTaxes$Order" "second" "I") ∈ lw_all := lw_g (lw_at lw_m2 81 rfl) rfl
theorem q412 : (Jvm.Cond.fieldLink "CoinTaxes$Order" (20 : Nat) "CoinTaxes$Order" "third" "I") ∈ lw_all := lw_g (lw_at lw_m2 82 rfl) rfl
theorem q413 : (Jvm.Cond.fieldLink "CoinTaxes$Order" (23 : Nat) "CoinTaxes$Order" "isProved" "Z") ∈ lw_all := lw_g (lw_at lw_m2 83 rfl) rfl
theorem q414 : (Jvm.Cond.laysFinal "CoinTaxes$Order" "CoinTaxes$Order" "word" "Ljava/lang/String;") ∈ lw_all := lw_g (lw_at lw_m2 84 rfl) rfl
theorem q415 : (Jvm.Cond.soleField "CoinTaxes$Order" "word") ∈ lw_all := lw_g (lw_at lw_m2 85 rfl) rfl
theorem q416 : (Jvm.Cond.laysFinal "CoinTaxes$Order" "CoinTaxes$Order" "first" "I") ∈ lw_all := lw_g (lw_at lw_m2 86 rfl) rfl
theorem q417 : (Jvm.Cond.soleField "CoinTaxes$Order" "first") ∈ lw_all := lw_g (lw_at lw_m2 87 rfl) rfl
theorem q418 : (Jvm.Cond.laysFinal "CoinTaxes$Order" "CoinTaxes$Order" "second" "I") ∈ lw_all := lw_g (lw_at lw_m2 88 rfl) rfl
theorem q419 : (Jvm.Cond.soleField "CoinTaxes$Order" "second") ∈ lw_all := lw_g (lw_at lw_m2 89 rfl) rfl
theorem q420 : (Jvm.Cond.laysFinal "CoinTaxes$Order" "CoinTaxes$Order" "third" "I") ∈ lw_all := lw_g (lw_at lw_m2 90 rfl) rfl
theorem q421 : (Jvm.Cond.soleField "CoinTaxes$Order" "third") ∈ lw_all := lw_g (lw_at lw_m2 91 rfl) rfl
theorem q422 : (Jvm.Cond.laysFinal "CoinTaxes$Order" "CoinTaxes$Order" "isProved" "Z") ∈ lw_all := lw_g (lw_at lw_m2 92 rfl) rfl
theorem q423 : (Jvm.Cond.soleField "CoinTaxes$Order" "isProved") ∈ lw_all := lw_g (lw_at lw_m2 93 rfl) rfl
theorem q424 : (Jvm.Cond.superclass "CoinTaxes$Order" "java/lang/Object") ∈ lw_all := lw_g (lw_at lw_m2 94 rfl) rfl
theorem q971 : (Jvm.Cond.selects "CoinTaxes$Order" ({ cls := "java/lang/Object", name := "getClass", desc := "()Ljava/lang/Class;" } : Jvm.MethodName) ({ cls := "java/lang/Object", name := "getClass", desc := "()Ljava/lang/Class;" } : Jvm.MethodName)) ∈ lw_all := lw_g (lw_at lw_m4 161 rfl) rfl
theorem q1361 : (Jvm.Cond.instanceMethod ({ cls := "CoinTaxes$Order", name := "does", desc := "(LCoinTaxes$Office;)I" } : Jvm.MethodName)) ∈ lw_all := lw_g (lw_at lw_m6 71 rfl) rfl
theorem q1362 : (Jvm.Cond.selects "CoinTaxes$Order" ({ cls := "CoinTaxes$Order", name := "does", desc := "(LCoinTaxes$Office;)I" } : Jvm.MethodName) ({ cls := "CoinTaxes$Order", name := "does", desc := "(LCoinTaxes$Office;)I" } : Jvm.MethodName)) ∈ lw_all := lw_g (lw_at lw_m6 72 rfl) rfl
theorem q1363 : (Jvm.Cond.code ({ cls := "CoinTaxes$Order", name := "does", desc := "(LCoinTaxes$Office;)I" } : Jvm.MethodName) prog_7_method_3_code (4 : Nat) (Option.some Jvm.ClassFile.FieldType.int)) ∈ lw_all := lw_g (lw_at lw_m6 73 rfl) rfl
theorem q1364 : (Jvm.Cond.methodLink "CoinTaxes$Order" (30 : Nat) ({ cls := "java/lang/String", name := "hashCode", desc := "()I" } : Jvm.MethodName)) ∈ lw_all := lw_g (lw_at lw_m6 74 rfl) rfl
theorem q1425 : (Jvm.Cond.stringRef "CoinTaxes$Order" (36 : Nat) "bracket") ∈ lw_tbl := lw_at lw_m6 135 rfl
theorem q1426 : (Jvm.Cond.methodLink "CoinTaxes$Order" (38 : Nat) ({ cls := "java/lang/String", name := "equals", desc := "(Ljava/lang/Object;)Z" } : Jvm.MethodName)) ∈ lw_all := lw_g (lw_at lw_m6 136 rfl) rfl
theorem q1434 : (Jvm.Cond.stringRef "CoinTaxes$Order" (42 : Nat) "drop") ∈ lw_tbl := lw_at lw_m6 144 rfl
theorem q1435 : (Jvm.Cond.stringRef "CoinTaxes$Order" (44 : Nat) "rate") ∈ lw_tbl := lw_at lw_m6 145 rfl
theorem q1436 : (Jvm.Cond.stringRef "CoinTaxes$Order" (46 : Nat) "credit") ∈ lw_tbl := lw_at lw_m6 146 rfl
theorem q1437 : (Jvm.Cond.stringRef "CoinTaxes$Order" (48 : Nat) "cap") ∈ lw_tbl := lw_at lw_m6 147 rfl
theorem q1438 : (Jvm.Cond.stringRef "CoinTaxes$Order" (50 : Nat) "citizen") ∈ lw_tbl := lw_at lw_m6 148 rfl
theorem q1439 : (Jvm.Cond.stringRef "CoinTaxes$Order" (52 : Nat) "earn") ∈ lw_tbl := lw_at lw_m6 149 rfl
theorem q1440 : (Jvm.Cond.stringRef "CoinTaxes$Order" (54 : Nat) "claim") ∈ lw_tbl := lw_at lw_m6 150 rfl
theorem q1441 : (Jvm.Cond.stringRef "CoinTaxes$Order" (56 : Nat) "prove") ∈ lw_tbl := lw_at lw_m6 151 rfl
theorem q1442 : (Jvm.Cond.methodLink "CoinTaxes$Order" (58 : Nat) ({ cls := "CoinTaxes$Office", name := "tellsBracket", desc := "(II)I" } : Jvm.MethodName)) ∈ lw_all := lw_g (lw_at lw_m6 152 rfl) rfl
theorem q1506 : (Jvm.Cond.methodLink "CoinTaxes$Order" (64 : Nat) ({ cls := "CoinTaxes$Office", name := "drops", desc := "(I)I" } : Jvm.MethodName)) ∈ lw_all := lw_g (lw_at lw_m6 216 rfl) rfl
theorem q1527 : (Jvm.Cond.methodLink "CoinTaxes$Order" (68 : Nat) ({ cls := "CoinTaxes$Office", name := "tellsRate", desc := "(II)I" } : Jvm.MethodName)) ∈ lw_all := lw_g (lw_at lw_m6 237 rfl) rfl
theorem q1532 : (Jvm.Cond.methodLink "CoinTaxes$Order" (71 : Nat) ({ cls := "CoinTaxes$Office", name := "tellsCredit", desc := "(III)I" } : Jvm.MethodName)) ∈ lw_all := lw_g (lw_at lw_m7 2 rfl) rfl
theorem q1536 : (Jvm.Cond.methodLink "CoinTaxes$Order" (75 : Nat) ({ cls := "CoinTaxes$Office", name := "tellsCap", desc := "(II)I" } : Jvm.MethodName)) ∈ lw_all := lw_g (lw_at lw_m7 6 rfl) rfl
theorem q1540 : (Jvm.Cond.methodLink "CoinTaxes$Order" (78 : Nat) ({ cls := "CoinTaxes$Office", name := "comes", desc := "()I" } : Jvm.MethodName)) ∈ lw_all := lw_g (lw_at lw_m7 10 rfl) rfl
theorem q1555 : (Jvm.Cond.methodLink "CoinTaxes$Order" (81 : Nat) ({ cls := "CoinTaxes$Office", name := "earns", desc := "(II)I" } : Jvm.MethodName)) ∈ lw_all := lw_g (lw_at lw_m7 25 rfl) rfl
theorem q1573 : (Jvm.Cond.methodLink "CoinTaxes$Order" (84 : Nat) ({ cls := "CoinTaxes$Office", name := "claims", desc := "(IIIZ)I" } : Jvm.MethodName)) ∈ lw_all := lw_g (lw_at lw_m7 43 rfl) rfl
theorem q1586 : (Jvm.Cond.methodLink "CoinTaxes$Order" (88 : Nat) ({ cls := "CoinTaxes$Office", name := "proves", desc := "(II)I" } : Jvm.MethodName)) ∈ lw_all := lw_g (lw_at lw_m7 56 rfl) rfl
theorem q1590 : (Jvm.Cond.methodLink "CoinTaxes$Order" (91 : Nat) ({ cls := "CoinTaxes$Office", name := "yearEnds", desc := "()I" } : Jvm.MethodName)) ∈ lw_all := lw_g (lw_at lw_m7 60 rfl) rfl
theorem q3016 : (Jvm.Cond.castable "CoinTaxes$Order" "java/lang/Object") ∈ lw_tbl := lw_at lw_m13 46 rfl
theorem in_X6 : ∀ w ∈ wsX60, w ∈ lw_all := lw_in wsX60 [414, 416, 418, 420, 422] (by decide +kernel) (by decide +kernel)

/-! CoinTaxes$Citizen -/
set_option maxRecDepth 100000
def RX7 : String := "CoinTaxes$Citizen"
def TX7 : u_T := fun k => match k with
  | 0 => ("CoinTaxes$Citizen", "number", "I", true)
  | 1 => ("CoinTaxes$Citizen", "proved", "[I", true)
  | 2 => ("CoinTaxes$Citizen", "bare", "[I", true)
  | 3 => ("CoinTaxes$Citizen", "carried", "Ljava/util/Deque;", true)
  | 4 => ("CoinTaxes$Citizen", "income", "I", false)
  | 5 => ("CoinTaxes$Citizen", "coins", "I", false)
  | 6 => ("CoinTaxes$Citizen", "debt", "I", false)
  | 7 => ("CoinTaxes$Citizen", "taxes", "I", false)
  | 8 => ("CoinTaxes$Citizen", "fines", "I", false)
  | _ => ("CoinTaxes$Citizen", "audits", "Ljava/util/BitSet;", true)
def tyX7 : Nat → FieldType := fun k => match k with
  | 0 => .int
  | 1 => .array .int
  | 2 => .array .int
  | 3 => .object "java/util/Deque"
  | 4 => .int
  | 5 => .int
  | 6 => .int
  | 7 => .int
  | 8 => .int
  | _ => .object "java/util/BitSet"
abbrev wsX70 : List Cond := u_ws RX7 TX7 10
theorem nmX7 : ∀ a, a < 10 → ∀ b, b < 10 → a ≠ b → (TX7 a).2.1 ≠ (TX7 b).2.1 := by decide +kernel
theorem tyX7_ok : ∀ k, k < 10 → parseFieldDescriptor (TX7 k).2.2.1 = some (tyX7 k) := by decide +kernel
abbrev cX7_init : ByteArray := prog_4_method_2_code
def yX7_init : MethodName := ⟨RX7, "<init>", "(LCoinTaxes$Citizen;)V"⟩
def dkwX7_init_6 : List UInt8 := [182, 0, 89, 177]
abbrev dktX7_init_6 : List UInt8 := dkwX7_init_6 ++ []
def dkwX7_init_5 : List UInt8 := [43, 180, 0, 83, 181, 0, 83, 42, 43, 180, 0, 86, 181, 0, 86, 42, 180, 0, 28, 43, 180, 0, 28]
abbrev dktX7_init_5 : List UInt8 := dkwX7_init_5 ++ dktX7_init_6
def dkwX7_init_4 : List UInt8 := [43, 180, 0, 76, 181, 0, 76, 42, 43, 180, 0, 79, 181, 0, 79, 42, 43, 180, 0, 80, 181, 0, 80, 42]
abbrev dktX7_init_4 : List UInt8 := dkwX7_init_4 ++ dktX7_init_5
def dkwX7_init_3 : List UInt8 := [187, 0, 61, 89, 45, 180, 0, 63, 45, 180, 0, 66, 183, 0, 69, 185, 0, 72, 2, 0, 167, 255, 213, 42]
abbrev dktX7_init_3 : List UInt8 := dkwX7_init_3 ++ dktX7_init_4
def dkwX7_init_2 : List UInt8 := [185, 0, 51, 1, 0, 153, 0, 40, 44, 185, 0, 57, 1, 0, 192, 0, 61, 78, 42, 180, 0, 21]
abbrev dktX7_init_2 : List UInt8 := dkwX7_init_2 ++ dktX7_init_3
def dkwX7_init_1 : List UInt8 := [180, 0, 15, 3, 42, 180, 0, 15, 3, 6, 184, 0, 39, 43, 180, 0, 21, 185, 0, 45, 1, 0, 77, 44]
abbrev dktX7_init_1 : List UInt8 := dkwX7_init_1 ++ dktX7_init_2
def dkwX7_init_0 : List UInt8 := [42, 43, 180, 0, 32, 183, 0, 36, 43, 180, 0, 9, 3, 42, 180, 0, 9, 3, 6, 184, 0, 39, 43]
abbrev dktX7_init_0 : List UInt8 := dkwX7_init_0 ++ dktX7_init_1
theorem dksX7_init_0 : cX7_init.data.toList.drop 0 = dktX7_init_0 := by decide +kernel
theorem dksX7_init_1 : cX7_init.data.toList.drop 23 = dktX7_init_1 := dk_seg dksX7_init_0 23 rfl rfl
theorem dksX7_init_2 : cX7_init.data.toList.drop 47 = dktX7_init_2 := dk_seg dksX7_init_1 24 rfl rfl
theorem dksX7_init_3 : cX7_init.data.toList.drop 69 = dktX7_init_3 := dk_seg dksX7_init_2 22 rfl rfl
theorem dksX7_init_4 : cX7_init.data.toList.drop 93 = dktX7_init_4 := dk_seg dksX7_init_3 24 rfl rfl
theorem dksX7_init_5 : cX7_init.data.toList.drop 117 = dktX7_init_5 := dk_seg dksX7_init_4 24 rfl rfl
theorem dksX7_init_6 : cX7_init.data.toList.drop 140 = dktX7_init_6 := dk_seg dksX7_init_5 23 rfl rfl
theorem dX7_init_0 : decode cX7_init 0 = .ok (.aload_n 0, 1) := dk_42 (dk_at dksX7_init_0 0 rfl rfl)
theorem dX7_init_1 : decode cX7_init 1 = .ok (.aload_n 1, 1) := dk_43 (dk_at dksX7_init_0 1 rfl rfl)
theorem dX7_init_2 : decode cX7_init 2 = .ok (.getfield 32, 3) := dk_180 0 32 (dk_at dksX7_init_0 2 rfl rfl)
theorem dX7_init_5 : decode cX7_init 5 = .ok (.invokespecial 36, 3) := dk_183 0 36 (dk_at dksX7_init_0 5 rfl rfl)
theorem dX7_init_8 : decode cX7_init 8 = .ok (.aload_n 1, 1) := dk_43 (dk_at dksX7_init_0 8 rfl rfl)
theorem dX7_init_9 : decode cX7_init 9 = .ok (.getfield 9, 3) := dk_180 0 9 (dk_at dksX7_init_0 9 rfl rfl)
theorem dX7_init_12 : decode cX7_init 12 = .ok (.iconst 0, 1) := dk_3 (dk_at dksX7_init_0 12 rfl rfl)
theorem dX7_init_13 : decode cX7_init 13 = .ok (.aload_n 0, 1) := dk_42 (dk_at dksX7_init_0 13 rfl rfl)
theorem dX7_init_14 : decode cX7_init 14 = .ok (.getfield 9, 3) := dk_180 0 9 (dk_at dksX7_init_0 14 rfl rfl)
theorem dX7_init_17 : decode cX7_init 17 = .ok (.iconst 0, 1) := dk_3 (dk_at dksX7_init_0 17 rfl rfl)
theorem dX7_init_18 : decode cX7_init 18 = .ok (.iconst 3, 1) := dk_6 (dk_at dksX7_init_0 18 rfl rfl)
theorem dX7_init_19 : decode cX7_init 19 = .ok (.invokestatic 39, 3) := dk_184 0 39 (dk_at dksX7_init_0 19 rfl rfl)
theorem dX7_init_22 : decode cX7_init 22 = .ok (.aload_n 1, 1) := dk_43 (dk_at dksX7_init_0 22 rfl rfl)
theorem dX7_init_23 : decode cX7_init 23 = .ok (.getfield 15, 3) := dk_180 0 15 (dk_at dksX7_init_1 0 rfl rfl)
theorem dX7_init_26 : decode cX7_init 26 = .ok (.iconst 0, 1) := dk_3 (dk_at dksX7_init_1 3 rfl rfl)
theorem dX7_init_27 : decode cX7_init 27 = .ok (.aload_n 0, 1) := dk_42 (dk_at dksX7_init_1 4 rfl rfl)
theorem dX7_init_28 : decode cX7_init 28 = .ok (.getfield 15, 3) := dk_180 0 15 (dk_at dksX7_init_1 5 rfl rfl)
theorem dX7_init_31 : decode cX7_init 31 = .ok (.iconst 0, 1) := dk_3 (dk_at dksX7_init_1 8 rfl rfl)
theorem dX7_init_32 : decode cX7_init 32 = .ok (.iconst 3, 1) := dk_6 (dk_at dksX7_init_1 9 rfl rfl)
theorem dX7_init_33 : decode cX7_init 33 = .ok (.invokestatic 39, 3) := dk_184 0 39 (dk_at dksX7_init_1 10 rfl rfl)
theorem dX7_init_36 : decode cX7_init 36 = .ok (.aload_n 1, 1) := dk_43 (dk_at dksX7_init_1 13 rfl rfl)
theorem dX7_init_37 : decode cX7_init 37 = .ok (.getfield 21, 3) := dk_180 0 21 (dk_at dksX7_init_1 14 rfl rfl)
theorem dX7_init_40 : decode cX7_init 40 = .ok (.invokeinterface 45 1, 5) := by decide +kernel
theorem dX7_init_45 : decode cX7_init 45 = .ok (.astore_n 2, 1) := dk_77 (dk_at dksX7_init_1 22 rfl rfl)
theorem dX7_init_46 : decode cX7_init 46 = .ok (.aload_n 2, 1) := dk_44 (dk_at dksX7_init_1 23 rfl rfl)
theorem dX7_init_47 : decode cX7_init 47 = .ok (.invokeinterface 51 1, 5) := by decide +kernel
theorem dX7_init_52 : decode cX7_init 52 = .ok (.ifCond .eq 40, 3) := dk_153 0 40 (dk_at dksX7_init_2 5 rfl rfl)
theorem dX7_init_55 : decode cX7_init 55 = .ok (.aload_n 2, 1) := dk_44 (dk_at dksX7_init_2 8 rfl rfl)
theorem dX7_init_56 : decode cX7_init 56 = .ok (.invokeinterface 57 1, 5) := by decide +kernel
theorem dX7_init_61 : decode cX7_init 61 = .ok (.checkcast 61, 3) := dk_192 0 61 (dk_at dksX7_init_2 14 rfl rfl)
theorem dX7_init_64 : decode cX7_init 64 = .ok (.astore_n 3, 1) := dk_78 (dk_at dksX7_init_2 17 rfl rfl)
theorem dX7_init_65 : decode cX7_init 65 = .ok (.aload_n 0, 1) := dk_42 (dk_at dksX7_init_2 18 rfl rfl)
theorem dX7_init_66 : decode cX7_init 66 = .ok (.getfield 21, 3) := dk_180 0 21 (dk_at dksX7_init_2 19 rfl rfl)
theorem dX7_init_69 : decode cX7_init 69 = .ok (.new 61, 3) := dk_187 0 61 (dk_at dksX7_init_3 0 rfl rfl)
theorem dX7_init_72 : decode cX7_init 72 = .ok (.dup, 1) := dk_89 (dk_at dksX7_init_3 3 rfl rfl)
theorem dX7_init_73 : decode cX7_init 73 = .ok (.aload_n 3, 1) := dk_45 (dk_at dksX7_init_3 4 rfl rfl)
theorem dX7_init_74 : decode cX7_init 74 = .ok (.getfield 63, 3) := dk_180 0 63 (dk_at dksX7_init_3 5 rfl rfl)
theorem dX7_init_77 : decode cX7_init 77 = .ok (.aload_n 3, 1) := dk_45 (dk_at dksX7_init_3 8 rfl rfl)
theorem dX7_init_78 : decode cX7_init 78 = .ok (.getfield 66, 3) := dk_180 0 66 (dk_at dksX7_init_3 9 rfl rfl)
theorem dX7_init_81 : decode cX7_init 81 = .ok (.invokespecial 69, 3) := dk_183 0 69 (dk_at dksX7_init_3 12 rfl rfl)
theorem dX7_init_84 : decode cX7_init 84 = .ok (.invokeinterface 72 2, 5) := by decide +kernel
theorem dX7_init_89 : decode cX7_init 89 = .ok (.goto (-43), 3) := dk_167 255 213 (dk_at dksX7_init_3 20 rfl rfl)
theorem dX7_init_92 : decode cX7_init 92 = .ok (.aload_n 0, 1) := dk_42 (dk_at dksX7_init_3 23 rfl rfl)
theorem dX7_init_93 : decode cX7_init 93 = .ok (.aload_n 1, 1) := dk_43 (dk_at dksX7_init_4 0 rfl rfl)
theorem dX7_init_94 : decode cX7_init 94 = .ok (.getfield 76, 3) := dk_180 0 76 (dk_at dksX7_init_4 1 rfl rfl)
theorem dX7_init_97 : decode cX7_init 97 = .ok (.putfield 76, 3) := dk_181 0 76 (dk_at dksX7_init_4 4 rfl rfl)
theorem dX7_init_100 : decode cX7_init 100 = .ok (.aload_n 0, 1) := dk_42 (dk_at dksX7_init_4 7 rfl rfl)
theorem dX7_init_101 : decode cX7_init 101 = .ok (.aload_n 1, 1) := dk_43 (dk_at dksX7_init_4 8 rfl rfl)
theorem dX7_init_102 : decode cX7_init 102 = .ok (.getfield 79, 3) := dk_180 0 79 (dk_at dksX7_init_4 9 rfl rfl)
theorem dX7_init_105 : decode cX7_init 105 = .ok (.putfield 79, 3) := dk_181 0 79 (dk_at dksX7_init_4 12 rfl rfl)
theorem dX7_init_108 : decode cX7_init 108 = .ok (.aload_n 0, 1) := dk_42 (dk_at dksX7_init_4 15 rfl rfl)
theorem dX7_init_109 : decode cX7_init 109 = .ok (.aload_n 1, 1) := dk_43 (dk_at dksX7_init_4 16 rfl rfl)
theorem dX7_init_110 : decode cX7_init 110 = .ok (.getfield 80, 3) := dk_180 0 80 (dk_at dksX7_init_4 17 rfl rfl)
theorem dX7_init_113 : decode cX7_init 113 = .ok (.putfield 80, 3) := dk_181 0 80 (dk_at dksX7_init_4 20 rfl rfl)
theorem dX7_init_116 : decode cX7_init 116 = .ok (.aload_n 0, 1) := dk_42 (dk_at dksX7_init_4 23 rfl rfl)
theorem dX7_init_117 : decode cX7_init 117 = .ok (.aload_n 1, 1) := dk_43 (dk_at dksX7_init_5 0 rfl rfl)
theorem dX7_init_118 : decode cX7_init 118 = .ok (.getfield 83, 3) := dk_180 0 83 (dk_at dksX7_init_5 1 rfl rfl)
theorem dX7_init_121 : decode cX7_init 121 = .ok (.putfield 83, 3) := dk_181 0 83 (dk_at dksX7_init_5 4 rfl rfl)
theorem dX7_init_124 : decode cX7_init 124 = .ok (.aload_n 0, 1) := dk_42 (dk_at dksX7_init_5 7 rfl rfl)
theorem dX7_init_125 : decode cX7_init 125 = .ok (.aload_n 1, 1) := dk_43 (dk_at dksX7_init_5 8 rfl rfl)
theorem dX7_init_126 : decode cX7_init 126 = .ok (.getfield 86, 3) := dk_180 0 86 (dk_at dksX7_init_5 9 rfl rfl)
theorem dX7_init_129 : decode cX7_init 129 = .ok (.putfield 86, 3) := dk_181 0 86 (dk_at dksX7_init_5 12 rfl rfl)
theorem dX7_init_132 : decode cX7_init 132 = .ok (.aload_n 0, 1) := dk_42 (dk_at dksX7_init_5 15 rfl rfl)
theorem dX7_init_133 : decode cX7_init 133 = .ok (.getfield 28, 3) := dk_180 0 28 (dk_at dksX7_init_5 16 rfl rfl)
theorem dX7_init_136 : decode cX7_init 136 = .ok (.aload_n 1, 1) := dk_43 (dk_at dksX7_init_5 19 rfl rfl)
theorem dX7_init_137 : decode cX7_init 137 = .ok (.getfield 28, 3) := dk_180 0 28 (dk_at dksX7_init_5 20 rfl rfl)
theorem dX7_init_140 : decode cX7_init 140 = .ok (.invokevirtual 89, 3) := dk_182 0 89 (dk_at dksX7_init_6 0 rfl rfl)
theorem dX7_init_143 : decode cX7_init 143 = .ok (.return_, 1) := dk_177 (dk_at dksX7_init_6 3 rfl rfl)
abbrev cX7_init_2 : ByteArray := prog_4_method_1_code
def yX7_init_2 : MethodName := ⟨RX7, "<init>", "(I)V"⟩
def dkwX7_init_2_1 : List UInt8 := [183, 0, 20, 181, 0, 21, 42, 187, 0, 25, 89, 183, 0, 27, 181, 0, 28, 42, 27, 181, 0, 32, 177]
abbrev dktX7_init_2_1 : List UInt8 := dkwX7_init_2_1 ++ []
def dkwX7_init_2_0 : List UInt8 := [42, 183, 0, 3, 42, 6, 188, 10, 181, 0, 9, 42, 6, 188, 10, 181, 0, 15, 42, 187, 0, 18, 89]
abbrev dktX7_init_2_0 : List UInt8 := dkwX7_init_2_0 ++ dktX7_init_2_1
theorem dksX7_init_2_0 : cX7_init_2.data.toList.drop 0 = dktX7_init_2_0 := by decide +kernel
theorem dksX7_init_2_1 : cX7_init_2.data.toList.drop 23 = dktX7_init_2_1 := dk_seg dksX7_init_2_0 23 rfl rfl
theorem dX7_init_2_0 : decode cX7_init_2 0 = .ok (.aload_n 0, 1) := dk_42 (dk_at dksX7_init_2_0 0 rfl rfl)
theorem dX7_init_2_1 : decode cX7_init_2 1 = .ok (.invokespecial 3, 3) := dk_183 0 3 (dk_at dksX7_init_2_0 1 rfl rfl)
theorem dX7_init_2_4 : decode cX7_init_2 4 = .ok (.aload_n 0, 1) := dk_42 (dk_at dksX7_init_2_0 4 rfl rfl)
theorem dX7_init_2_5 : decode cX7_init_2 5 = .ok (.iconst 3, 1) := dk_6 (dk_at dksX7_init_2_0 5 rfl rfl)
theorem dX7_init_2_6 : decode cX7_init_2 6 = .ok (.newarray .int, 2) := dk_188_10 (dk_at dksX7_init_2_0 6 rfl rfl)
theorem dX7_init_2_8 : decode cX7_init_2 8 = .ok (.putfield 9, 3) := dk_181 0 9 (dk_at dksX7_init_2_0 8 rfl rfl)
theorem dX7_init_2_11 : decode cX7_init_2 11 = .ok (.aload_n 0, 1) := dk_42 (dk_at dksX7_init_2_0 11 rfl rfl)
theorem dX7_init_2_12 : decode cX7_init_2 12 = .ok (.iconst 3, 1) := dk_6 (dk_at dksX7_init_2_0 12 rfl rfl)
theorem dX7_init_2_13 : decode cX7_init_2 13 = .ok (.newarray .int, 2) := dk_188_10 (dk_at dksX7_init_2_0 13 rfl rfl)
theorem dX7_init_2_15 : decode cX7_init_2 15 = .ok (.putfield 15, 3) := dk_181 0 15 (dk_at dksX7_init_2_0 15 rfl rfl)
theorem dX7_init_2_18 : decode cX7_init_2 18 = .ok (.aload_n 0, 1) := dk_42 (dk_at dksX7_init_2_0 18 rfl rfl)
theorem dX7_init_2_19 : decode cX7_init_2 19 = .ok (.new 18, 3) := dk_187 0 18 (dk_at dksX7_init_2_0 19 rfl rfl)
theorem dX7_init_2_22 : decode cX7_init_2 22 = .ok (.dup, 1) := dk_89 (dk_at dksX7_init_2_0 22 rfl rfl)
theorem dX7_init_2_23 : decode cX7_init_2 23 = .ok (.invokespecial 20, 3) := dk_183 0 20 (dk_at dksX7_init_2_1 0 rfl rfl)
theorem dX7_init_2_26 : decode cX7_init_2 26 = .ok (.putfield 21, 3) := dk_181 0 21 (dk_at dksX7_init_2_1 3 rfl rfl)
theorem dX7_init_2_29 : decode cX7_init_2 29 = .ok (.aload_n 0, 1) := dk_42 (dk_at dksX7_init_2_1 6 rfl rfl)
theorem dX7_init_2_30 : decode cX7_init_2 30 = .ok (.new 25, 3) := dk_187 0 25 (dk_at dksX7_init_2_1 7 rfl rfl)
theorem dX7_init_2_33 : decode cX7_init_2 33 = .ok (.dup, 1) := dk_89 (dk_at dksX7_init_2_1 10 rfl rfl)
theorem dX7_init_2_34 : decode cX7_init_2 34 = .ok (.invokespecial 27, 3) := dk_183 0 27 (dk_at dksX7_init_2_1 11 rfl rfl)
theorem dX7_init_2_37 : decode cX7_init_2 37 = .ok (.putfield 28, 3) := dk_181 0 28 (dk_at dksX7_init_2_1 14 rfl rfl)
theorem dX7_init_2_40 : decode cX7_init_2 40 = .ok (.aload_n 0, 1) := dk_42 (dk_at dksX7_init_2_1 17 rfl rfl)
theorem dX7_init_2_41 : decode cX7_init_2 41 = .ok (.iload_n 1, 1) := dk_27 (dk_at dksX7_init_2_1 18 rfl rfl)
theorem dX7_init_2_42 : decode cX7_init_2 42 = .ok (.putfield 32, 3) := dk_181 0 32 (dk_at dksX7_init_2_1 19 rfl rfl)
theorem dX7_init_2_45 : decode cX7_init_2 45 = .ok (.return_, 1) := dk_177 (dk_at dksX7_init_2_1 22 rfl rfl)
abbrev cX7_counts : ByteArray := prog_4_method_4_code
def yX7_counts : MethodName := ⟨RX7, "counts", "(ILCoinTaxes$Law;)I"⟩
def dkwX7_counts_0 : List UInt8 := [44, 180, 0, 93, 27, 46, 42, 27, 182, 0, 98, 184, 0, 102, 172]
abbrev dktX7_counts_0 : List UInt8 := dkwX7_counts_0 ++ []
theorem dksX7_counts_0 : cX7_counts.data.toList.drop 0 = dktX7_counts_0 := by decide +kernel
theorem dX7_counts_0 : decode cX7_counts 0 = .ok (.aload_n 2, 1) := dk_44 (dk_at dksX7_counts_0 0 rfl rfl)
theorem dX7_counts_1 : decode cX7_counts 1 = .ok (.getfield 93, 3) := dk_180 0 93 (dk_at dksX7_counts_0 1 rfl rfl)
theorem dX7_counts_4 : decode cX7_counts 4 = .ok (.iload_n 1, 1) := dk_27 (dk_at dksX7_counts_0 4 rfl rfl)
theorem dX7_counts_5 : decode cX7_counts 5 = .ok (.iaload, 1) := dk_46 (dk_at dksX7_counts_0 5 rfl rfl)
theorem dX7_counts_6 : decode cX7_counts 6 = .ok (.aload_n 0, 1) := dk_42 (dk_at dksX7_counts_0 6 rfl rfl)
theorem dX7_counts_7 : decode cX7_counts 7 = .ok (.iload_n 1, 1) := dk_27 (dk_at dksX7_counts_0 7 rfl rfl)
theorem dX7_counts_8 : decode cX7_counts 8 = .ok (.invokevirtual 98, 3) := dk_182 0 98 (dk_at dksX7_counts_0 8 rfl rfl)
theorem dX7_counts_11 : decode cX7_counts 11 = .ok (.invokestatic 102, 3) := dk_184 0 102 (dk_at dksX7_counts_0 11 rfl rfl)
theorem dX7_counts_14 : decode cX7_counts 14 = .ok (.ireturn, 1) := dk_172 (dk_at dksX7_counts_0 14 rfl rfl)
abbrev cX7_claimed : ByteArray := prog_4_method_3_code
def yX7_claimed : MethodName := ⟨RX7, "claimed", "(I)I"⟩
def dkwX7_claimed_0 : List UInt8 := [42, 180, 0, 9, 27, 46, 42, 180, 0, 15, 27, 46, 96, 172]
abbrev dktX7_claimed_0 : List UInt8 := dkwX7_claimed_0 ++ []
theorem dksX7_claimed_0 : cX7_claimed.data.toList.drop 0 = dktX7_claimed_0 := by decide +kernel
theorem dX7_claimed_0 : decode cX7_claimed 0 = .ok (.aload_n 0, 1) := dk_42 (dk_at dksX7_claimed_0 0 rfl rfl)
theorem dX7_claimed_1 : decode cX7_claimed 1 = .ok (.getfield 9, 3) := dk_180 0 9 (dk_at dksX7_claimed_0 1 rfl rfl)
theorem dX7_claimed_4 : decode cX7_claimed 4 = .ok (.iload_n 1, 1) := dk_27 (dk_at dksX7_claimed_0 4 rfl rfl)
theorem dX7_claimed_5 : decode cX7_claimed 5 = .ok (.iaload, 1) := dk_46 (dk_at dksX7_claimed_0 5 rfl rfl)
theorem dX7_claimed_6 : decode cX7_claimed 6 = .ok (.aload_n 0, 1) := dk_42 (dk_at dksX7_claimed_0 6 rfl rfl)
theorem dX7_claimed_7 : decode cX7_claimed 7 = .ok (.getfield 15, 3) := dk_180 0 15 (dk_at dksX7_claimed_0 7 rfl rfl)
theorem dX7_claimed_10 : decode cX7_claimed 10 = .ok (.iload_n 1, 1) := dk_27 (dk_at dksX7_claimed_0 10 rfl rfl)
theorem dX7_claimed_11 : decode cX7_claimed 11 = .ok (.iaload, 1) := dk_46 (dk_at dksX7_claimed_0 11 rfl rfl)
theorem dX7_claimed_12 : decode cX7_claimed 12 = .ok (.iadd, 1) := dk_96 (dk_at dksX7_claimed_0 12 rfl rfl)
theorem dX7_claimed_13 : decode cX7_claimed 13 = .ok (.ireturn, 1) := dk_172 (dk_at dksX7_claimed_0 13 rfl rfl)
abbrev cX7_yearEnds : ByteArray := prog_4_method_19_code
def yX7_yearEnds : MethodName := ⟨RX7, "yearEnds", "(LCoinTaxes$Law;IZ)I"⟩
def dkwX7_yearEnds_5 : List UInt8 := [79, 42, 180, 0, 15, 21, 8, 3, 79, 132, 8, 1, 167, 255, 231, 21, 7, 172]
abbrev dktX7_yearEnds_5 : List UInt8 := dkwX7_yearEnds_5 ++ []
def dkwX7_yearEnds_4 : List UInt8 := [181, 0, 86, 42, 3, 181, 0, 76, 3, 54, 8, 21, 8, 6, 162, 0, 25, 42, 180, 0, 9, 21, 8, 3]
abbrev dktX7_yearEnds_4 : List UInt8 := dkwX7_yearEnds_4 ++ dktX7_yearEnds_5
def dkwX7_yearEnds_3 : List UInt8 := [181, 0, 80, 42, 89, 180, 0, 83, 21, 5, 96, 181, 0, 83, 42, 89, 180, 0, 86, 21, 4, 96]
abbrev dktX7_yearEnds_3 : List UInt8 := dkwX7_yearEnds_3 ++ dktX7_yearEnds_4
def dkwX7_yearEnds_2 : List UInt8 := [21, 6, 184, 0, 102, 54, 7, 42, 89, 180, 0, 79, 21, 7, 100, 181, 0, 79, 42, 21, 6, 21, 7, 100]
abbrev dktX7_yearEnds_2 : List UInt8 := dkwX7_yearEnds_2 ++ dktX7_yearEnds_3
def dkwX7_yearEnds_1 : List UInt8 := [42, 43, 182, 0, 168, 54, 5, 42, 180, 0, 80, 21, 5, 96, 21, 4, 96, 54, 6, 42, 180, 0, 79]
abbrev dktX7_yearEnds_1 : List UInt8 := dkwX7_yearEnds_1 ++ dktX7_yearEnds_2
def dkwX7_yearEnds_0 : List UInt8 := [3, 54, 4, 29, 153, 0, 20, 42, 182, 0, 162, 16, 10, 108, 54, 4, 42, 180, 0, 28, 28, 182, 0, 165]
abbrev dktX7_yearEnds_0 : List UInt8 := dkwX7_yearEnds_0 ++ dktX7_yearEnds_1
theorem dksX7_yearEnds_0 : cX7_yearEnds.data.toList.drop 0 = dktX7_yearEnds_0 := by decide +kernel
theorem dksX7_yearEnds_1 : cX7_yearEnds.data.toList.drop 24 = dktX7_yearEnds_1 := dk_seg dksX7_yearEnds_0 24 rfl rfl
theorem dksX7_yearEnds_2 : cX7_yearEnds.data.toList.drop 47 = dktX7_yearEnds_2 := dk_seg dksX7_yearEnds_1 23 rfl rfl
theorem dksX7_yearEnds_3 : cX7_yearEnds.data.toList.drop 71 = dktX7_yearEnds_3 := dk_seg dksX7_yearEnds_2 24 rfl rfl
theorem dksX7_yearEnds_4 : cX7_yearEnds.data.toList.drop 93 = dktX7_yearEnds_4 := dk_seg dksX7_yearEnds_3 22 rfl rfl
theorem dksX7_yearEnds_5 : cX7_yearEnds.data.toList.drop 117 = dktX7_yearEnds_5 := dk_seg dksX7_yearEnds_4 24 rfl rfl
theorem dX7_yearEnds_0 : decode cX7_yearEnds 0 = .ok (.iconst 0, 1) := dk_3 (dk_at dksX7_yearEnds_0 0 rfl rfl)
theorem dX7_yearEnds_1 : decode cX7_yearEnds 1 = .ok (.istore 4, 2) := dk_54 4 (dk_at dksX7_yearEnds_0 1 rfl rfl)
theorem dX7_yearEnds_3 : decode cX7_yearEnds 3 = .ok (.iload_n 3, 1) := dk_29 (dk_at dksX7_yearEnds_0 3 rfl rfl)
theorem dX7_yearEnds_4 : decode cX7_yearEnds 4 = .ok (.ifCond .eq 20, 3) := dk_153 0 20 (dk_at dksX7_yearEnds_0 4 rfl rfl)
theorem dX7_yearEnds_7 : decode cX7_yearEnds 7 = .ok (.aload_n 0, 1) := dk_42 (dk_at dksX7_yearEnds_0 7 rfl rfl)
theorem dX7_yearEnds_8 : decode cX7_yearEnds 8 = .ok (.invokevirtual 162, 3) := dk_182 0 162 (dk_at dksX7_yearEnds_0 8 rfl rfl)
theorem dX7_yearEnds_11 : decode cX7_yearEnds 11 = .ok (.bipush 10, 2) := dk_16 10 (dk_at dksX7_yearEnds_0 11 rfl rfl)
theorem dX7_yearEnds_13 : decode cX7_yearEnds 13 = .ok (.idiv, 1) := dk_108 (dk_at dksX7_yearEnds_0 13 rfl rfl)
theorem dX7_yearEnds_14 : decode cX7_yearEnds 14 = .ok (.istore 4, 2) := dk_54 4 (dk_at dksX7_yearEnds_0 14 rfl rfl)
theorem dX7_yearEnds_16 : decode cX7_yearEnds 16 = .ok (.aload_n 0, 1) := dk_42 (dk_at dksX7_yearEnds_0 16 rfl rfl)
theorem dX7_yearEnds_17 : decode cX7_yearEnds 17 = .ok (.getfield 28, 3) := dk_180 0 28 (dk_at dksX7_yearEnds_0 17 rfl rfl)
theorem dX7_yearEnds_20 : decode cX7_yearEnds 20 = .ok (.iload_n 2, 1) := dk_28 (dk_at dksX7_yearEnds_0 20 rfl rfl)
theorem dX7_yearEnds_21 : decode cX7_yearEnds 21 = .ok (.invokevirtual 165, 3) := dk_182 0 165 (dk_at dksX7_yearEnds_0 21 rfl rfl)
theorem dX7_yearEnds_24 : decode cX7_yearEnds 24 = .ok (.aload_n 0, 1) := dk_42 (dk_at dksX7_yearEnds_1 0 rfl rfl)
theorem dX7_yearEnds_25 : decode cX7_yearEnds 25 = .ok (.aload_n 1, 1) := dk_43 (dk_at dksX7_yearEnds_1 1 rfl rfl)
theorem dX7_yearEnds_26 : decode cX7_yearEnds 26 = .ok (.invokevirtual 168, 3) := dk_182 0 168 (dk_at dksX7_yearEnds_1 2 rfl rfl)
theorem dX7_yearEnds_29 : decode cX7_yearEnds 29 = .ok (.istore 5, 2) := dk_54 5 (dk_at dksX7_yearEnds_1 5 rfl rfl)
theorem dX7_yearEnds_31 : decode cX7_yearEnds 31 = .ok (.aload_n 0, 1) := dk_42 (dk_at dksX7_yearEnds_1 7 rfl rfl)
theorem dX7_yearEnds_32 : decode cX7_yearEnds 32 = .ok (.getfield 80, 3) := dk_180 0 80 (dk_at dksX7_yearEnds_1 8 rfl rfl)
theorem dX7_yearEnds_35 : decode cX7_yearEnds 35 = .ok (.iload 5, 2) := dk_21 5 (dk_at dksX7_yearEnds_1 11 rfl rfl)
theorem dX7_yearEnds_37 : decode cX7_yearEnds 37 = .ok (.iadd, 1) := dk_96 (dk_at dksX7_yearEnds_1 13 rfl rfl)
theorem dX7_yearEnds_38 : decode cX7_yearEnds 38 = .ok (.iload 4, 2) := dk_21 4 (dk_at dksX7_yearEnds_1 14 rfl rfl)
theorem dX7_yearEnds_40 : decode cX7_yearEnds 40 = .ok (.iadd, 1) := dk_96 (dk_at dksX7_yearEnds_1 16 rfl rfl)
theorem dX7_yearEnds_41 : decode cX7_yearEnds 41 = .ok (.istore 6, 2) := dk_54 6 (dk_at dksX7_yearEnds_1 17 rfl rfl)
theorem dX7_yearEnds_43 : decode cX7_yearEnds 43 = .ok (.aload_n 0, 1) := dk_42 (dk_at dksX7_yearEnds_1 19 rfl rfl)
theorem dX7_yearEnds_44 : decode cX7_yearEnds 44 = .ok (.getfield 79, 3) := dk_180 0 79 (dk_at dksX7_yearEnds_1 20 rfl rfl)
theorem dX7_yearEnds_47 : decode cX7_yearEnds 47 = .ok (.iload 6, 2) := dk_21 6 (dk_at dksX7_yearEnds_2 0 rfl rfl)
theorem dX7_yearEnds_49 : decode cX7_yearEnds 49 = .ok (.invokestatic 102, 3) := dk_184 0 102 (dk_at dksX7_yearEnds_2 2 rfl rfl)
theorem dX7_yearEnds_52 : decode cX7_yearEnds 52 = .ok (.istore 7, 2) := dk_54 7 (dk_at dksX7_yearEnds_2 5 rfl rfl)
theorem dX7_yearEnds_54 : decode cX7_yearEnds 54 = .ok (.aload_n 0, 1) := dk_42 (dk_at dksX7_yearEnds_2 7 rfl rfl)
theorem dX7_yearEnds_55 : decode cX7_yearEnds 55 = .ok (.dup, 1) := dk_89 (dk_at dksX7_yearEnds_2 8 rfl rfl)
theorem dX7_yearEnds_56 : decode cX7_yearEnds 56 = .ok (.getfield 79, 3) := dk_180 0 79 (dk_at dksX7_yearEnds_2 9 rfl rfl)
theorem dX7_yearEnds_59 : decode cX7_yearEnds 59 = .ok (.iload 7, 2) := dk_21 7 (dk_at dksX7_yearEnds_2 12 rfl rfl)
theorem dX7_yearEnds_61 : decode cX7_yearEnds 61 = .ok (.isub, 1) := dk_100 (dk_at dksX7_yearEnds_2 14 rfl rfl)
theorem dX7_yearEnds_62 : decode cX7_yearEnds 62 = .ok (.putfield 79, 3) := dk_181 0 79 (dk_at dksX7_yearEnds_2 15 rfl rfl)
theorem dX7_yearEnds_65 : decode cX7_yearEnds 65 = .ok (.aload_n 0, 1) := dk_42 (dk_at dksX7_yearEnds_2 18 rfl rfl)
theorem dX7_yearEnds_66 : decode cX7_yearEnds 66 = .ok (.iload 6, 2) := dk_21 6 (dk_at dksX7_yearEnds_2 19 rfl rfl)
theorem dX7_yearEnds_68 : decode cX7_yearEnds 68 = .ok (.iload 7, 2) := dk_21 7 (dk_at dksX7_yearEnds_2 21 rfl rfl)
theorem dX7_yearEnds_70 : decode cX7_yearEnds 70 = .ok (.isub, 1) := dk_100 (dk_at dksX7_yearEnds_2 23 rfl rfl)
theorem dX7_yearEnds_71 : decode cX7_yearEnds 71 = .ok (.putfield 80, 3) := dk_181 0 80 (dk_at dksX7_yearEnds_3 0 rfl rfl)
theorem dX7_yearEnds_74 : decode cX7_yearEnds 74 = .ok (.aload_n 0, 1) := dk_42 (dk_at dksX7_yearEnds_3 3 rfl rfl)
theorem dX7_yearEnds_75 : decode cX7_yearEnds 75 = .ok (.dup, 1) := dk_89 (dk_at dksX7_yearEnds_3 4 rfl rfl)
theorem dX7_yearEnds_76 : decode cX7_yearEnds 76 = .ok (.getfield 83, 3) := dk_180 0 83 (dk_at dksX7_yearEnds_3 5 rfl rfl)
theorem dX7_yearEnds_79 : decode cX7_yearEnds 79 = .ok (.iload 5, 2) := dk_21 5 (dk_at dksX7_yearEnds_3 8 rfl rfl)
theorem dX7_yearEnds_81 : decode cX7_yearEnds 81 = .ok (.iadd, 1) := dk_96 (dk_at dksX7_yearEnds_3 10 rfl rfl)
theorem dX7_yearEnds_82 : decode cX7_yearEnds 82 = .ok (.putfield 83, 3) := dk_181 0 83 (dk_at dksX7_yearEnds_3 11 rfl rfl)
theorem dX7_yearEnds_85 : decode cX7_yearEnds 85 = .ok (.aload_n 0, 1) := dk_42 (dk_at dksX7_yearEnds_3 14 rfl rfl)
theorem dX7_yearEnds_86 : decode cX7_yearEnds 86 = .ok (.dup, 1) := dk_89 (dk_at dksX7_yearEnds_3 15 rfl rfl)
theorem dX7_yearEnds_87 : decode cX7_yearEnds 87 = .ok (.getfield 86, 3) := dk_180 0 86 (dk_at dksX7_yearEnds_3 16 rfl rfl)
theorem dX7_yearEnds_90 : decode cX7_yearEnds 90 = .ok (.iload 4, 2) := dk_21 4 (dk_at dksX7_yearEnds_3 19 rfl rfl)
theorem dX7_yearEnds_92 : decode cX7_yearEnds 92 = .ok (.iadd, 1) := dk_96 (dk_at dksX7_yearEnds_3 21 rfl rfl)
theorem dX7_yearEnds_93 : decode cX7_yearEnds 93 = .ok (.putfield 86, 3) := dk_181 0 86 (dk_at dksX7_yearEnds_4 0 rfl rfl)
theorem dX7_yearEnds_96 : decode cX7_yearEnds 96 = .ok (.aload_n 0, 1) := dk_42 (dk_at dksX7_yearEnds_4 3 rfl rfl)
theorem dX7_yearEnds_97 : decode cX7_yearEnds 97 = .ok (.iconst 0, 1) := dk_3 (dk_at dksX7_yearEnds_4 4 rfl rfl)
theorem dX7_yearEnds_98 : decode cX7_yearEnds 98 = .ok (.putfield 76, 3) := dk_181 0 76 (dk_at dksX7_yearEnds_4 5 rfl rfl)
theorem dX7_yearEnds_101 : decode cX7_yearEnds 101 = .ok (.iconst 0, 1) := dk_3 (dk_at dksX7_yearEnds_4 8 rfl rfl)
theorem dX7_yearEnds_102 : decode cX7_yearEnds 102 = .ok (.istore 8, 2) := dk_54 8 (dk_at dksX7_yearEnds_4 9 rfl rfl)
theorem dX7_yearEnds_104 : decode cX7_yearEnds 104 = .ok (.iload 8, 2) := dk_21 8 (dk_at dksX7_yearEnds_4 11 rfl rfl)
theorem dX7_yearEnds_106 : decode cX7_yearEnds 106 = .ok (.iconst 3, 1) := dk_6 (dk_at dksX7_yearEnds_4 13 rfl rfl)
theorem dX7_yearEnds_107 : decode cX7_yearEnds 107 = .ok (.if_icmp .ge 25, 3) := dk_162 0 25 (dk_at dksX7_yearEnds_4 14 rfl rfl)
theorem dX7_yearEnds_110 : decode cX7_yearEnds 110 = .ok (.aload_n 0, 1) := dk_42 (dk_at dksX7_yearEnds_4 17 rfl rfl)
theorem dX7_yearEnds_111 : decode cX7_yearEnds 111 = .ok (.getfield 9, 3) := dk_180 0 9 (dk_at dksX7_yearEnds_4 18 rfl rfl)
theorem dX7_yearEnds_114 : decode cX7_yearEnds 114 = .ok (.iload 8, 2) := dk_21 8 (dk_at dksX7_yearEnds_4 21 rfl rfl)
theorem dX7_yearEnds_116 : decode cX7_yearEnds 116 = .ok (.iconst 0, 1) := dk_3 (dk_at dksX7_yearEnds_4 23 rfl rfl)
theorem dX7_yearEnds_117 : decode cX7_yearEnds 117 = .ok (.iastore, 1) := dk_79 (dk_at dksX7_yearEnds_5 0 rfl rfl)
theorem dX7_yearEnds_118 : decode cX7_yearEnds 118 = .ok (.aload_n 0, 1) := dk_42 (dk_at dksX7_yearEnds_5 1 rfl rfl)
theorem dX7_yearEnds_119 : decode cX7_yearEnds 119 = .ok (.getfield 15, 3) := dk_180 0 15 (dk_at dksX7_yearEnds_5 2 rfl rfl)
theorem dX7_yearEnds_122 : decode cX7_yearEnds 122 = .ok (.iload 8, 2) := dk_21 8 (dk_at dksX7_yearEnds_5 5 rfl rfl)
theorem dX7_yearEnds_124 : decode cX7_yearEnds 124 = .ok (.iconst 0, 1) := dk_3 (dk_at dksX7_yearEnds_5 7 rfl rfl)
theorem dX7_yearEnds_125 : decode cX7_yearEnds 125 = .ok (.iastore, 1) := dk_79 (dk_at dksX7_yearEnds_5 8 rfl rfl)
theorem dX7_yearEnds_126 : decode cX7_yearEnds 126 = .ok (.iinc 8 1, 3) := dk_132 8 1 (dk_at dksX7_yearEnds_5 9 rfl rfl)
theorem dX7_yearEnds_129 : decode cX7_yearEnds 129 = .ok (.goto (-25), 3) := dk_167 255 231 (dk_at dksX7_yearEnds_5 12 rfl rfl)
theorem dX7_yearEnds_132 : decode cX7_yearEnds 132 = .ok (.iload 7, 2) := dk_21 7 (dk_at dksX7_yearEnds_5 15 rfl rfl)
theorem dX7_yearEnds_134 : decode cX7_yearEnds 134 = .ok (.ireturn, 1) := dk_172 (dk_at dksX7_yearEnds_5 17 rfl rfl)
abbrev cX7_strikes : ByteArray := prog_4_method_15_code
def yX7_strikes : MethodName := ⟨RX7, "strikes", "()I"⟩
def dkwX7_strikes_1 : List UInt8 := [167, 255, 241, 27, 172]
abbrev dktX7_strikes_1 : List UInt8 := dkwX7_strikes_1 ++ []
def dkwX7_strikes_0 : List UInt8 := [42, 182, 0, 144, 60, 3, 61, 28, 6, 162, 0, 16, 42, 180, 0, 15, 28, 3, 79, 132, 2, 1]
abbrev dktX7_strikes_0 : List UInt8 := dkwX7_strikes_0 ++ dktX7_strikes_1
theorem dksX7_strikes_0 : cX7_strikes.data.toList.drop 0 = dktX7_strikes_0 := by decide +kernel
theorem dksX7_strikes_1 : cX7_strikes.data.toList.drop 22 = dktX7_strikes_1 := dk_seg dksX7_strikes_0 22 rfl rfl
theorem dX7_strikes_0 : decode cX7_strikes 0 = .ok (.aload_n 0, 1) := dk_42 (dk_at dksX7_strikes_0 0 rfl rfl)
theorem dX7_strikes_1 : decode cX7_strikes 1 = .ok (.invokevirtual 144, 3) := dk_182 0 144 (dk_at dksX7_strikes_0 1 rfl rfl)
theorem dX7_strikes_4 : decode cX7_strikes 4 = .ok (.istore_n 1, 1) := dk_60 (dk_at dksX7_strikes_0 4 rfl rfl)
theorem dX7_strikes_5 : decode cX7_strikes 5 = .ok (.iconst 0, 1) := dk_3 (dk_at dksX7_strikes_0 5 rfl rfl)
theorem dX7_strikes_6 : decode cX7_strikes 6 = .ok (.istore_n 2, 1) := dk_61 (dk_at dksX7_strikes_0 6 rfl rfl)
theorem dX7_strikes_7 : decode cX7_strikes 7 = .ok (.iload_n 2, 1) := dk_28 (dk_at dksX7_strikes_0 7 rfl rfl)
theorem dX7_strikes_8 : decode cX7_strikes 8 = .ok (.iconst 3, 1) := dk_6 (dk_at dksX7_strikes_0 8 rfl rfl)
theorem dX7_strikes_9 : decode cX7_strikes 9 = .ok (.if_icmp .ge 16, 3) := dk_162 0 16 (dk_at dksX7_strikes_0 9 rfl rfl)
theorem dX7_strikes_12 : decode cX7_strikes 12 = .ok (.aload_n 0, 1) := dk_42 (dk_at dksX7_strikes_0 12 rfl rfl)
theorem dX7_strikes_13 : decode cX7_strikes 13 = .ok (.getfield 15, 3) := dk_180 0 15 (dk_at dksX7_strikes_0 13 rfl rfl)
theorem dX7_strikes_16 : decode cX7_strikes 16 = .ok (.iload_n 2, 1) := dk_28 (dk_at dksX7_strikes_0 16 rfl rfl)
theorem dX7_strikes_17 : decode cX7_strikes 17 = .ok (.iconst 0, 1) := dk_3 (dk_at dksX7_strikes_0 17 rfl rfl)
theorem dX7_strikes_18 : decode cX7_strikes 18 = .ok (.iastore, 1) := dk_79 (dk_at dksX7_strikes_0 18 rfl rfl)
theorem dX7_strikes_19 : decode cX7_strikes 19 = .ok (.iinc 2 1, 3) := dk_132 2 1 (dk_at dksX7_strikes_0 19 rfl rfl)
theorem dX7_strikes_22 : decode cX7_strikes 22 = .ok (.goto (-15), 3) := dk_167 255 241 (dk_at dksX7_strikes_1 0 rfl rfl)
theorem dX7_strikes_25 : decode cX7_strikes 25 = .ok (.iload_n 1, 1) := dk_27 (dk_at dksX7_strikes_1 3 rfl rfl)
theorem dX7_strikes_26 : decode cX7_strikes 26 = .ok (.ireturn, 1) := dk_172 (dk_at dksX7_strikes_1 4 rfl rfl)
abbrev cX7_bareCoins : ByteArray := prog_4_method_6_code
def yX7_bareCoins : MethodName := ⟨RX7, "bareCoins", "()I"⟩
def dkwX7_bareCoins_1 : List UInt8 := [54, 5, 27, 21, 5, 96, 60, 132, 4, 1, 167, 255, 236, 27, 172]
abbrev dktX7_bareCoins_1 : List UInt8 := dkwX7_bareCoins_1 ++ []
def dkwX7_bareCoins_0 : List UInt8 := [3, 60, 42, 180, 0, 15, 77, 44, 190, 62, 3, 54, 4, 21, 4, 29, 162, 0, 20, 44, 21, 4, 46]
abbrev dktX7_bareCoins_0 : List UInt8 := dkwX7_bareCoins_0 ++ dktX7_bareCoins_1
theorem dksX7_bareCoins_0 : cX7_bareCoins.data.toList.drop 0 = dktX7_bareCoins_0 := by decide +kernel
theorem dksX7_bareCoins_1 : cX7_bareCoins.data.toList.drop 23 = dktX7_bareCoins_1 := dk_seg dksX7_bareCoins_0 23 rfl rfl
theorem dX7_bareCoins_0 : decode cX7_bareCoins 0 = .ok (.iconst 0, 1) := dk_3 (dk_at dksX7_bareCoins_0 0 rfl rfl)
theorem dX7_bareCoins_1 : decode cX7_bareCoins 1 = .ok (.istore_n 1, 1) := dk_60 (dk_at dksX7_bareCoins_0 1 rfl rfl)
theorem dX7_bareCoins_2 : decode cX7_bareCoins 2 = .ok (.aload_n 0, 1) := dk_42 (dk_at dksX7_bareCoins_0 2 rfl rfl)
theorem dX7_bareCoins_3 : decode cX7_bareCoins 3 = .ok (.getfield 15, 3) := dk_180 0 15 (dk_at dksX7_bareCoins_0 3 rfl rfl)
theorem dX7_bareCoins_6 : decode cX7_bareCoins 6 = .ok (.astore_n 2, 1) := dk_77 (dk_at dksX7_bareCoins_0 6 rfl rfl)
theorem dX7_bareCoins_7 : decode cX7_bareCoins 7 = .ok (.aload_n 2, 1) := dk_44 (dk_at dksX7_bareCoins_0 7 rfl rfl)
theorem dX7_bareCoins_8 : decode cX7_bareCoins 8 = .ok (.arraylength, 1) := dk_190 (dk_at dksX7_bareCoins_0 8 rfl rfl)
theorem dX7_bareCoins_9 : decode cX7_bareCoins 9 = .ok (.istore_n 3, 1) := dk_62 (dk_at dksX7_bareCoins_0 9 rfl rfl)
theorem dX7_bareCoins_10 : decode cX7_bareCoins 10 = .ok (.iconst 0, 1) := dk_3 (dk_at dksX7_bareCoins_0 10 rfl rfl)
theorem dX7_bareCoins_11 : decode cX7_bareCoins 11 = .ok (.istore 4, 2) := dk_54 4 (dk_at dksX7_bareCoins_0 11 rfl rfl)
theorem dX7_bareCoins_13 : decode cX7_bareCoins 13 = .ok (.iload 4, 2) := dk_21 4 (dk_at dksX7_bareCoins_0 13 rfl rfl)
theorem dX7_bareCoins_15 : decode cX7_bareCoins 15 = .ok (.iload_n 3, 1) := dk_29 (dk_at dksX7_bareCoins_0 15 rfl rfl)
theorem dX7_bareCoins_16 : decode cX7_bareCoins 16 = .ok (.if_icmp .ge 20, 3) := dk_162 0 20 (dk_at dksX7_bareCoins_0 16 rfl rfl)
theorem dX7_bareCoins_19 : decode cX7_bareCoins 19 = .ok (.aload_n 2, 1) := dk_44 (dk_at dksX7_bareCoins_0 19 rfl rfl)
theorem dX7_bareCoins_20 : decode cX7_bareCoins 20 = .ok (.iload 4, 2) := dk_21 4 (dk_at dksX7_bareCoins_0 20 rfl rfl)
theorem dX7_bareCoins_22 : decode cX7_bareCoins 22 = .ok (.iaload, 1) := dk_46 (dk_at dksX7_bareCoins_0 22 rfl rfl)
theorem dX7_bareCoins_23 : decode cX7_bareCoins 23 = .ok (.istore 5, 2) := dk_54 5 (dk_at dksX7_bareCoins_1 0 rfl rfl)
theorem dX7_bareCoins_25 : decode cX7_bareCoins 25 = .ok (.iload_n 1, 1) := dk_27 (dk_at dksX7_bareCoins_1 2 rfl rfl)
theorem dX7_bareCoins_26 : decode cX7_bareCoins 26 = .ok (.iload 5, 2) := dk_21 5 (dk_at dksX7_bareCoins_1 3 rfl rfl)
theorem dX7_bareCoins_28 : decode cX7_bareCoins 28 = .ok (.iadd, 1) := dk_96 (dk_at dksX7_bareCoins_1 5 rfl rfl)
theorem dX7_bareCoins_29 : decode cX7_bareCoins 29 = .ok (.istore_n 1, 1) := dk_60 (dk_at dksX7_bareCoins_1 6 rfl rfl)
theorem dX7_bareCoins_30 : decode cX7_bareCoins 30 = .ok (.iinc 4 1, 3) := dk_132 4 1 (dk_at dksX7_bareCoins_1 7 rfl rfl)
theorem dX7_bareCoins_33 : decode cX7_bareCoins 33 = .ok (.goto (-20), 3) := dk_167 255 236 (dk_at dksX7_bareCoins_1 10 rfl rfl)
theorem dX7_bareCoins_36 : decode cX7_bareCoins 36 = .ok (.iload_n 1, 1) := dk_27 (dk_at dksX7_bareCoins_1 13 rfl rfl)
theorem dX7_bareCoins_37 : decode cX7_bareCoins 37 = .ok (.ireturn, 1) := dk_172 (dk_at dksX7_bareCoins_1 14 rfl rfl)
abbrev cX7_settles : ByteArray := prog_4_method_18_code
def yX7_settles : MethodName := ⟨RX7, "settles", "(LCoinTaxes$Law;)I"⟩
def dkwX7_settles_3 : List UInt8 := [183, 0, 69, 185, 0, 72, 2, 0, 29, 172]
abbrev dktX7_settles_3 : List UInt8 := dkwX7_settles_3 ++ []
def dkwX7_settles_2 : List UInt8 := [182, 0, 156, 42, 182, 0, 159, 21, 4, 158, 0, 22, 42, 180, 0, 21, 187, 0, 61, 89, 21, 4, 3]
abbrev dktX7_settles_2 : List UInt8 := dkwX7_settles_2 ++ dktX7_settles_3
def dkwX7_settles_1 : List UInt8 := [108, 167, 0, 4, 3, 54, 4, 42, 28, 158, 0, 12, 28, 16, 100, 108, 29, 100, 167, 0, 4, 3]
abbrev dktX7_settles_1 : List UInt8 := dkwX7_settles_1 ++ dktX7_settles_2
def dkwX7_settles_0 : List UInt8 := [42, 43, 42, 180, 0, 76, 182, 0, 138, 61, 42, 28, 182, 0, 141, 62, 28, 156, 0, 11, 28, 116, 16, 100]
abbrev dktX7_settles_0 : List UInt8 := dkwX7_settles_0 ++ dktX7_settles_1
theorem dksX7_settles_0 : cX7_settles.data.toList.drop 0 = dktX7_settles_0 := by decide +kernel
theorem dksX7_settles_1 : cX7_settles.data.toList.drop 24 = dktX7_settles_1 := dk_seg dksX7_settles_0 24 rfl rfl
theorem dksX7_settles_2 : cX7_settles.data.toList.drop 46 = dktX7_settles_2 := dk_seg dksX7_settles_1 22 rfl rfl
theorem dksX7_settles_3 : cX7_settles.data.toList.drop 69 = dktX7_settles_3 := dk_seg dksX7_settles_2 23 rfl rfl
theorem dX7_settles_0 : decode cX7_settles 0 = .ok (.aload_n 0, 1) := dk_42 (dk_at dksX7_settles_0 0 rfl rfl)
theorem dX7_settles_1 : decode cX7_settles 1 = .ok (.aload_n 1, 1) := dk_43 (dk_at dksX7_settles_0 1 rfl rfl)
theorem dX7_settles_2 : decode cX7_settles 2 = .ok (.aload_n 0, 1) := dk_42 (dk_at dksX7_settles_0 2 rfl rfl)
theorem dX7_settles_3 : decode cX7_settles 3 = .ok (.getfield 76, 3) := dk_180 0 76 (dk_at dksX7_settles_0 3 rfl rfl)
theorem dX7_settles_6 : decode cX7_settles 6 = .ok (.invokevirtual 138, 3) := dk_182 0 138 (dk_at dksX7_settles_0 6 rfl rfl)
theorem dX7_settles_9 : decode cX7_settles 9 = .ok (.istore_n 2, 1) := dk_61 (dk_at dksX7_settles_0 9 rfl rfl)
theorem dX7_settles_10 : decode cX7_settles 10 = .ok (.aload_n 0, 1) := dk_42 (dk_at dksX7_settles_0 10 rfl rfl)
theorem dX7_settles_11 : decode cX7_settles 11 = .ok (.iload_n 2, 1) := dk_28 (dk_at dksX7_settles_0 11 rfl rfl)
theorem dX7_settles_12 : decode cX7_settles 12 = .ok (.invokevirtual 141, 3) := dk_182 0 141 (dk_at dksX7_settles_0 12 rfl rfl)
theorem dX7_settles_15 : decode cX7_settles 15 = .ok (.istore_n 3, 1) := dk_62 (dk_at dksX7_settles_0 15 rfl rfl)
theorem dX7_settles_16 : decode cX7_settles 16 = .ok (.iload_n 2, 1) := dk_28 (dk_at dksX7_settles_0 16 rfl rfl)
theorem dX7_settles_17 : decode cX7_settles 17 = .ok (.ifCond .ge 11, 3) := dk_156 0 11 (dk_at dksX7_settles_0 17 rfl rfl)
theorem dX7_settles_20 : decode cX7_settles 20 = .ok (.iload_n 2, 1) := dk_28 (dk_at dksX7_settles_0 20 rfl rfl)
theorem dX7_settles_21 : decode cX7_settles 21 = .ok (.ineg, 1) := dk_116 (dk_at dksX7_settles_0 21 rfl rfl)
theorem dX7_settles_22 : decode cX7_settles 22 = .ok (.bipush 100, 2) := dk_16 100 (dk_at dksX7_settles_0 22 rfl rfl)
theorem dX7_settles_24 : decode cX7_settles 24 = .ok (.idiv, 1) := dk_108 (dk_at dksX7_settles_1 0 rfl rfl)
theorem dX7_settles_25 : decode cX7_settles 25 = .ok (.goto 4, 3) := dk_167 0 4 (dk_at dksX7_settles_1 1 rfl rfl)
theorem dX7_settles_28 : decode cX7_settles 28 = .ok (.iconst 0, 1) := dk_3 (dk_at dksX7_settles_1 4 rfl rfl)
theorem dX7_settles_29 : decode cX7_settles 29 = .ok (.istore 4, 2) := dk_54 4 (dk_at dksX7_settles_1 5 rfl rfl)
theorem dX7_settles_31 : decode cX7_settles 31 = .ok (.aload_n 0, 1) := dk_42 (dk_at dksX7_settles_1 7 rfl rfl)
theorem dX7_settles_32 : decode cX7_settles 32 = .ok (.iload_n 2, 1) := dk_28 (dk_at dksX7_settles_1 8 rfl rfl)
theorem dX7_settles_33 : decode cX7_settles 33 = .ok (.ifCond .le 12, 3) := dk_158 0 12 (dk_at dksX7_settles_1 9 rfl rfl)
theorem dX7_settles_36 : decode cX7_settles 36 = .ok (.iload_n 2, 1) := dk_28 (dk_at dksX7_settles_1 12 rfl rfl)
theorem dX7_settles_37 : decode cX7_settles 37 = .ok (.bipush 100, 2) := dk_16 100 (dk_at dksX7_settles_1 13 rfl rfl)
theorem dX7_settles_39 : decode cX7_settles 39 = .ok (.idiv, 1) := dk_108 (dk_at dksX7_settles_1 15 rfl rfl)
theorem dX7_settles_40 : decode cX7_settles 40 = .ok (.iload_n 3, 1) := dk_29 (dk_at dksX7_settles_1 16 rfl rfl)
theorem dX7_settles_41 : decode cX7_settles 41 = .ok (.isub, 1) := dk_100 (dk_at dksX7_settles_1 17 rfl rfl)
theorem dX7_settles_42 : decode cX7_settles 42 = .ok (.goto 4, 3) := dk_167 0 4 (dk_at dksX7_settles_1 18 rfl rfl)
theorem dX7_settles_45 : decode cX7_settles 45 = .ok (.iconst 0, 1) := dk_3 (dk_at dksX7_settles_1 21 rfl rfl)
theorem dX7_settles_46 : decode cX7_settles 46 = .ok (.invokevirtual 156, 3) := dk_182 0 156 (dk_at dksX7_settles_2 0 rfl rfl)
theorem dX7_settles_49 : decode cX7_settles 49 = .ok (.aload_n 0, 1) := dk_42 (dk_at dksX7_settles_2 3 rfl rfl)
theorem dX7_settles_50 : decode cX7_settles 50 = .ok (.invokevirtual 159, 3) := dk_182 0 159 (dk_at dksX7_settles_2 4 rfl rfl)
theorem dX7_settles_53 : decode cX7_settles 53 = .ok (.iload 4, 2) := dk_21 4 (dk_at dksX7_settles_2 7 rfl rfl)
theorem dX7_settles_55 : decode cX7_settles 55 = .ok (.ifCond .le 22, 3) := dk_158 0 22 (dk_at dksX7_settles_2 9 rfl rfl)
theorem dX7_settles_58 : decode cX7_settles 58 = .ok (.aload_n 0, 1) := dk_42 (dk_at dksX7_settles_2 12 rfl rfl)
theorem dX7_settles_59 : decode cX7_settles 59 = .ok (.getfield 21, 3) := dk_180 0 21 (dk_at dksX7_settles_2 13 rfl rfl)
theorem dX7_settles_62 : decode cX7_settles 62 = .ok (.new 61, 3) := dk_187 0 61 (dk_at dksX7_settles_2 16 rfl rfl)
theorem dX7_settles_65 : decode cX7_settles 65 = .ok (.dup, 1) := dk_89 (dk_at dksX7_settles_2 19 rfl rfl)
theorem dX7_settles_66 : decode cX7_settles 66 = .ok (.iload 4, 2) := dk_21 4 (dk_at dksX7_settles_2 20 rfl rfl)
theorem dX7_settles_68 : decode cX7_settles 68 = .ok (.iconst 0, 1) := dk_3 (dk_at dksX7_settles_2 22 rfl rfl)
theorem dX7_settles_69 : decode cX7_settles 69 = .ok (.invokespecial 69, 3) := dk_183 0 69 (dk_at dksX7_settles_3 0 rfl rfl)
theorem dX7_settles_72 : decode cX7_settles 72 = .ok (.invokeinterface 72 2, 5) := by decide +kernel
theorem dX7_settles_77 : decode cX7_settles 77 = .ok (.iload_n 3, 1) := dk_29 (dk_at dksX7_settles_3 8 rfl rfl)
theorem dX7_settles_78 : decode cX7_settles 78 = .ok (.ireturn, 1) := dk_172 (dk_at dksX7_settles_3 9 rfl rfl)
abbrev cX7_dues : ByteArray := prog_4_method_9_code
def yX7_dues : MethodName := ⟨RX7, "dues", "(LCoinTaxes$Law;I)I"⟩
def dkwX7_dues_0 : List UInt8 := [43, 42, 43, 28, 182, 0, 118, 182, 0, 122, 43, 28, 182, 0, 125, 100, 172]
abbrev dktX7_dues_0 : List UInt8 := dkwX7_dues_0 ++ []
theorem dksX7_dues_0 : cX7_dues.data.toList.drop 0 = dktX7_dues_0 := by decide +kernel
theorem dX7_dues_0 : decode cX7_dues 0 = .ok (.aload_n 1, 1) := dk_43 (dk_at dksX7_dues_0 0 rfl rfl)
theorem dX7_dues_1 : decode cX7_dues 1 = .ok (.aload_n 0, 1) := dk_42 (dk_at dksX7_dues_0 1 rfl rfl)
theorem dX7_dues_2 : decode cX7_dues 2 = .ok (.aload_n 1, 1) := dk_43 (dk_at dksX7_dues_0 2 rfl rfl)
theorem dX7_dues_3 : decode cX7_dues 3 = .ok (.iload_n 2, 1) := dk_28 (dk_at dksX7_dues_0 3 rfl rfl)
theorem dX7_dues_4 : decode cX7_dues 4 = .ok (.invokevirtual 118, 3) := dk_182 0 118 (dk_at dksX7_dues_0 4 rfl rfl)
theorem dX7_dues_7 : decode cX7_dues 7 = .ok (.invokevirtual 122, 3) := dk_182 0 122 (dk_at dksX7_dues_0 7 rfl rfl)
theorem dX7_dues_10 : decode cX7_dues 10 = .ok (.aload_n 1, 1) := dk_43 (dk_at dksX7_dues_0 10 rfl rfl)
theorem dX7_dues_11 : decode cX7_dues 11 = .ok (.iload_n 2, 1) := dk_28 (dk_at dksX7_dues_0 11 rfl rfl)
theorem dX7_dues_12 : decode cX7_dues 12 = .ok (.invokevirtual 125, 3) := dk_182 0 125 (dk_at dksX7_dues_0 12 rfl rfl)
theorem dX7_dues_15 : decode cX7_dues 15 = .ok (.isub, 1) := dk_100 (dk_at dksX7_dues_0 15 rfl rfl)
theorem dX7_dues_16 : decode cX7_dues 16 = .ok (.ireturn, 1) := dk_172 (dk_at dksX7_dues_0 16 rfl rfl)
abbrev cX7_taxed : ByteArray := prog_4_method_8_code
def yX7_taxed : MethodName := ⟨RX7, "taxed", "(LCoinTaxes$Law;I)I"⟩
def dkwX7_taxed_0 : List UInt8 := [3, 28, 42, 43, 182, 0, 112, 100, 184, 0, 115, 172]
abbrev dktX7_taxed_0 : List UInt8 := dkwX7_taxed_0 ++ []
theorem dksX7_taxed_0 : cX7_taxed.data.toList.drop 0 = dktX7_taxed_0 := by decide +kernel
theorem dX7_taxed_0 : decode cX7_taxed 0 = .ok (.iconst 0, 1) := dk_3 (dk_at dksX7_taxed_0 0 rfl rfl)
theorem dX7_taxed_1 : decode cX7_taxed 1 = .ok (.iload_n 2, 1) := dk_28 (dk_at dksX7_taxed_0 1 rfl rfl)
theorem dX7_taxed_2 : decode cX7_taxed 2 = .ok (.aload_n 0, 1) := dk_42 (dk_at dksX7_taxed_0 2 rfl rfl)
theorem dX7_taxed_3 : decode cX7_taxed 3 = .ok (.aload_n 1, 1) := dk_43 (dk_at dksX7_taxed_0 3 rfl rfl)
theorem dX7_taxed_4 : decode cX7_taxed 4 = .ok (.invokevirtual 112, 3) := dk_182 0 112 (dk_at dksX7_taxed_0 4 rfl rfl)
theorem dX7_taxed_7 : decode cX7_taxed 7 = .ok (.isub, 1) := dk_100 (dk_at dksX7_taxed_0 7 rfl rfl)
theorem dX7_taxed_8 : decode cX7_taxed 8 = .ok (.invokestatic 115, 3) := dk_184 0 115 (dk_at dksX7_taxed_0 8 rfl rfl)
theorem dX7_taxed_11 : decode cX7_taxed 11 = .ok (.ireturn, 1) := dk_172 (dk_at dksX7_taxed_0 11 rfl rfl)
abbrev cX7_counts_2 : ByteArray := prog_4_method_5_code
def yX7_counts_2 : MethodName := ⟨RX7, "counts", "(LCoinTaxes$Law;)I"⟩
def dkwX7_counts_2_1 : List UInt8 := [28, 172]
abbrev dktX7_counts_2_1 : List UInt8 := dkwX7_counts_2_1 ++ []
def dkwX7_counts_2_0 : List UInt8 := [3, 61, 3, 62, 29, 6, 162, 0, 18, 28, 42, 29, 43, 182, 0, 108, 96, 61, 132, 3, 1, 167, 255, 239]
abbrev dktX7_counts_2_0 : List UInt8 := dkwX7_counts_2_0 ++ dktX7_counts_2_1
theorem dksX7_counts_2_0 : cX7_counts_2.data.toList.drop 0 = dktX7_counts_2_0 := by decide +kernel
theorem dksX7_counts_2_1 : cX7_counts_2.data.toList.drop 24 = dktX7_counts_2_1 := dk_seg dksX7_counts_2_0 24 rfl rfl
theorem dX7_counts_2_0 : decode cX7_counts_2 0 = .ok (.iconst 0, 1) := dk_3 (dk_at dksX7_counts_2_0 0 rfl rfl)
theorem dX7_counts_2_1 : decode cX7_counts_2 1 = .ok (.istore_n 2, 1) := dk_61 (dk_at dksX7_counts_2_0 1 rfl rfl)
theorem dX7_counts_2_2 : decode cX7_counts_2 2 = .ok (.iconst 0, 1) := dk_3 (dk_at dksX7_counts_2_0 2 rfl rfl)
theorem dX7_counts_2_3 : decode cX7_counts_2 3 = .ok (.istore_n 3, 1) := dk_62 (dk_at dksX7_counts_2_0 3 rfl rfl)
theorem dX7_counts_2_4 : decode cX7_counts_2 4 = .ok (.iload_n 3, 1) := dk_29 (dk_at dksX7_counts_2_0 4 rfl rfl)
theorem dX7_counts_2_5 : decode cX7_counts_2 5 = .ok (.iconst 3, 1) := dk_6 (dk_at dksX7_counts_2_0 5 rfl rfl)
theorem dX7_counts_2_6 : decode cX7_counts_2 6 = .ok (.if_icmp .ge 18, 3) := dk_162 0 18 (dk_at dksX7_counts_2_0 6 rfl rfl)
theorem dX7_counts_2_9 : decode cX7_counts_2 9 = .ok (.iload_n 2, 1) := dk_28 (dk_at dksX7_counts_2_0 9 rfl rfl)
theorem dX7_counts_2_10 : decode cX7_counts_2 10 = .ok (.aload_n 0, 1) := dk_42 (dk_at dksX7_counts_2_0 10 rfl rfl)
theorem dX7_counts_2_11 : decode cX7_counts_2 11 = .ok (.iload_n 3, 1) := dk_29 (dk_at dksX7_counts_2_0 11 rfl rfl)
theorem dX7_counts_2_12 : decode cX7_counts_2 12 = .ok (.aload_n 1, 1) := dk_43 (dk_at dksX7_counts_2_0 12 rfl rfl)
theorem dX7_counts_2_13 : decode cX7_counts_2 13 = .ok (.invokevirtual 108, 3) := dk_182 0 108 (dk_at dksX7_counts_2_0 13 rfl rfl)
theorem dX7_counts_2_16 : decode cX7_counts_2 16 = .ok (.iadd, 1) := dk_96 (dk_at dksX7_counts_2_0 16 rfl rfl)
theorem dX7_counts_2_17 : decode cX7_counts_2 17 = .ok (.istore_n 2, 1) := dk_61 (dk_at dksX7_counts_2_0 17 rfl rfl)
theorem dX7_counts_2_18 : decode cX7_counts_2 18 = .ok (.iinc 3 1, 3) := dk_132 3 1 (dk_at dksX7_counts_2_0 18 rfl rfl)
theorem dX7_counts_2_21 : decode cX7_counts_2 21 = .ok (.goto (-17), 3) := dk_167 255 239 (dk_at dksX7_counts_2_0 21 rfl rfl)
theorem dX7_counts_2_24 : decode cX7_counts_2 24 = .ok (.iload_n 2, 1) := dk_28 (dk_at dksX7_counts_2_1 0 rfl rfl)
theorem dX7_counts_2_25 : decode cX7_counts_2 25 = .ok (.ireturn, 1) := dk_172 (dk_at dksX7_counts_2_1 1 rfl rfl)
abbrev cX7_taxOf : ByteArray := prog_4_method_12_code
def yX7_taxOf : MethodName := ⟨RX7, "taxOf", "(I)I"⟩
def dkwX7_taxOf_0 : List UInt8 := [27, 42, 182, 0, 131, 184, 0, 135, 172]
abbrev dktX7_taxOf_0 : List UInt8 := dkwX7_taxOf_0 ++ []
theorem dksX7_taxOf_0 : cX7_taxOf.data.toList.drop 0 = dktX7_taxOf_0 := by decide +kernel
theorem dX7_taxOf_0 : decode cX7_taxOf 0 = .ok (.iload_n 1, 1) := dk_27 (dk_at dksX7_taxOf_0 0 rfl rfl)
theorem dX7_taxOf_1 : decode cX7_taxOf 1 = .ok (.aload_n 0, 1) := dk_42 (dk_at dksX7_taxOf_0 1 rfl rfl)
theorem dX7_taxOf_2 : decode cX7_taxOf 2 = .ok (.invokevirtual 131, 3) := dk_182 0 131 (dk_at dksX7_taxOf_0 2 rfl rfl)
theorem dX7_taxOf_5 : decode cX7_taxOf 5 = .ok (.invokestatic 135, 3) := dk_184 0 135 (dk_at dksX7_taxOf_0 5 rfl rfl)
theorem dX7_taxOf_8 : decode cX7_taxOf 8 = .ok (.ireturn, 1) := dk_172 (dk_at dksX7_taxOf_0 8 rfl rfl)
abbrev cX7_carriedCoins : ByteArray := prog_4_method_7_code
def yX7_carriedCoins : MethodName := ⟨RX7, "carriedCoins", "()I"⟩
def dkwX7_carriedCoins_1 : List UInt8 := [185, 0, 57, 1, 0, 192, 0, 61, 78, 27, 45, 180, 0, 63, 96, 60, 167, 255, 230, 27, 172]
abbrev dktX7_carriedCoins_1 : List UInt8 := dkwX7_carriedCoins_1 ++ []
def dkwX7_carriedCoins_0 : List UInt8 := [3, 60, 42, 180, 0, 21, 185, 0, 45, 1, 0, 77, 44, 185, 0, 51, 1, 0, 153, 0, 23, 44]
abbrev dktX7_carriedCoins_0 : List UInt8 := dkwX7_carriedCoins_0 ++ dktX7_carriedCoins_1
theorem dksX7_carriedCoins_0 : cX7_carriedCoins.data.toList.drop 0 = dktX7_carriedCoins_0 := by decide +kernel
theorem dksX7_carriedCoins_1 : cX7_carriedCoins.data.toList.drop 22 = dktX7_carriedCoins_1 := dk_seg dksX7_carriedCoins_0 22 rfl rfl
theorem dX7_carriedCoins_0 : decode cX7_carriedCoins 0 = .ok (.iconst 0, 1) := dk_3 (dk_at dksX7_carriedCoins_0 0 rfl rfl)
theorem dX7_carriedCoins_1 : decode cX7_carriedCoins 1 = .ok (.istore_n 1, 1) := dk_60 (dk_at dksX7_carriedCoins_0 1 rfl rfl)
theorem dX7_carriedCoins_2 : decode cX7_carriedCoins 2 = .ok (.aload_n 0, 1) := dk_42 (dk_at dksX7_carriedCoins_0 2 rfl rfl)
theorem dX7_carriedCoins_3 : decode cX7_carriedCoins 3 = .ok (.getfield 21, 3) := dk_180 0 21 (dk_at dksX7_carriedCoins_0 3 rfl rfl)
theorem dX7_carriedCoins_6 : decode cX7_carriedCoins 6 = .ok (.invokeinterface 45 1, 5) := by decide +kernel
theorem dX7_carriedCoins_11 : decode cX7_carriedCoins 11 = .ok (.astore_n 2, 1) := dk_77 (dk_at dksX7_carriedCoins_0 11 rfl rfl)
theorem dX7_carriedCoins_12 : decode cX7_carriedCoins 12 = .ok (.aload_n 2, 1) := dk_44 (dk_at dksX7_carriedCoins_0 12 rfl rfl)
theorem dX7_carriedCoins_13 : decode cX7_carriedCoins 13 = .ok (.invokeinterface 51 1, 5) := by decide +kernel
theorem dX7_carriedCoins_18 : decode cX7_carriedCoins 18 = .ok (.ifCond .eq 23, 3) := dk_153 0 23 (dk_at dksX7_carriedCoins_0 18 rfl rfl)
theorem dX7_carriedCoins_21 : decode cX7_carriedCoins 21 = .ok (.aload_n 2, 1) := dk_44 (dk_at dksX7_carriedCoins_0 21 rfl rfl)
theorem dX7_carriedCoins_22 : decode cX7_carriedCoins 22 = .ok (.invokeinterface 57 1, 5) := by decide +kernel
theorem dX7_carriedCoins_27 : decode cX7_carriedCoins 27 = .ok (.checkcast 61, 3) := dk_192 0 61 (dk_at dksX7_carriedCoins_1 5 rfl rfl)
theorem dX7_carriedCoins_30 : decode cX7_carriedCoins 30 = .ok (.astore_n 3, 1) := dk_78 (dk_at dksX7_carriedCoins_1 8 rfl rfl)
theorem dX7_carriedCoins_31 : decode cX7_carriedCoins 31 = .ok (.iload_n 1, 1) := dk_27 (dk_at dksX7_carriedCoins_1 9 rfl rfl)
theorem dX7_carriedCoins_32 : decode cX7_carriedCoins 32 = .ok (.aload_n 3, 1) := dk_45 (dk_at dksX7_carriedCoins_1 10 rfl rfl)
theorem dX7_carriedCoins_33 : decode cX7_carriedCoins 33 = .ok (.getfield 63, 3) := dk_180 0 63 (dk_at dksX7_carriedCoins_1 11 rfl rfl)
theorem dX7_carriedCoins_36 : decode cX7_carriedCoins 36 = .ok (.iadd, 1) := dk_96 (dk_at dksX7_carriedCoins_1 14 rfl rfl)
theorem dX7_carriedCoins_37 : decode cX7_carriedCoins 37 = .ok (.istore_n 1, 1) := dk_60 (dk_at dksX7_carriedCoins_1 15 rfl rfl)
theorem dX7_carriedCoins_38 : decode cX7_carriedCoins 38 = .ok (.goto (-26), 3) := dk_167 255 230 (dk_at dksX7_carriedCoins_1 16 rfl rfl)
theorem dX7_carriedCoins_41 : decode cX7_carriedCoins 41 = .ok (.iload_n 1, 1) := dk_27 (dk_at dksX7_carriedCoins_1 19 rfl rfl)
theorem dX7_carriedCoins_42 : decode cX7_carriedCoins 42 = .ok (.ireturn, 1) := dk_172 (dk_at dksX7_carriedCoins_1 20 rfl rfl)
abbrev cX7_taxBehind : ByteArray := prog_4_method_11_code
def yX7_taxBehind : MethodName := ⟨RX7, "taxBehind", "(II)I"⟩
def dkwX7_taxBehind_0 : List UInt8 := [26, 158, 0, 16, 3, 26, 16, 100, 108, 27, 100, 184, 0, 115, 167, 0, 4, 3, 172]
abbrev dktX7_taxBehind_0 : List UInt8 := dkwX7_taxBehind_0 ++ []
theorem dksX7_taxBehind_0 : cX7_taxBehind.data.toList.drop 0 = dktX7_taxBehind_0 := by decide +kernel
theorem dX7_taxBehind_0 : decode cX7_taxBehind 0 = .ok (.iload_n 0, 1) := dk_26 (dk_at dksX7_taxBehind_0 0 rfl rfl)
theorem dX7_taxBehind_1 : decode cX7_taxBehind 1 = .ok (.ifCond .le 16, 3) := dk_158 0 16 (dk_at dksX7_taxBehind_0 1 rfl rfl)
theorem dX7_taxBehind_4 : decode cX7_taxBehind 4 = .ok (.iconst 0, 1) := dk_3 (dk_at dksX7_taxBehind_0 4 rfl rfl)
theorem dX7_taxBehind_5 : decode cX7_taxBehind 5 = .ok (.iload_n 0, 1) := dk_26 (dk_at dksX7_taxBehind_0 5 rfl rfl)
theorem dX7_taxBehind_6 : decode cX7_taxBehind 6 = .ok (.bipush 100, 2) := dk_16 100 (dk_at dksX7_taxBehind_0 6 rfl rfl)
theorem dX7_taxBehind_8 : decode cX7_taxBehind 8 = .ok (.idiv, 1) := dk_108 (dk_at dksX7_taxBehind_0 8 rfl rfl)
theorem dX7_taxBehind_9 : decode cX7_taxBehind 9 = .ok (.iload_n 1, 1) := dk_27 (dk_at dksX7_taxBehind_0 9 rfl rfl)
theorem dX7_taxBehind_10 : decode cX7_taxBehind 10 = .ok (.isub, 1) := dk_100 (dk_at dksX7_taxBehind_0 10 rfl rfl)
theorem dX7_taxBehind_11 : decode cX7_taxBehind 11 = .ok (.invokestatic 115, 3) := dk_184 0 115 (dk_at dksX7_taxBehind_0 11 rfl rfl)
theorem dX7_taxBehind_14 : decode cX7_taxBehind 14 = .ok (.goto 4, 3) := dk_167 0 4 (dk_at dksX7_taxBehind_0 14 rfl rfl)
theorem dX7_taxBehind_17 : decode cX7_taxBehind 17 = .ok (.iconst 0, 1) := dk_3 (dk_at dksX7_taxBehind_0 17 rfl rfl)
theorem dX7_taxBehind_18 : decode cX7_taxBehind 18 = .ok (.ireturn, 1) := dk_172 (dk_at dksX7_taxBehind_0 18 rfl rfl)
abbrev cX7_uses : ByteArray := prog_4_method_16_code
def yX7_uses : MethodName := ⟨RX7, "uses", "(I)V"⟩
def dkwX7_uses_3 : List UInt8 := [185, 0, 153, 1, 0, 87, 167, 255, 184, 177]
abbrev dktX7_uses_3 : List UInt8 := dkwX7_uses_3 ++ []
def dkwX7_uses_2 : List UInt8 := [21, 4, 100, 181, 0, 63, 28, 21, 4, 100, 61, 45, 180, 0, 63, 154, 0, 13, 42, 180, 0, 21]
abbrev dktX7_uses_2 : List UInt8 := dkwX7_uses_2 ++ dktX7_uses_3
def dkwX7_uses_1 : List UInt8 := [185, 0, 150, 1, 0, 192, 0, 61, 78, 28, 45, 180, 0, 63, 184, 0, 102, 54, 4, 45, 89, 180, 0, 63]
abbrev dktX7_uses_1 : List UInt8 := dkwX7_uses_1 ++ dktX7_uses_2
def dkwX7_uses_0 : List UInt8 := [27, 61, 28, 158, 0, 74, 42, 180, 0, 21, 185, 0, 147, 1, 0, 154, 0, 62, 42, 180, 0, 21]
abbrev dktX7_uses_0 : List UInt8 := dkwX7_uses_0 ++ dktX7_uses_1
theorem dksX7_uses_0 : cX7_uses.data.toList.drop 0 = dktX7_uses_0 := by decide +kernel
theorem dksX7_uses_1 : cX7_uses.data.toList.drop 22 = dktX7_uses_1 := dk_seg dksX7_uses_0 22 rfl rfl
theorem dksX7_uses_2 : cX7_uses.data.toList.drop 46 = dktX7_uses_2 := dk_seg dksX7_uses_1 24 rfl rfl
theorem dksX7_uses_3 : cX7_uses.data.toList.drop 68 = dktX7_uses_3 := dk_seg dksX7_uses_2 22 rfl rfl
theorem dX7_uses_0 : decode cX7_uses 0 = .ok (.iload_n 1, 1) := dk_27 (dk_at dksX7_uses_0 0 rfl rfl)
theorem dX7_uses_1 : decode cX7_uses 1 = .ok (.istore_n 2, 1) := dk_61 (dk_at dksX7_uses_0 1 rfl rfl)
theorem dX7_uses_2 : decode cX7_uses 2 = .ok (.iload_n 2, 1) := dk_28 (dk_at dksX7_uses_0 2 rfl rfl)
theorem dX7_uses_3 : decode cX7_uses 3 = .ok (.ifCond .le 74, 3) := dk_158 0 74 (dk_at dksX7_uses_0 3 rfl rfl)
theorem dX7_uses_6 : decode cX7_uses 6 = .ok (.aload_n 0, 1) := dk_42 (dk_at dksX7_uses_0 6 rfl rfl)
theorem dX7_uses_7 : decode cX7_uses 7 = .ok (.getfield 21, 3) := dk_180 0 21 (dk_at dksX7_uses_0 7 rfl rfl)
theorem dX7_uses_10 : decode cX7_uses 10 = .ok (.invokeinterface 147 1, 5) := by decide +kernel
theorem dX7_uses_15 : decode cX7_uses 15 = .ok (.ifCond .ne 62, 3) := dk_154 0 62 (dk_at dksX7_uses_0 15 rfl rfl)
theorem dX7_uses_18 : decode cX7_uses 18 = .ok (.aload_n 0, 1) := dk_42 (dk_at dksX7_uses_0 18 rfl rfl)
theorem dX7_uses_19 : decode cX7_uses 19 = .ok (.getfield 21, 3) := dk_180 0 21 (dk_at dksX7_uses_0 19 rfl rfl)
theorem dX7_uses_22 : decode cX7_uses 22 = .ok (.invokeinterface 150 1, 5) := by decide +kernel
theorem dX7_uses_27 : decode cX7_uses 27 = .ok (.checkcast 61, 3) := dk_192 0 61 (dk_at dksX7_uses_1 5 rfl rfl)
theorem dX7_uses_30 : decode cX7_uses 30 = .ok (.astore_n 3, 1) := dk_78 (dk_at dksX7_uses_1 8 rfl rfl)
theorem dX7_uses_31 : decode cX7_uses 31 = .ok (.iload_n 2, 1) := dk_28 (dk_at dksX7_uses_1 9 rfl rfl)
theorem dX7_uses_32 : decode cX7_uses 32 = .ok (.aload_n 3, 1) := dk_45 (dk_at dksX7_uses_1 10 rfl rfl)
theorem dX7_uses_33 : decode cX7_uses 33 = .ok (.getfield 63, 3) := dk_180 0 63 (dk_at dksX7_uses_1 11 rfl rfl)
theorem dX7_uses_36 : decode cX7_uses 36 = .ok (.invokestatic 102, 3) := dk_184 0 102 (dk_at dksX7_uses_1 14 rfl rfl)
theorem dX7_uses_39 : decode cX7_uses 39 = .ok (.istore 4, 2) := dk_54 4 (dk_at dksX7_uses_1 17 rfl rfl)
theorem dX7_uses_41 : decode cX7_uses 41 = .ok (.aload_n 3, 1) := dk_45 (dk_at dksX7_uses_1 19 rfl rfl)
theorem dX7_uses_42 : decode cX7_uses 42 = .ok (.dup, 1) := dk_89 (dk_at dksX7_uses_1 20 rfl rfl)
theorem dX7_uses_43 : decode cX7_uses 43 = .ok (.getfield 63, 3) := dk_180 0 63 (dk_at dksX7_uses_1 21 rfl rfl)
theorem dX7_uses_46 : decode cX7_uses 46 = .ok (.iload 4, 2) := dk_21 4 (dk_at dksX7_uses_2 0 rfl rfl)
theorem dX7_uses_48 : decode cX7_uses 48 = .ok (.isub, 1) := dk_100 (dk_at dksX7_uses_2 2 rfl rfl)
theorem dX7_uses_49 : decode cX7_uses 49 = .ok (.putfield 63, 3) := dk_181 0 63 (dk_at dksX7_uses_2 3 rfl rfl)
theorem dX7_uses_52 : decode cX7_uses 52 = .ok (.iload_n 2, 1) := dk_28 (dk_at dksX7_uses_2 6 rfl rfl)
theorem dX7_uses_53 : decode cX7_uses 53 = .ok (.iload 4, 2) := dk_21 4 (dk_at dksX7_uses_2 7 rfl rfl)
theorem dX7_uses_55 : decode cX7_uses 55 = .ok (.isub, 1) := dk_100 (dk_at dksX7_uses_2 9 rfl rfl)
theorem dX7_uses_56 : decode cX7_uses 56 = .ok (.istore_n 2, 1) := dk_61 (dk_at dksX7_uses_2 10 rfl rfl)
theorem dX7_uses_57 : decode cX7_uses 57 = .ok (.aload_n 3, 1) := dk_45 (dk_at dksX7_uses_2 11 rfl rfl)
theorem dX7_uses_58 : decode cX7_uses 58 = .ok (.getfield 63, 3) := dk_180 0 63 (dk_at dksX7_uses_2 12 rfl rfl)
theorem dX7_uses_61 : decode cX7_uses 61 = .ok (.ifCond .ne 13, 3) := dk_154 0 13 (dk_at dksX7_uses_2 15 rfl rfl)
theorem dX7_uses_64 : decode cX7_uses 64 = .ok (.aload_n 0, 1) := dk_42 (dk_at dksX7_uses_2 18 rfl rfl)
theorem dX7_uses_65 : decode cX7_uses 65 = .ok (.getfield 21, 3) := dk_180 0 21 (dk_at dksX7_uses_2 19 rfl rfl)
theorem dX7_uses_68 : decode cX7_uses 68 = .ok (.invokeinterface 153 1, 5) := by decide +kernel
theorem dX7_uses_73 : decode cX7_uses 73 = .ok (.pop, 1) := dk_87 (dk_at dksX7_uses_3 5 rfl rfl)
theorem dX7_uses_74 : decode cX7_uses 74 = .ok (.goto (-72), 3) := dk_167 255 184 (dk_at dksX7_uses_3 6 rfl rfl)
theorem dX7_uses_77 : decode cX7_uses 77 = .ok (.return_, 1) := dk_177 (dk_at dksX7_uses_3 9 rfl rfl)
abbrev cX7_carriedGrowOld : ByteArray := prog_4_method_17_code
def yX7_carriedGrowOld : MethodName := ⟨RX7, "carriedGrowOld", "()V"⟩
def dkwX7_carriedGrowOld_3 : List UInt8 := [180, 0, 66, 6, 160, 0, 19, 42, 180, 0, 21, 185, 0, 153, 1, 0, 192, 0, 61, 76, 167, 255, 212, 177]
abbrev dktX7_carriedGrowOld_3 : List UInt8 := dkwX7_carriedGrowOld_3 ++ []
def dkwX7_carriedGrowOld_2 : List UInt8 := [180, 0, 21, 185, 0, 147, 1, 0, 154, 0, 38, 42, 180, 0, 21, 185, 0, 150, 1, 0, 192, 0, 61]
abbrev dktX7_carriedGrowOld_2 : List UInt8 := dkwX7_carriedGrowOld_2 ++ dktX7_carriedGrowOld_3
def dkwX7_carriedGrowOld_1 : List UInt8 := [185, 0, 57, 1, 0, 192, 0, 61, 77, 44, 89, 180, 0, 66, 4, 96, 181, 0, 66, 167, 255, 227, 42]
abbrev dktX7_carriedGrowOld_1 : List UInt8 := dkwX7_carriedGrowOld_1 ++ dktX7_carriedGrowOld_2
def dkwX7_carriedGrowOld_0 : List UInt8 := [42, 180, 0, 21, 185, 0, 45, 1, 0, 76, 43, 185, 0, 51, 1, 0, 153, 0, 26, 43]
abbrev dktX7_carriedGrowOld_0 : List UInt8 := dkwX7_carriedGrowOld_0 ++ dktX7_carriedGrowOld_1
theorem dksX7_carriedGrowOld_0 : cX7_carriedGrowOld.data.toList.drop 0 = dktX7_carriedGrowOld_0 := by decide +kernel
theorem dksX7_carriedGrowOld_1 : cX7_carriedGrowOld.data.toList.drop 20 = dktX7_carriedGrowOld_1 := dk_seg dksX7_carriedGrowOld_0 20 rfl rfl
theorem dksX7_carriedGrowOld_2 : cX7_carriedGrowOld.data.toList.drop 43 = dktX7_carriedGrowOld_2 := dk_seg dksX7_carriedGrowOld_1 23 rfl rfl
theorem dksX7_carriedGrowOld_3 : cX7_carriedGrowOld.data.toList.drop 66 = dktX7_carriedGrowOld_3 := dk_seg dksX7_carriedGrowOld_2 23 rfl rfl
theorem dX7_carriedGrowOld_0 : decode cX7_carriedGrowOld 0 = .ok (.aload_n 0, 1) := dk_42 (dk_at dksX7_carriedGrowOld_0 0 rfl rfl)
theorem dX7_carriedGrowOld_1 : decode cX7_carriedGrowOld 1 = .ok (.getfield 21, 3) := dk_180 0 21 (dk_at dksX7_carriedGrowOld_0 1 rfl rfl)
theorem dX7_carriedGrowOld_4 : decode cX7_carriedGrowOld 4 = .ok (.invokeinterface 45 1, 5) := by decide +kernel
theorem dX7_carriedGrowOld_9 : decode cX7_carriedGrowOld 9 = .ok (.astore_n 1, 1) := dk_76 (dk_at dksX7_carriedGrowOld_0 9 rfl rfl)
theorem dX7_carriedGrowOld_10 : decode cX7_carriedGrowOld 10 = .ok (.aload_n 1, 1) := dk_43 (dk_at dksX7_carriedGrowOld_0 10 rfl rfl)
theorem dX7_carriedGrowOld_11 : decode cX7_carriedGrowOld 11 = .ok (.invokeinterface 51 1, 5) := by decide +kernel
theorem dX7_carriedGrowOld_16 : decode cX7_carriedGrowOld 16 = .ok (.ifCond .eq 26, 3) := dk_153 0 26 (dk_at dksX7_carriedGrowOld_0 16 rfl rfl)
theorem dX7_carriedGrowOld_19 : decode cX7_carriedGrowOld 19 = .ok (.aload_n 1, 1) := dk_43 (dk_at dksX7_carriedGrowOld_0 19 rfl rfl)
theorem dX7_carriedGrowOld_20 : decode cX7_carriedGrowOld 20 = .ok (.invokeinterface 57 1, 5) := by decide +kernel
theorem dX7_carriedGrowOld_25 : decode cX7_carriedGrowOld 25 = .ok (.checkcast 61, 3) := dk_192 0 61 (dk_at dksX7_carriedGrowOld_1 5 rfl rfl)
theorem dX7_carriedGrowOld_28 : decode cX7_carriedGrowOld 28 = .ok (.astore_n 2, 1) := dk_77 (dk_at dksX7_carriedGrowOld_1 8 rfl rfl)
theorem dX7_carriedGrowOld_29 : decode cX7_carriedGrowOld 29 = .ok (.aload_n 2, 1) := dk_44 (dk_at dksX7_carriedGrowOld_1 9 rfl rfl)
theorem dX7_carriedGrowOld_30 : decode cX7_carriedGrowOld 30 = .ok (.dup, 1) := dk_89 (dk_at dksX7_carriedGrowOld_1 10 rfl rfl)
theorem dX7_carriedGrowOld_31 : decode cX7_carriedGrowOld 31 = .ok (.getfield 66, 3) := dk_180 0 66 (dk_at dksX7_carriedGrowOld_1 11 rfl rfl)
theorem dX7_carriedGrowOld_34 : decode cX7_carriedGrowOld 34 = .ok (.iconst 1, 1) := dk_4 (dk_at dksX7_carriedGrowOld_1 14 rfl rfl)
theorem dX7_carriedGrowOld_35 : decode cX7_carriedGrowOld 35 = .ok (.iadd, 1) := dk_96 (dk_at dksX7_carriedGrowOld_1 15 rfl rfl)
theorem dX7_carriedGrowOld_36 : decode cX7_carriedGrowOld 36 = .ok (.putfield 66, 3) := dk_181 0 66 (dk_at dksX7_carriedGrowOld_1 16 rfl rfl)
theorem dX7_carriedGrowOld_39 : decode cX7_carriedGrowOld 39 = .ok (.goto (-29), 3) := dk_167 255 227 (dk_at dksX7_carriedGrowOld_1 19 rfl rfl)
theorem dX7_carriedGrowOld_42 : decode cX7_carriedGrowOld 42 = .ok (.aload_n 0, 1) := dk_42 (dk_at dksX7_carriedGrowOld_1 22 rfl rfl)
theorem dX7_carriedGrowOld_43 : decode cX7_carriedGrowOld 43 = .ok (.getfield 21, 3) := dk_180 0 21 (dk_at dksX7_carriedGrowOld_2 0 rfl rfl)
theorem dX7_carriedGrowOld_46 : decode cX7_carriedGrowOld 46 = .ok (.invokeinterface 147 1, 5) := by decide +kernel
theorem dX7_carriedGrowOld_51 : decode cX7_carriedGrowOld 51 = .ok (.ifCond .ne 38, 3) := dk_154 0 38 (dk_at dksX7_carriedGrowOld_2 8 rfl rfl)
theorem dX7_carriedGrowOld_54 : decode cX7_carriedGrowOld 54 = .ok (.aload_n 0, 1) := dk_42 (dk_at dksX7_carriedGrowOld_2 11 rfl rfl)
theorem dX7_carriedGrowOld_55 : decode cX7_carriedGrowOld 55 = .ok (.getfield 21, 3) := dk_180 0 21 (dk_at dksX7_carriedGrowOld_2 12 rfl rfl)
theorem dX7_carriedGrowOld_58 : decode cX7_carriedGrowOld 58 = .ok (.invokeinterface 150 1, 5) := by decide +kernel
theorem dX7_carriedGrowOld_63 : decode cX7_carriedGrowOld 63 = .ok (.checkcast 61, 3) := dk_192 0 61 (dk_at dksX7_carriedGrowOld_2 20 rfl rfl)
theorem dX7_carriedGrowOld_66 : decode cX7_carriedGrowOld 66 = .ok (.getfield 66, 3) := dk_180 0 66 (dk_at dksX7_carriedGrowOld_3 0 rfl rfl)
theorem dX7_carriedGrowOld_69 : decode cX7_carriedGrowOld 69 = .ok (.iconst 3, 1) := dk_6 (dk_at dksX7_carriedGrowOld_3 3 rfl rfl)
theorem dX7_carriedGrowOld_70 : decode cX7_carriedGrowOld 70 = .ok (.if_icmp .ne 19, 3) := dk_160 0 19 (dk_at dksX7_carriedGrowOld_3 4 rfl rfl)
theorem dX7_carriedGrowOld_73 : decode cX7_carriedGrowOld 73 = .ok (.aload_n 0, 1) := dk_42 (dk_at dksX7_carriedGrowOld_3 7 rfl rfl)
theorem dX7_carriedGrowOld_74 : decode cX7_carriedGrowOld 74 = .ok (.getfield 21, 3) := dk_180 0 21 (dk_at dksX7_carriedGrowOld_3 8 rfl rfl)
theorem dX7_carriedGrowOld_77 : decode cX7_carriedGrowOld 77 = .ok (.invokeinterface 153 1, 5) := by decide +kernel
theorem dX7_carriedGrowOld_82 : decode cX7_carriedGrowOld 82 = .ok (.checkcast 61, 3) := dk_192 0 61 (dk_at dksX7_carriedGrowOld_3 16 rfl rfl)
theorem dX7_carriedGrowOld_85 : decode cX7_carriedGrowOld 85 = .ok (.astore_n 1, 1) := dk_76 (dk_at dksX7_carriedGrowOld_3 19 rfl rfl)
theorem dX7_carriedGrowOld_86 : decode cX7_carriedGrowOld 86 = .ok (.goto (-44), 3) := dk_167 255 212 (dk_at dksX7_carriedGrowOld_3 20 rfl rfl)
theorem dX7_carriedGrowOld_89 : decode cX7_carriedGrowOld 89 = .ok (.return_, 1) := dk_177 (dk_at dksX7_carriedGrowOld_3 23 rfl rfl)
abbrev cX7_duesAgain : ByteArray := prog_4_method_10_code
def yX7_duesAgain : MethodName := ⟨RX7, "duesAgain", "(LCoinTaxes$Law;I)I"⟩
def dkwX7_duesAgain_0 : List UInt8 := [43, 42, 43, 28, 182, 0, 118, 182, 0, 128, 43, 28, 182, 0, 125, 100, 172]
abbrev dktX7_duesAgain_0 : List UInt8 := dkwX7_duesAgain_0 ++ []
theorem dksX7_duesAgain_0 : cX7_duesAgain.data.toList.drop 0 = dktX7_duesAgain_0 := by decide +kernel
theorem dX7_duesAgain_0 : decode cX7_duesAgain 0 = .ok (.aload_n 1, 1) := dk_43 (dk_at dksX7_duesAgain_0 0 rfl rfl)
theorem dX7_duesAgain_1 : decode cX7_duesAgain 1 = .ok (.aload_n 0, 1) := dk_42 (dk_at dksX7_duesAgain_0 1 rfl rfl)
theorem dX7_duesAgain_2 : decode cX7_duesAgain 2 = .ok (.aload_n 1, 1) := dk_43 (dk_at dksX7_duesAgain_0 2 rfl rfl)
theorem dX7_duesAgain_3 : decode cX7_duesAgain 3 = .ok (.iload_n 2, 1) := dk_28 (dk_at dksX7_duesAgain_0 3 rfl rfl)
theorem dX7_duesAgain_4 : decode cX7_duesAgain 4 = .ok (.invokevirtual 118, 3) := dk_182 0 118 (dk_at dksX7_duesAgain_0 4 rfl rfl)
theorem dX7_duesAgain_7 : decode cX7_duesAgain 7 = .ok (.invokevirtual 128, 3) := dk_182 0 128 (dk_at dksX7_duesAgain_0 7 rfl rfl)
theorem dX7_duesAgain_10 : decode cX7_duesAgain 10 = .ok (.aload_n 1, 1) := dk_43 (dk_at dksX7_duesAgain_0 10 rfl rfl)
theorem dX7_duesAgain_11 : decode cX7_duesAgain 11 = .ok (.iload_n 2, 1) := dk_28 (dk_at dksX7_duesAgain_0 11 rfl rfl)
theorem dX7_duesAgain_12 : decode cX7_duesAgain 12 = .ok (.invokevirtual 125, 3) := dk_182 0 125 (dk_at dksX7_duesAgain_0 12 rfl rfl)
theorem dX7_duesAgain_15 : decode cX7_duesAgain 15 = .ok (.isub, 1) := dk_100 (dk_at dksX7_duesAgain_0 15 rfl rfl)
theorem dX7_duesAgain_16 : decode cX7_duesAgain 16 = .ok (.ireturn, 1) := dk_172 (dk_at dksX7_duesAgain_0 16 rfl rfl)
abbrev cX7_tax : ByteArray := prog_4_method_13_code
def yX7_tax : MethodName := ⟨RX7, "tax", "(LCoinTaxes$Law;I)I"⟩
def dkwX7_tax_0 : List UInt8 := [42, 42, 43, 28, 182, 0, 138, 182, 0, 141, 172]
abbrev dktX7_tax_0 : List UInt8 := dkwX7_tax_0 ++ []
theorem dksX7_tax_0 : cX7_tax.data.toList.drop 0 = dktX7_tax_0 := by decide +kernel
theorem dX7_tax_0 : decode cX7_tax 0 = .ok (.aload_n 0, 1) := dk_42 (dk_at dksX7_tax_0 0 rfl rfl)
theorem dX7_tax_1 : decode cX7_tax 1 = .ok (.aload_n 0, 1) := dk_42 (dk_at dksX7_tax_0 1 rfl rfl)
theorem dX7_tax_2 : decode cX7_tax 2 = .ok (.aload_n 1, 1) := dk_43 (dk_at dksX7_tax_0 2 rfl rfl)
theorem dX7_tax_3 : decode cX7_tax 3 = .ok (.iload_n 2, 1) := dk_28 (dk_at dksX7_tax_0 3 rfl rfl)
theorem dX7_tax_4 : decode cX7_tax 4 = .ok (.invokevirtual 138, 3) := dk_182 0 138 (dk_at dksX7_tax_0 4 rfl rfl)
theorem dX7_tax_7 : decode cX7_tax 7 = .ok (.invokevirtual 141, 3) := dk_182 0 141 (dk_at dksX7_tax_0 7 rfl rfl)
theorem dX7_tax_10 : decode cX7_tax 10 = .ok (.ireturn, 1) := dk_172 (dk_at dksX7_tax_0 10 rfl rfl)
abbrev cX7_isNoLoss : ByteArray := prog_4_method_14_code
def yX7_isNoLoss : MethodName := ⟨RX7, "isNoLoss", "(LCoinTaxes$Law;)Z"⟩
def dkwX7_isNoLoss_2 : List UInt8 := [29, 162, 0, 5, 3, 172, 21, 5, 62, 132, 4, 1, 167, 255, 218, 4, 172]
abbrev dktX7_isNoLoss_2 : List UInt8 := dkwX7_isNoLoss_2 ++ []
def dkwX7_isNoLoss_1 : List UInt8 := [17, 39, 15, 163, 0, 36, 21, 4, 42, 43, 21, 4, 182, 0, 138, 28, 184, 0, 135, 100, 54, 5, 21, 5]
abbrev dktX7_isNoLoss_1 : List UInt8 := dkwX7_isNoLoss_1 ++ dktX7_isNoLoss_2
def dkwX7_isNoLoss_0 : List UInt8 := [42, 182, 0, 131, 61, 42, 43, 3, 182, 0, 138, 28, 184, 0, 135, 116, 62, 4, 54, 4, 21, 4]
abbrev dktX7_isNoLoss_0 : List UInt8 := dkwX7_isNoLoss_0 ++ dktX7_isNoLoss_1
theorem dksX7_isNoLoss_0 : cX7_isNoLoss.data.toList.drop 0 = dktX7_isNoLoss_0 := by decide +kernel
theorem dksX7_isNoLoss_1 : cX7_isNoLoss.data.toList.drop 22 = dktX7_isNoLoss_1 := dk_seg dksX7_isNoLoss_0 22 rfl rfl
theorem dksX7_isNoLoss_2 : cX7_isNoLoss.data.toList.drop 46 = dktX7_isNoLoss_2 := dk_seg dksX7_isNoLoss_1 24 rfl rfl
theorem dX7_isNoLoss_0 : decode cX7_isNoLoss 0 = .ok (.aload_n 0, 1) := dk_42 (dk_at dksX7_isNoLoss_0 0 rfl rfl)
theorem dX7_isNoLoss_1 : decode cX7_isNoLoss 1 = .ok (.invokevirtual 131, 3) := dk_182 0 131 (dk_at dksX7_isNoLoss_0 1 rfl rfl)
theorem dX7_isNoLoss_4 : decode cX7_isNoLoss 4 = .ok (.istore_n 2, 1) := dk_61 (dk_at dksX7_isNoLoss_0 4 rfl rfl)
theorem dX7_isNoLoss_5 : decode cX7_isNoLoss 5 = .ok (.aload_n 0, 1) := dk_42 (dk_at dksX7_isNoLoss_0 5 rfl rfl)
theorem dX7_isNoLoss_6 : decode cX7_isNoLoss 6 = .ok (.aload_n 1, 1) := dk_43 (dk_at dksX7_isNoLoss_0 6 rfl rfl)
theorem dX7_isNoLoss_7 : decode cX7_isNoLoss 7 = .ok (.iconst 0, 1) := dk_3 (dk_at dksX7_isNoLoss_0 7 rfl rfl)
theorem dX7_isNoLoss_8 : decode cX7_isNoLoss 8 = .ok (.invokevirtual 138, 3) := dk_182 0 138 (dk_at dksX7_isNoLoss_0 8 rfl rfl)
theorem dX7_isNoLoss_11 : decode cX7_isNoLoss 11 = .ok (.iload_n 2, 1) := dk_28 (dk_at dksX7_isNoLoss_0 11 rfl rfl)
theorem dX7_isNoLoss_12 : decode cX7_isNoLoss 12 = .ok (.invokestatic 135, 3) := dk_184 0 135 (dk_at dksX7_isNoLoss_0 12 rfl rfl)
theorem dX7_isNoLoss_15 : decode cX7_isNoLoss 15 = .ok (.ineg, 1) := dk_116 (dk_at dksX7_isNoLoss_0 15 rfl rfl)
theorem dX7_isNoLoss_16 : decode cX7_isNoLoss 16 = .ok (.istore_n 3, 1) := dk_62 (dk_at dksX7_isNoLoss_0 16 rfl rfl)
theorem dX7_isNoLoss_17 : decode cX7_isNoLoss 17 = .ok (.iconst 1, 1) := dk_4 (dk_at dksX7_isNoLoss_0 17 rfl rfl)
theorem dX7_isNoLoss_18 : decode cX7_isNoLoss 18 = .ok (.istore 4, 2) := dk_54 4 (dk_at dksX7_isNoLoss_0 18 rfl rfl)
theorem dX7_isNoLoss_20 : decode cX7_isNoLoss 20 = .ok (.iload 4, 2) := dk_21 4 (dk_at dksX7_isNoLoss_0 20 rfl rfl)
theorem dX7_isNoLoss_22 : decode cX7_isNoLoss 22 = .ok (.sipush 9999, 3) := dk_17 39 15 (dk_at dksX7_isNoLoss_1 0 rfl rfl)
theorem dX7_isNoLoss_25 : decode cX7_isNoLoss 25 = .ok (.if_icmp .gt 36, 3) := dk_163 0 36 (dk_at dksX7_isNoLoss_1 3 rfl rfl)
theorem dX7_isNoLoss_28 : decode cX7_isNoLoss 28 = .ok (.iload 4, 2) := dk_21 4 (dk_at dksX7_isNoLoss_1 6 rfl rfl)
theorem dX7_isNoLoss_30 : decode cX7_isNoLoss 30 = .ok (.aload_n 0, 1) := dk_42 (dk_at dksX7_isNoLoss_1 8 rfl rfl)
theorem dX7_isNoLoss_31 : decode cX7_isNoLoss 31 = .ok (.aload_n 1, 1) := dk_43 (dk_at dksX7_isNoLoss_1 9 rfl rfl)
theorem dX7_isNoLoss_32 : decode cX7_isNoLoss 32 = .ok (.iload 4, 2) := dk_21 4 (dk_at dksX7_isNoLoss_1 10 rfl rfl)
theorem dX7_isNoLoss_34 : decode cX7_isNoLoss 34 = .ok (.invokevirtual 138, 3) := dk_182 0 138 (dk_at dksX7_isNoLoss_1 12 rfl rfl)
theorem dX7_isNoLoss_37 : decode cX7_isNoLoss 37 = .ok (.iload_n 2, 1) := dk_28 (dk_at dksX7_isNoLoss_1 15 rfl rfl)
theorem dX7_isNoLoss_38 : decode cX7_isNoLoss 38 = .ok (.invokestatic 135, 3) := dk_184 0 135 (dk_at dksX7_isNoLoss_1 16 rfl rfl)
theorem dX7_isNoLoss_41 : decode cX7_isNoLoss 41 = .ok (.isub, 1) := dk_100 (dk_at dksX7_isNoLoss_1 19 rfl rfl)
theorem dX7_isNoLoss_42 : decode cX7_isNoLoss 42 = .ok (.istore 5, 2) := dk_54 5 (dk_at dksX7_isNoLoss_1 20 rfl rfl)
theorem dX7_isNoLoss_44 : decode cX7_isNoLoss 44 = .ok (.iload 5, 2) := dk_21 5 (dk_at dksX7_isNoLoss_1 22 rfl rfl)
theorem dX7_isNoLoss_46 : decode cX7_isNoLoss 46 = .ok (.iload_n 3, 1) := dk_29 (dk_at dksX7_isNoLoss_2 0 rfl rfl)
theorem dX7_isNoLoss_47 : decode cX7_isNoLoss 47 = .ok (.if_icmp .ge 5, 3) := dk_162 0 5 (dk_at dksX7_isNoLoss_2 1 rfl rfl)
theorem dX7_isNoLoss_50 : decode cX7_isNoLoss 50 = .ok (.iconst 0, 1) := dk_3 (dk_at dksX7_isNoLoss_2 4 rfl rfl)
theorem dX7_isNoLoss_51 : decode cX7_isNoLoss 51 = .ok (.ireturn, 1) := dk_172 (dk_at dksX7_isNoLoss_2 5 rfl rfl)
theorem dX7_isNoLoss_52 : decode cX7_isNoLoss 52 = .ok (.iload 5, 2) := dk_21 5 (dk_at dksX7_isNoLoss_2 6 rfl rfl)
theorem dX7_isNoLoss_54 : decode cX7_isNoLoss 54 = .ok (.istore_n 3, 1) := dk_62 (dk_at dksX7_isNoLoss_2 8 rfl rfl)
theorem dX7_isNoLoss_55 : decode cX7_isNoLoss 55 = .ok (.iinc 4 1, 3) := dk_132 4 1 (dk_at dksX7_isNoLoss_2 9 rfl rfl)
theorem dX7_isNoLoss_58 : decode cX7_isNoLoss 58 = .ok (.goto (-38), 3) := dk_167 255 218 (dk_at dksX7_isNoLoss_2 12 rfl rfl)
theorem dX7_isNoLoss_61 : decode cX7_isNoLoss 61 = .ok (.iconst 1, 1) := dk_4 (dk_at dksX7_isNoLoss_2 15 rfl rfl)
theorem dX7_isNoLoss_62 : decode cX7_isNoLoss 62 = .ok (.ireturn, 1) := dk_172 (dk_at dksX7_isNoLoss_2 16 rfl rfl)
abbrev cX7_line : ByteArray := prog_4_method_20_code
def yX7_line : MethodName := ⟨RX7, "line", "()Ljava/lang/String;"⟩
def dkwX7_line_5 : List UInt8 := [182, 0, 198, 167, 0, 7, 43, 182, 0, 198, 176]
abbrev dktX7_line_5 : List UInt8 := dkwX7_line_5 ++ []
def dkwX7_line_4 : List UInt8 := [167, 255, 195, 42, 180, 0, 80, 158, 0, 22, 43, 18, 196, 182, 0, 193, 42, 180, 0, 80, 182, 0, 174]
abbrev dktX7_line_4 : List UInt8 := dkwX7_line_4 ++ dktX7_line_5
def dkwX7_line_3 : List UInt8 := [42, 180, 0, 15, 28, 46, 158, 0, 8, 18, 189, 167, 0, 5, 18, 191, 182, 0, 193, 87, 132, 2, 1]
abbrev dktX7_line_3 : List UInt8 := dkwX7_line_3 ++ dktX7_line_4
def dkwX7_line_2 : List UInt8 := [16, 32, 182, 0, 178, 18, 181, 28, 182, 0, 183, 182, 0, 178, 42, 28, 182, 0, 98, 182, 0, 174, 87, 43]
abbrev dktX7_line_2 : List UInt8 := dkwX7_line_2 ++ dktX7_line_3
def dkwX7_line_1 : List UInt8 := [180, 0, 76, 182, 0, 174, 87, 3, 61, 28, 6, 162, 0, 62, 42, 28, 182, 0, 98, 158, 0, 48, 43]
abbrev dktX7_line_1 : List UInt8 := dkwX7_line_1 ++ dktX7_line_2
def dkwX7_line_0 : List UInt8 := [187, 0, 171, 89, 183, 0, 173, 76, 43, 42, 180, 0, 32, 182, 0, 174, 16, 58, 182, 0, 178, 42]
abbrev dktX7_line_0 : List UInt8 := dkwX7_line_0 ++ dktX7_line_1
theorem dksX7_line_0 : cX7_line.data.toList.drop 0 = dktX7_line_0 := by decide +kernel
theorem dksX7_line_1 : cX7_line.data.toList.drop 22 = dktX7_line_1 := dk_seg dksX7_line_0 22 rfl rfl
theorem dksX7_line_2 : cX7_line.data.toList.drop 45 = dktX7_line_2 := dk_seg dksX7_line_1 23 rfl rfl
theorem dksX7_line_3 : cX7_line.data.toList.drop 69 = dktX7_line_3 := dk_seg dksX7_line_2 24 rfl rfl
theorem dksX7_line_4 : cX7_line.data.toList.drop 92 = dktX7_line_4 := dk_seg dksX7_line_3 23 rfl rfl
theorem dksX7_line_5 : cX7_line.data.toList.drop 115 = dktX7_line_5 := dk_seg dksX7_line_4 23 rfl rfl
theorem dX7_line_0 : decode cX7_line 0 = .ok (.new 171, 3) := dk_187 0 171 (dk_at dksX7_line_0 0 rfl rfl)
theorem dX7_line_3 : decode cX7_line 3 = .ok (.dup, 1) := dk_89 (dk_at dksX7_line_0 3 rfl rfl)
theorem dX7_line_4 : decode cX7_line 4 = .ok (.invokespecial 173, 3) := dk_183 0 173 (dk_at dksX7_line_0 4 rfl rfl)
theorem dX7_line_7 : decode cX7_line 7 = .ok (.astore_n 1, 1) := dk_76 (dk_at dksX7_line_0 7 rfl rfl)
theorem dX7_line_8 : decode cX7_line 8 = .ok (.aload_n 1, 1) := dk_43 (dk_at dksX7_line_0 8 rfl rfl)
theorem dX7_line_9 : decode cX7_line 9 = .ok (.aload_n 0, 1) := dk_42 (dk_at dksX7_line_0 9 rfl rfl)
theorem dX7_line_10 : decode cX7_line 10 = .ok (.getfield 32, 3) := dk_180 0 32 (dk_at dksX7_line_0 10 rfl rfl)
theorem dX7_line_13 : decode cX7_line 13 = .ok (.invokevirtual 174, 3) := dk_182 0 174 (dk_at dksX7_line_0 13 rfl rfl)
theorem dX7_line_16 : decode cX7_line 16 = .ok (.bipush 58, 2) := dk_16 58 (dk_at dksX7_line_0 16 rfl rfl)
theorem dX7_line_18 : decode cX7_line 18 = .ok (.invokevirtual 178, 3) := dk_182 0 178 (dk_at dksX7_line_0 18 rfl rfl)
theorem dX7_line_21 : decode cX7_line 21 = .ok (.aload_n 0, 1) := dk_42 (dk_at dksX7_line_0 21 rfl rfl)
theorem dX7_line_22 : decode cX7_line 22 = .ok (.getfield 76, 3) := dk_180 0 76 (dk_at dksX7_line_1 0 rfl rfl)
theorem dX7_line_25 : decode cX7_line 25 = .ok (.invokevirtual 174, 3) := dk_182 0 174 (dk_at dksX7_line_1 3 rfl rfl)
theorem dX7_line_28 : decode cX7_line 28 = .ok (.pop, 1) := dk_87 (dk_at dksX7_line_1 6 rfl rfl)
theorem dX7_line_29 : decode cX7_line 29 = .ok (.iconst 0, 1) := dk_3 (dk_at dksX7_line_1 7 rfl rfl)
theorem dX7_line_30 : decode cX7_line 30 = .ok (.istore_n 2, 1) := dk_61 (dk_at dksX7_line_1 8 rfl rfl)
theorem dX7_line_31 : decode cX7_line 31 = .ok (.iload_n 2, 1) := dk_28 (dk_at dksX7_line_1 9 rfl rfl)
theorem dX7_line_32 : decode cX7_line 32 = .ok (.iconst 3, 1) := dk_6 (dk_at dksX7_line_1 10 rfl rfl)
theorem dX7_line_33 : decode cX7_line 33 = .ok (.if_icmp .ge 62, 3) := dk_162 0 62 (dk_at dksX7_line_1 11 rfl rfl)
theorem dX7_line_36 : decode cX7_line 36 = .ok (.aload_n 0, 1) := dk_42 (dk_at dksX7_line_1 14 rfl rfl)
theorem dX7_line_37 : decode cX7_line 37 = .ok (.iload_n 2, 1) := dk_28 (dk_at dksX7_line_1 15 rfl rfl)
theorem dX7_line_38 : decode cX7_line 38 = .ok (.invokevirtual 98, 3) := dk_182 0 98 (dk_at dksX7_line_1 16 rfl rfl)
theorem dX7_line_41 : decode cX7_line 41 = .ok (.ifCond .le 48, 3) := dk_158 0 48 (dk_at dksX7_line_1 19 rfl rfl)
theorem dX7_line_44 : decode cX7_line 44 = .ok (.aload_n 1, 1) := dk_43 (dk_at dksX7_line_1 22 rfl rfl)
theorem dX7_line_45 : decode cX7_line 45 = .ok (.bipush 32, 2) := dk_16 32 (dk_at dksX7_line_2 0 rfl rfl)
theorem dX7_line_47 : decode cX7_line 47 = .ok (.invokevirtual 178, 3) := dk_182 0 178 (dk_at dksX7_line_2 2 rfl rfl)
theorem dX7_line_50 : decode cX7_line 50 = .ok (.ldc 181, 2) := dk_18 181 (dk_at dksX7_line_2 5 rfl rfl)
theorem dX7_line_52 : decode cX7_line 52 = .ok (.iload_n 2, 1) := dk_28 (dk_at dksX7_line_2 7 rfl rfl)
theorem dX7_line_53 : decode cX7_line 53 = .ok (.invokevirtual 183, 3) := dk_182 0 183 (dk_at dksX7_line_2 8 rfl rfl)
theorem dX7_line_56 : decode cX7_line 56 = .ok (.invokevirtual 178, 3) := dk_182 0 178 (dk_at dksX7_line_2 11 rfl rfl)
theorem dX7_line_59 : decode cX7_line 59 = .ok (.aload_n 0, 1) := dk_42 (dk_at dksX7_line_2 14 rfl rfl)
theorem dX7_line_60 : decode cX7_line 60 = .ok (.iload_n 2, 1) := dk_28 (dk_at dksX7_line_2 15 rfl rfl)
theorem dX7_line_61 : decode cX7_line 61 = .ok (.invokevirtual 98, 3) := dk_182 0 98 (dk_at dksX7_line_2 16 rfl rfl)
theorem dX7_line_64 : decode cX7_line 64 = .ok (.invokevirtual 174, 3) := dk_182 0 174 (dk_at dksX7_line_2 19 rfl rfl)
theorem dX7_line_67 : decode cX7_line 67 = .ok (.pop, 1) := dk_87 (dk_at dksX7_line_2 22 rfl rfl)
theorem dX7_line_68 : decode cX7_line 68 = .ok (.aload_n 1, 1) := dk_43 (dk_at dksX7_line_2 23 rfl rfl)
theorem dX7_line_69 : decode cX7_line 69 = .ok (.aload_n 0, 1) := dk_42 (dk_at dksX7_line_3 0 rfl rfl)
theorem dX7_line_70 : decode cX7_line 70 = .ok (.getfield 15, 3) := dk_180 0 15 (dk_at dksX7_line_3 1 rfl rfl)
theorem dX7_line_73 : decode cX7_line 73 = .ok (.iload_n 2, 1) := dk_28 (dk_at dksX7_line_3 4 rfl rfl)
theorem dX7_line_74 : decode cX7_line 74 = .ok (.iaload, 1) := dk_46 (dk_at dksX7_line_3 5 rfl rfl)
theorem dX7_line_75 : decode cX7_line 75 = .ok (.ifCond .le 8, 3) := dk_158 0 8 (dk_at dksX7_line_3 6 rfl rfl)
theorem dX7_line_78 : decode cX7_line 78 = .ok (.ldc 189, 2) := dk_18 189 (dk_at dksX7_line_3 9 rfl rfl)
theorem dX7_line_80 : decode cX7_line 80 = .ok (.goto 5, 3) := dk_167 0 5 (dk_at dksX7_line_3 11 rfl rfl)
theorem dX7_line_83 : decode cX7_line 83 = .ok (.ldc 191, 2) := dk_18 191 (dk_at dksX7_line_3 14 rfl rfl)
theorem dX7_line_85 : decode cX7_line 85 = .ok (.invokevirtual 193, 3) := dk_182 0 193 (dk_at dksX7_line_3 16 rfl rfl)
theorem dX7_line_88 : decode cX7_line 88 = .ok (.pop, 1) := dk_87 (dk_at dksX7_line_3 19 rfl rfl)
theorem dX7_line_89 : decode cX7_line 89 = .ok (.iinc 2 1, 3) := dk_132 2 1 (dk_at dksX7_line_3 20 rfl rfl)
theorem dX7_line_92 : decode cX7_line 92 = .ok (.goto (-61), 3) := dk_167 255 195 (dk_at dksX7_line_4 0 rfl rfl)
theorem dX7_line_95 : decode cX7_line 95 = .ok (.aload_n 0, 1) := dk_42 (dk_at dksX7_line_4 3 rfl rfl)
theorem dX7_line_96 : decode cX7_line 96 = .ok (.getfield 80, 3) := dk_180 0 80 (dk_at dksX7_line_4 4 rfl rfl)
theorem dX7_line_99 : decode cX7_line 99 = .ok (.ifCond .le 22, 3) := dk_158 0 22 (dk_at dksX7_line_4 7 rfl rfl)
theorem dX7_line_102 : decode cX7_line 102 = .ok (.aload_n 1, 1) := dk_43 (dk_at dksX7_line_4 10 rfl rfl)
theorem dX7_line_103 : decode cX7_line 103 = .ok (.ldc 196, 2) := dk_18 196 (dk_at dksX7_line_4 11 rfl rfl)
theorem dX7_line_105 : decode cX7_line 105 = .ok (.invokevirtual 193, 3) := dk_182 0 193 (dk_at dksX7_line_4 13 rfl rfl)
theorem dX7_line_108 : decode cX7_line 108 = .ok (.aload_n 0, 1) := dk_42 (dk_at dksX7_line_4 16 rfl rfl)
theorem dX7_line_109 : decode cX7_line 109 = .ok (.getfield 80, 3) := dk_180 0 80 (dk_at dksX7_line_4 17 rfl rfl)
theorem dX7_line_112 : decode cX7_line 112 = .ok (.invokevirtual 174, 3) := dk_182 0 174 (dk_at dksX7_line_4 20 rfl rfl)
theorem dX7_line_115 : decode cX7_line 115 = .ok (.invokevirtual 198, 3) := dk_182 0 198 (dk_at dksX7_line_5 0 rfl rfl)
theorem dX7_line_118 : decode cX7_line 118 = .ok (.goto 7, 3) := dk_167 0 7 (dk_at dksX7_line_5 3 rfl rfl)
theorem dX7_line_121 : decode cX7_line 121 = .ok (.aload_n 1, 1) := dk_43 (dk_at dksX7_line_5 6 rfl rfl)
theorem dX7_line_122 : decode cX7_line 122 = .ok (.invokevirtual 198, 3) := dk_182 0 198 (dk_at dksX7_line_5 7 rfl rfl)
theorem dX7_line_125 : decode cX7_line 125 = .ok (.areturn, 1) := dk_176 (dk_at dksX7_line_5 10 rfl rfl)
theorem q128 : (Jvm.Cond.initialized "CoinTaxes$Citizen") ∈ lw_all := lw_g (lw_at lw_m1 38 rfl) rfl
theorem q268 : (Jvm.Cond.fieldLinkNest "CoinTaxes$Citizen" (93 : Nat) "CoinTaxes$Law" "caps" "[I" "CoinTaxes") ∈ lw_tbl := lw_at lw_m1 178 rfl
theorem q968 : (Jvm.Cond.selects "CoinTaxes$Citizen" ({ cls := "java/lang/Object", name := "getClass", desc := "()Ljava/lang/Class;" } : Jvm.MethodName) ({ cls := "java/lang/Object", name := "getClass", desc := "()Ljava/lang/Class;" } : Jvm.MethodName)) ∈ lw_all := lw_g (lw_at lw_m4 158 rfl) rfl
theorem q1114 : (Jvm.Cond.instantiable "CoinTaxes$Citizen" (10 : Nat)) ∈ lw_all := lw_g (lw_at lw_m5 64 rfl) rfl
theorem q1116 : (Jvm.Cond.instanceMethod ({ cls := "CoinTaxes$Citizen", name := "<init>", desc := "(LCoinTaxes$Citizen;)V" } : Jvm.MethodName)) ∈ lw_all := lw_g (lw_at lw_m5 66 rfl) rfl
theorem q1117 : (Jvm.Cond.code ({ cls := "CoinTaxes$Citizen", name := "<init>", desc := "(LCoinTaxes$Citizen;)V" } : Jvm.MethodName) prog_4_method_2_code (4 : Nat) (Option.none : Option Jvm.ClassFile.FieldType)) ∈ lw_all := lw_g (lw_at lw_m5 67 rfl) rfl
theorem q1118 : (Jvm.Cond.methodLink "CoinTaxes$Citizen" (36 : Nat) ({ cls := "CoinTaxes$Citizen", name := "<init>", desc := "(I)V" } : Jvm.MethodName)) ∈ lw_all := lw_g (lw_at lw_m5 68 rfl) rfl
theorem q1119 : (Jvm.Cond.instanceMethod ({ cls := "CoinTaxes$Citizen", name := "<init>", desc := "(I)V" } : Jvm.MethodName)) ∈ lw_all := lw_g (lw_at lw_m5 69 rfl) rfl
theorem q1120 : (Jvm.Cond.code ({ cls := "CoinTaxes$Citizen", name := "<init>", desc := "(I)V" } : Jvm.MethodName) prog_4_method_1_code (2 : Nat) (Option.none : Option Jvm.ClassFile.FieldType)) ∈ lw_all := lw_g (lw_at lw_m5 70 rfl) rfl
theorem q1121 : (Jvm.Cond.methodLink "CoinTaxes$Citizen" (3 : Nat) ({ cls := "java/lang/Object", name := "<init>", desc := "()V" } : Jvm.MethodName)) ∈ lw_all := lw_g (lw_at lw_m5 71 rfl) rfl
theorem q1122 : (Jvm.Cond.classLink "CoinTaxes$Citizen" (18 : Nat) "java/util/ArrayDeque") ∈ lw_all := lw_g (lw_at lw_m5 72 rfl) rfl
theorem q1123 : (Jvm.Cond.methodLink "CoinTaxes$Citizen" (20 : Nat) ({ cls := "java/util/ArrayDeque", name := "<init>", desc := "()V" } : Jvm.MethodName)) ∈ lw_all := lw_g (lw_at lw_m5 73 rfl) rfl
theorem q1124 : (Jvm.Cond.classLink "CoinTaxes$Citizen" (25 : Nat) "java/util/BitSet") ∈ lw_all := lw_g (lw_at lw_m5 74 rfl) rfl
theorem q1126 : (Jvm.Cond.methodLink "CoinTaxes$Citizen" (27 : Nat) ({ cls := "java/util/BitSet", name := "<init>", desc := "()V" } : Jvm.MethodName)) ∈ lw_all := lw_g (lw_at lw_m5 76 rfl) rfl
theorem q1148 : (Jvm.Cond.fieldLink "CoinTaxes$Citizen" (32 : Nat) "CoinTaxes$Citizen" "number" "I") ∈ lw_all := lw_g (lw_at lw_m5 98 rfl) rfl
theorem q1150 : (Jvm.Cond.fieldLink "CoinTaxes$Citizen" (9 : Nat) "CoinTaxes$Citizen" "proved" "[I") ∈ lw_all := lw_g (lw_at lw_m5 100 rfl) rfl
theorem q1153 : (Jvm.Cond.fieldLink "CoinTaxes$Citizen" (15 : Nat) "CoinTaxes$Citizen" "bare" "[I") ∈ lw_all := lw_g (lw_at lw_m5 103 rfl) rfl
theorem q1156 : (Jvm.Cond.fieldLink "CoinTaxes$Citizen" (21 : Nat) "CoinTaxes$Citizen" "carried" "Ljava/util/Deque;") ∈ lw_all := lw_g (lw_at lw_m5 106 rfl) rfl
theorem q1158 : (Jvm.Cond.fieldLink "CoinTaxes$Citizen" (76 : Nat) "CoinTaxes$Citizen" "income" "I") ∈ lw_all := lw_g (lw_at lw_m5 108 rfl) rfl
theorem q1161 : (Jvm.Cond.fieldLink "CoinTaxes$Citizen" (79 : Nat) "CoinTaxes$Citizen" "coins" "I") ∈ lw_all := lw_g (lw_at lw_m5 111 rfl) rfl
theorem q1164 : (Jvm.Cond.fieldLink "CoinTaxes$Citizen" (80 : Nat) "CoinTaxes$Citizen" "debt" "I") ∈ lw_all := lw_g (lw_at lw_m5 114 rfl) rfl
theorem q1167 : (Jvm.Cond.fieldLink "CoinTaxes$Citizen" (83 : Nat) "CoinTaxes$Citizen" "taxes" "I") ∈ lw_all := lw_g (lw_at lw_m5 117 rfl) rfl
theorem q1170 : (Jvm.Cond.fieldLink "CoinTaxes$Citizen" (86 : Nat) "CoinTaxes$Citizen" "fines" "I") ∈ lw_all := lw_g (lw_at lw_m5 120 rfl) rfl
theorem q1173 : (Jvm.Cond.fieldLink "CoinTaxes$Citizen" (28 : Nat) "CoinTaxes$Citizen" "audits" "Ljava/util/BitSet;") ∈ lw_all := lw_g (lw_at lw_m5 123 rfl) rfl
theorem q1175 : (Jvm.Cond.laysFinal "CoinTaxes$Citizen" "CoinTaxes$Citizen" "number" "I") ∈ lw_all := lw_g (lw_at lw_m5 125 rfl) rfl
theorem q1176 : (Jvm.Cond.soleField "CoinTaxes$Citizen" "number") ∈ lw_all := lw_g (lw_at lw_m5 126 rfl) rfl
theorem q1177 : (Jvm.Cond.laysFinal "CoinTaxes$Citizen" "CoinTaxes$Citizen" "proved" "[I") ∈ lw_all := lw_g (lw_at lw_m5 127 rfl) rfl
theorem q1178 : (Jvm.Cond.soleField "CoinTaxes$Citizen" "proved") ∈ lw_all := lw_g (lw_at lw_m5 128 rfl) rfl
theorem q1179 : (Jvm.Cond.laysFinal "CoinTaxes$Citizen" "CoinTaxes$Citizen" "bare" "[I") ∈ lw_all := lw_g (lw_at lw_m5 129 rfl) rfl
theorem q1180 : (Jvm.Cond.soleField "CoinTaxes$Citizen" "bare") ∈ lw_all := lw_g (lw_at lw_m5 130 rfl) rfl
theorem q1181 : (Jvm.Cond.laysFinal "CoinTaxes$Citizen" "CoinTaxes$Citizen" "carried" "Ljava/util/Deque;") ∈ lw_all := lw_g (lw_at lw_m5 131 rfl) rfl
theorem q1182 : (Jvm.Cond.soleField "CoinTaxes$Citizen" "carried") ∈ lw_all := lw_g (lw_at lw_m5 132 rfl) rfl
theorem q1183 : (Jvm.Cond.lays "CoinTaxes$Citizen" "CoinTaxes$Citizen" "income" "I") ∈ lw_all := lw_g (lw_at lw_m5 133 rfl) rfl
theorem q1184 : (Jvm.Cond.soleField "CoinTaxes$Citizen" "income") ∈ lw_all := lw_g (lw_at lw_m5 134 rfl) rfl
theorem q1185 : (Jvm.Cond.lays "CoinTaxes$Citizen" "CoinTaxes$Citizen" "coins" "I") ∈ lw_all := lw_g (lw_at lw_m5 135 rfl) rfl
theorem q1186 : (Jvm.Cond.soleField "CoinTaxes$Citizen" "coins") ∈ lw_all := lw_g (lw_at lw_m5 136 rfl) rfl
theorem q1187 : (Jvm.Cond.lays "CoinTaxes$Citizen" "CoinTaxes$Citizen" "debt" "I") ∈ lw_all := lw_g (lw_at lw_m5 137 rfl) rfl
theorem q1188 : (Jvm.Cond.soleField "CoinTaxes$Citizen" "debt") ∈ lw_all := lw_g (lw_at lw_m5 138 rfl) rfl
theorem q1189 : (Jvm.Cond.lays "CoinTaxes$Citizen" "CoinTaxes$Citizen" "taxes" "I") ∈ lw_all := lw_g (lw_at lw_m5 139 rfl) rfl
theorem q1190 : (Jvm.Cond.soleField "CoinTaxes$Citizen" "taxes") ∈ lw_all := lw_g (lw_at lw_m5 140 rfl) rfl
theorem q1191 : (Jvm.Cond.lays "CoinTaxes$Citizen" "CoinTaxes$Citizen" "fines" "I") ∈ lw_all := lw_g (lw_at lw_m5 141 rfl) rfl
theorem q1192 : (Jvm.Cond.soleField "CoinTaxes$Citizen" "fines") ∈ lw_all := lw_g (lw_at lw_m5 142 rfl) rfl
theorem q1193 : (Jvm.Cond.laysFinal "CoinTaxes$Citizen" "CoinTaxes$Citizen" "audits" "Ljava/util/BitSet;") ∈ lw_all := lw_g (lw_at lw_m5 143 rfl) rfl
theorem q1194 : (Jvm.Cond.soleField "CoinTaxes$Citizen" "audits") ∈ lw_all := lw_g (lw_at lw_m5 144 rfl) rfl
theorem q1195 : (Jvm.Cond.superclass "CoinTaxes$Citizen" "java/lang/Object") ∈ lw_all := lw_g (lw_at lw_m5 145 rfl) rfl
theorem q1196 : (Jvm.Cond.methodLink "CoinTaxes$Citizen" (39 : Nat) ({ cls := "java/lang/System", name := "arraycopy", desc := "(Ljava/lang/Object;ILjava/lang/Object;II)V" } : Jvm.MethodName)) ∈ lw_all := lw_g (lw_at lw_m5 146 rfl) rfl
theorem q1197 : (Jvm.Cond.interfaceEntry "CoinTaxes$Citizen" (45 : Nat)) ∈ lw_tbl := lw_at lw_m5 147 rfl
theorem q1198 : (Jvm.Cond.methodLink "CoinTaxes$Citizen" (45 : Nat) ({ cls := "java/util/Deque", name := "iterator", desc := "()Ljava/util/Iterator;" } : Jvm.MethodName)) ∈ lw_all := lw_g (lw_at lw_m5 148 rfl) rfl
theorem q1235 : (Jvm.Cond.interfaceEntry "CoinTaxes$Citizen" (51 : Nat)) ∈ lw_tbl := lw_at lw_m5 185 rfl
theorem q1236 : (Jvm.Cond.methodLink "CoinTaxes$Citizen" (51 : Nat) ({ cls := "java/util/Iterator", name := "hasNext", desc := "()Z" } : Jvm.MethodName)) ∈ lw_all := lw_g (lw_at lw_m5 186 rfl) rfl
theorem q1237 : (Jvm.Cond.interfaceEntry "CoinTaxes$Citizen" (57 : Nat)) ∈ lw_tbl := lw_at lw_m5 187 rfl
theorem q1238 : (Jvm.Cond.methodLink "CoinTaxes$Citizen" (57 : Nat) ({ cls := "java/util/Iterator", name := "next", desc := "()Ljava/lang/Object;" } : Jvm.MethodName)) ∈ lw_all := lw_g (lw_at lw_m5 188 rfl) rfl
theorem q1239 : (Jvm.Cond.classLink "CoinTaxes$Citizen" (61 : Nat) "CoinTaxes$Carried") ∈ lw_all := lw_g (lw_at lw_m5 189 rfl) rfl
theorem q1241 : (Jvm.Cond.methodLink "CoinTaxes$Citizen" (69 : Nat) ({ cls := "CoinTaxes$Carried", name := "<init>", desc := "(II)V" } : Jvm.MethodName)) ∈ lw_all := lw_g (lw_at lw_m5 191 rfl) rfl
theorem q1246 : (Jvm.Cond.fieldLinkNest "CoinTaxes$Citizen" (63 : Nat) "CoinTaxes$Carried" "coins" "I" "CoinTaxes") ∈ lw_tbl := lw_at lw_m5 196 rfl
theorem q1249 : (Jvm.Cond.fieldLinkNest "CoinTaxes$Citizen" (66 : Nat) "CoinTaxes$Carried" "years" "I" "CoinTaxes") ∈ lw_tbl := lw_at lw_m5 199 rfl
theorem q1256 : (Jvm.Cond.interfaceEntry "CoinTaxes$Citizen" (72 : Nat)) ∈ lw_tbl := lw_at lw_m5 206 rfl
theorem q1257 : (Jvm.Cond.methodLink "CoinTaxes$Citizen" (72 : Nat) ({ cls := "java/util/Deque", name := "addLast", desc := "(Ljava/lang/Object;)V" } : Jvm.MethodName)) ∈ lw_all := lw_g (lw_at lw_m5 207 rfl) rfl
theorem q1307 : (Jvm.Cond.methodLink "CoinTaxes$Citizen" (89 : Nat) ({ cls := "java/util/BitSet", name := "or", desc := "(Ljava/util/BitSet;)V" } : Jvm.MethodName)) ∈ lw_all := lw_g (lw_at lw_m6 17 rfl) rfl
theorem q1578 : (Jvm.Cond.instanceMethod ({ cls := "CoinTaxes$Citizen", name := "counts", desc := "(ILCoinTaxes$Law;)I" } : Jvm.MethodName)) ∈ lw_all := lw_g (lw_at lw_m7 48 rfl) rfl
theorem q1579 : (Jvm.Cond.selects "CoinTaxes$Citizen" ({ cls := "CoinTaxes$Citizen", name := "counts", desc := "(ILCoinTaxes$Law;)I" } : Jvm.MethodName) ({ cls := "CoinTaxes$Citizen", name := "counts", desc := "(ILCoinTaxes$Law;)I" } : Jvm.MethodName)) ∈ lw_all := lw_g (lw_at lw_m7 49 rfl) rfl
theorem q1580 : (Jvm.Cond.code ({ cls := "CoinTaxes$Citizen", name := "counts", desc := "(ILCoinTaxes$Law;)I" } : Jvm.MethodName) prog_4_method_4_code (3 : Nat) (Option.some Jvm.ClassFile.FieldType.int)) ∈ lw_all := lw_g (lw_at lw_m7 50 rfl) rfl
theorem q1581 : (Jvm.Cond.methodLink "CoinTaxes$Citizen" (98 : Nat) ({ cls := "CoinTaxes$Citizen", name := "claimed", desc := "(I)I" } : Jvm.MethodName)) ∈ lw_all := lw_g (lw_at lw_m7 51 rfl) rfl
theorem q1582 : (Jvm.Cond.instanceMethod ({ cls := "CoinTaxes$Citizen", name := "claimed", desc := "(I)I" } : Jvm.MethodName)) ∈ lw_all := lw_g (lw_at lw_m7 52 rfl) rfl
theorem q1583 : (Jvm.Cond.selects "CoinTaxes$Citizen" ({ cls := "CoinTaxes$Citizen", name := "claimed", desc := "(I)I" } : Jvm.MethodName) ({ cls := "CoinTaxes$Citizen", name := "claimed", desc := "(I)I" } : Jvm.MethodName)) ∈ lw_all := lw_g (lw_at lw_m7 53 rfl) rfl
theorem q1584 : (Jvm.Cond.code ({ cls := "CoinTaxes$Citizen", name := "claimed", desc := "(I)I" } : Jvm.MethodName) prog_4_method_3_code (2 : Nat) (Option.some Jvm.ClassFile.FieldType.int)) ∈ lw_all := lw_g (lw_at lw_m7 54 rfl) rfl
theorem q1585 : (Jvm.Cond.methodLink "CoinTaxes$Citizen" (102 : Nat) ({ cls := "java/lang/Math", name := "min", desc := "(II)I" } : Jvm.MethodName)) ∈ lw_all := lw_g (lw_at lw_m7 55 rfl) rfl
theorem q1617 : (Jvm.Cond.instanceMethod ({ cls := "CoinTaxes$Citizen", name := "yearEnds", desc := "(LCoinTaxes$Law;IZ)I" } : Jvm.MethodName)) ∈ lw_all := lw_g (lw_at lw_m7 87 rfl) rfl
theorem q1618 : (Jvm.Cond.selects "CoinTaxes$Citizen" ({ cls := "CoinTaxes$Citizen", name := "yearEnds", desc := "(LCoinTaxes$Law;IZ)I" } : Jvm.MethodName) ({ cls := "CoinTaxes$Citizen", name := "yearEnds", desc := "(LCoinTaxes$Law;IZ)I" } : Jvm.MethodName)) ∈ lw_all := lw_g (lw_at lw_m7 88 rfl) rfl
theorem q1619 : (Jvm.Cond.code ({ cls := "CoinTaxes$Citizen", name := "yearEnds", desc := "(LCoinTaxes$Law;IZ)I" } : Jvm.MethodName) prog_4_method_19_code (9 : Nat) (Option.some Jvm.ClassFile.FieldType.int)) ∈ lw_all := lw_g (lw_at lw_m7 89 rfl) rfl
theorem q1620 : (Jvm.Cond.methodLink "CoinTaxes$Citizen" (162 : Nat) ({ cls := "CoinTaxes$Citizen", name := "strikes", desc := "()I" } : Jvm.MethodName)) ∈ lw_all := lw_g (lw_at lw_m7 90 rfl) rfl
theorem q1621 : (Jvm.Cond.instanceMethod ({ cls := "CoinTaxes$Citizen", name := "strikes", desc := "()I" } : Jvm.MethodName)) ∈ lw_all := lw_g (lw_at lw_m7 91 rfl) rfl
theorem q1622 : (Jvm.Cond.selects "CoinTaxes$Citizen" ({ cls := "CoinTaxes$Citizen", name := "strikes", desc := "()I" } : Jvm.MethodName) ({ cls := "CoinTaxes$Citizen", name := "strikes", desc := "()I" } : Jvm.MethodName)) ∈ lw_all := lw_g (lw_at lw_m7 92 rfl) rfl
theorem q1623 : (Jvm.Cond.code ({ cls := "CoinTaxes$Citizen", name := "strikes", desc := "()I" } : Jvm.MethodName) prog_4_method_15_code (3 : Nat) (Option.some Jvm.ClassFile.FieldType.int)) ∈ lw_all := lw_g (lw_at lw_m7 93 rfl) rfl
theorem q1624 : (Jvm.Cond.methodLink "CoinTaxes$Citizen" (144 : Nat) ({ cls := "CoinTaxes$Citizen", name := "bareCoins", desc := "()I" } : Jvm.MethodName)) ∈ lw_all := lw_g (lw_at lw_m7 94 rfl) rfl
theorem q1625 : (Jvm.Cond.instanceMethod ({ cls := "CoinTaxes$Citizen", name := "bareCoins", desc := "()I" } : Jvm.MethodName)) ∈ lw_all := lw_g (lw_at lw_m7 95 rfl) rfl
theorem q1626 : (Jvm.Cond.selects "CoinTaxes$Citizen" ({ cls := "CoinTaxes$Citizen", name := "bareCoins", desc := "()I" } : Jvm.MethodName) ({ cls := "CoinTaxes$Citizen", name := "bareCoins", desc := "()I" } : Jvm.MethodName)) ∈ lw_all := lw_g (lw_at lw_m7 96 rfl) rfl
theorem q1627 : (Jvm.Cond.code ({ cls := "CoinTaxes$Citizen", name := "bareCoins", desc := "()I" } : Jvm.MethodName) prog_4_method_6_code (6 : Nat) (Option.some Jvm.ClassFile.FieldType.int)) ∈ lw_all := lw_g (lw_at lw_m7 97 rfl) rfl
theorem q1628 : (Jvm.Cond.methodLink "CoinTaxes$Citizen" (165 : Nat) ({ cls := "java/util/BitSet", name := "set", desc := "(I)V" } : Jvm.MethodName)) ∈ lw_all := lw_g (lw_at lw_m7 98 rfl) rfl
theorem q1644 : (Jvm.Cond.methodLink "CoinTaxes$Citizen" (168 : Nat) ({ cls := "CoinTaxes$Citizen", name := "settles", desc := "(LCoinTaxes$Law;)I" } : Jvm.MethodName)) ∈ lw_all := lw_g (lw_at lw_m7 114 rfl) rfl
theorem q1645 : (Jvm.Cond.privateMethod ({ cls := "CoinTaxes$Citizen", name := "settles", desc := "(LCoinTaxes$Law;)I" } : Jvm.MethodName)) ∈ lw_tbl := lw_at lw_m7 115 rfl
theorem q1646 : (Jvm.Cond.instanceMethod ({ cls := "CoinTaxes$Citizen", name := "settles", desc := "(LCoinTaxes$Law;)I" } : Jvm.MethodName)) ∈ lw_all := lw_g (lw_at lw_m7 116 rfl) rfl
theorem q1647 : (Jvm.Cond.code ({ cls := "CoinTaxes$Citizen", name := "settles", desc := "(LCoinTaxes$Law;)I" } : Jvm.MethodName) prog_4_method_18_code (5 : Nat) (Option.some Jvm.ClassFile.FieldType.int)) ∈ lw_all := lw_g (lw_at lw_m7 117 rfl) rfl
theorem q1648 : (Jvm.Cond.methodLink "CoinTaxes$Citizen" (138 : Nat) ({ cls := "CoinTaxes$Citizen", name := "dues", desc := "(LCoinTaxes$Law;I)I" } : Jvm.MethodName)) ∈ lw_all := lw_g (lw_at lw_m7 118 rfl) rfl
theorem q1649 : (Jvm.Cond.instanceMethod ({ cls := "CoinTaxes$Citizen", name := "dues", desc := "(LCoinTaxes$Law;I)I" } : Jvm.MethodName)) ∈ lw_all := lw_g (lw_at lw_m7 119 rfl) rfl
theorem q1650 : (Jvm.Cond.selects "CoinTaxes$Citizen" ({ cls := "CoinTaxes$Citizen", name := "dues", desc := "(LCoinTaxes$Law;I)I" } : Jvm.MethodName) ({ cls := "CoinTaxes$Citizen", name := "dues", desc := "(LCoinTaxes$Law;I)I" } : Jvm.MethodName)) ∈ lw_all := lw_g (lw_at lw_m7 120 rfl) rfl
theorem q1651 : (Jvm.Cond.code ({ cls := "CoinTaxes$Citizen", name := "dues", desc := "(LCoinTaxes$Law;I)I" } : Jvm.MethodName) prog_4_method_9_code (3 : Nat) (Option.some Jvm.ClassFile.FieldType.int)) ∈ lw_all := lw_g (lw_at lw_m7 121 rfl) rfl
theorem q1652 : (Jvm.Cond.methodLink "CoinTaxes$Citizen" (118 : Nat) ({ cls := "CoinTaxes$Citizen", name := "taxed", desc := "(LCoinTaxes$Law;I)I" } : Jvm.MethodName)) ∈ lw_all := lw_g (lw_at lw_m7 122 rfl) rfl
theorem q1653 : (Jvm.Cond.instanceMethod ({ cls := "CoinTaxes$Citizen", name := "taxed", desc := "(LCoinTaxes$Law;I)I" } : Jvm.MethodName)) ∈ lw_all := lw_g (lw_at lw_m7 123 rfl) rfl
theorem q1654 : (Jvm.Cond.selects "CoinTaxes$Citizen" ({ cls := "CoinTaxes$Citizen", name := "taxed", desc := "(LCoinTaxes$Law;I)I" } : Jvm.MethodName) ({ cls := "CoinTaxes$Citizen", name := "taxed", desc := "(LCoinTaxes$Law;I)I" } : Jvm.MethodName)) ∈ lw_all := lw_g (lw_at lw_m7 124 rfl) rfl
theorem q1655 : (Jvm.Cond.code ({ cls := "CoinTaxes$Citizen", name := "taxed", desc := "(LCoinTaxes$Law;I)I" } : Jvm.MethodName) prog_4_method_8_code (3 : Nat) (Option.some Jvm.ClassFile.FieldType.int)) ∈ lw_all := lw_g (lw_at lw_m7 125 rfl) rfl
theorem q1656 : (Jvm.Cond.methodLink "CoinTaxes$Citizen" (112 : Nat) ({ cls := "CoinTaxes$Citizen", name := "counts", desc := "(LCoinTaxes$Law;)I" } : Jvm.MethodName)) ∈ lw_all := lw_g (lw_at lw_m7 126 rfl) rfl
theorem q1657 : (Jvm.Cond.instanceMethod ({ cls := "CoinTaxes$Citizen", name := "counts", desc := "(LCoinTaxes$Law;)I" } : Jvm.MethodName)) ∈ lw_all := lw_g (lw_at lw_m7 127 rfl) rfl
theorem q1658 : (Jvm.Cond.selects "CoinTaxes$Citizen" ({ cls := "CoinTaxes$Citizen", name := "counts", desc := "(LCoinTaxes$Law;)I" } : Jvm.MethodName) ({ cls := "CoinTaxes$Citizen", name := "counts", desc := "(LCoinTaxes$Law;)I" } : Jvm.MethodName)) ∈ lw_all := lw_g (lw_at lw_m7 128 rfl) rfl
theorem q1659 : (Jvm.Cond.code ({ cls := "CoinTaxes$Citizen", name := "counts", desc := "(LCoinTaxes$Law;)I" } : Jvm.MethodName) prog_4_method_5_code (4 : Nat) (Option.some Jvm.ClassFile.FieldType.int)) ∈ lw_all := lw_g (lw_at lw_m7 129 rfl) rfl
theorem q1660 : (Jvm.Cond.methodLink "CoinTaxes$Citizen" (108 : Nat) ({ cls := "CoinTaxes$Citizen", name := "counts", desc := "(ILCoinTaxes$Law;)I" } : Jvm.MethodName)) ∈ lw_all := lw_g (lw_at lw_m7 130 rfl) rfl
theorem q1661 : (Jvm.Cond.methodLink "CoinTaxes$Citizen" (115 : Nat) ({ cls := "java/lang/Math", name := "max", desc := "(II)I" } : Jvm.MethodName)) ∈ lw_all := lw_g (lw_at lw_m7 131 rfl) rfl
theorem q1662 : (Jvm.Cond.methodLink "CoinTaxes$Citizen" (122 : Nat) ({ cls := "CoinTaxes$Law", name := "hundredths", desc := "(I)I" } : Jvm.MethodName)) ∈ lw_all := lw_g (lw_at lw_m7 132 rfl) rfl
theorem q1673 : (Jvm.Cond.methodLink "CoinTaxes$Citizen" (125 : Nat) ({ cls := "CoinTaxes$Law", name := "creditFor", desc := "(I)I" } : Jvm.MethodName)) ∈ lw_all := lw_g (lw_at lw_m7 143 rfl) rfl
theorem q1677 : (Jvm.Cond.methodLink "CoinTaxes$Citizen" (141 : Nat) ({ cls := "CoinTaxes$Citizen", name := "taxOf", desc := "(I)I" } : Jvm.MethodName)) ∈ lw_all := lw_g (lw_at lw_m7 147 rfl) rfl
theorem q1678 : (Jvm.Cond.instanceMethod ({ cls := "CoinTaxes$Citizen", name := "taxOf", desc := "(I)I" } : Jvm.MethodName)) ∈ lw_all := lw_g (lw_at lw_m7 148 rfl) rfl
theorem q1679 : (Jvm.Cond.selects "CoinTaxes$Citizen" ({ cls := "CoinTaxes$Citizen", name := "taxOf", desc := "(I)I" } : Jvm.MethodName) ({ cls := "CoinTaxes$Citizen", name := "taxOf", desc := "(I)I" } : Jvm.MethodName)) ∈ lw_all := lw_g (lw_at lw_m7 149 rfl) rfl
theorem q1680 : (Jvm.Cond.code ({ cls := "CoinTaxes$Citizen", name := "taxOf", desc := "(I)I" } : Jvm.MethodName) prog_4_method_12_code (2 : Nat) (Option.some Jvm.ClassFile.FieldType.int)) ∈ lw_all := lw_g (lw_at lw_m7 150 rfl) rfl
theorem q1681 : (Jvm.Cond.methodLink "CoinTaxes$Citizen" (131 : Nat) ({ cls := "CoinTaxes$Citizen", name := "carriedCoins", desc := "()I" } : Jvm.MethodName)) ∈ lw_all := lw_g (lw_at lw_m7 151 rfl) rfl
theorem q1682 : (Jvm.Cond.instanceMethod ({ cls := "CoinTaxes$Citizen", name := "carriedCoins", desc := "()I" } : Jvm.MethodName)) ∈ lw_all := lw_g (lw_at lw_m7 152 rfl) rfl
theorem q1683 : (Jvm.Cond.selects "CoinTaxes$Citizen" ({ cls := "CoinTaxes$Citizen", name := "carriedCoins", desc := "()I" } : Jvm.MethodName) ({ cls := "CoinTaxes$Citizen", name := "carriedCoins", desc := "()I" } : Jvm.MethodName)) ∈ lw_all := lw_g (lw_at lw_m7 153 rfl) rfl
theorem q1684 : (Jvm.Cond.code ({ cls := "CoinTaxes$Citizen", name := "carriedCoins", desc := "()I" } : Jvm.MethodName) prog_4_method_7_code (4 : Nat) (Option.some Jvm.ClassFile.FieldType.int)) ∈ lw_all := lw_g (lw_at lw_m7 154 rfl) rfl
theorem q1685 : (Jvm.Cond.methodLink "CoinTaxes$Citizen" (135 : Nat) ({ cls := "CoinTaxes$Citizen", name := "taxBehind", desc := "(II)I" } : Jvm.MethodName)) ∈ lw_all := lw_g (lw_at lw_m7 155 rfl) rfl
theorem q1686 : (Jvm.Cond.static ({ cls := "CoinTaxes$Citizen", name := "taxBehind", desc := "(II)I" } : Jvm.MethodName)) ∈ lw_all := lw_g (lw_at lw_m7 156 rfl) rfl
theorem q1687 : (Jvm.Cond.code ({ cls := "CoinTaxes$Citizen", name := "taxBehind", desc := "(II)I" } : Jvm.MethodName) prog_4_method_11_code (2 : Nat) (Option.some Jvm.ClassFile.FieldType.int)) ∈ lw_all := lw_g (lw_at lw_m7 157 rfl) rfl
theorem q1688 : (Jvm.Cond.methodLink "CoinTaxes$Citizen" (156 : Nat) ({ cls := "CoinTaxes$Citizen", name := "uses", desc := "(I)V" } : Jvm.MethodName)) ∈ lw_all := lw_g (lw_at lw_m7 158 rfl) rfl
theorem q1689 : (Jvm.Cond.privateMethod ({ cls := "CoinTaxes$Citizen", name := "uses", desc := "(I)V" } : Jvm.MethodName)) ∈ lw_tbl := lw_at lw_m7 159 rfl
theorem q1690 : (Jvm.Cond.instanceMethod ({ cls := "CoinTaxes$Citizen", name := "uses", desc := "(I)V" } : Jvm.MethodName)) ∈ lw_all := lw_g (lw_at lw_m7 160 rfl) rfl
theorem q1691 : (Jvm.Cond.code ({ cls := "CoinTaxes$Citizen", name := "uses", desc := "(I)V" } : Jvm.MethodName) prog_4_method_16_code (5 : Nat) (Option.none : Option Jvm.ClassFile.FieldType)) ∈ lw_all := lw_g (lw_at lw_m7 161 rfl) rfl
theorem q1692 : (Jvm.Cond.interfaceEntry "CoinTaxes$Citizen" (147 : Nat)) ∈ lw_tbl := lw_at lw_m7 162 rfl
theorem q1701 : (Jvm.Cond.interfaceEntry "CoinTaxes$Citizen" (150 : Nat)) ∈ lw_tbl := lw_at lw_m7 171 rfl
theorem q1702 : (Jvm.Cond.methodLink "CoinTaxes$Citizen" (150 : Nat) ({ cls := "java/util/Deque", name := "getFirst", desc := "()Ljava/lang/Object;" } : Jvm.MethodName)) ∈ lw_all := lw_g (lw_at lw_m7 172 rfl) rfl
theorem q1718 : (Jvm.Cond.interfaceEntry "CoinTaxes$Citizen" (153 : Nat)) ∈ lw_tbl := lw_at lw_m7 188 rfl
theorem q1719 : (Jvm.Cond.methodLink "CoinTaxes$Citizen" (153 : Nat) ({ cls := "java/util/Deque", name := "removeFirst", desc := "()Ljava/lang/Object;" } : Jvm.MethodName)) ∈ lw_all := lw_g (lw_at lw_m7 189 rfl) rfl
theorem q1740 : (Jvm.Cond.methodLink "CoinTaxes$Citizen" (159 : Nat) ({ cls := "CoinTaxes$Citizen", name := "carriedGrowOld", desc := "()V" } : Jvm.MethodName)) ∈ lw_all := lw_g (lw_at lw_m7 210 rfl) rfl
theorem q1741 : (Jvm.Cond.privateMethod ({ cls := "CoinTaxes$Citizen", name := "carriedGrowOld", desc := "()V" } : Jvm.MethodName)) ∈ lw_tbl := lw_at lw_m7 211 rfl
theorem q1742 : (Jvm.Cond.instanceMethod ({ cls := "CoinTaxes$Citizen", name := "carriedGrowOld", desc := "()V" } : Jvm.MethodName)) ∈ lw_all := lw_g (lw_at lw_m7 212 rfl) rfl
theorem q1743 : (Jvm.Cond.code ({ cls := "CoinTaxes$Citizen", name := "carriedGrowOld", desc := "()V" } : Jvm.MethodName) prog_4_method_17_code (3 : Nat) (Option.none : Option Jvm.ClassFile.FieldType)) ∈ lw_all := lw_g (lw_at lw_m7 213 rfl) rfl
theorem q1842 : (Jvm.Cond.instanceMethod ({ cls := "CoinTaxes$Citizen", name := "duesAgain", desc := "(LCoinTaxes$Law;I)I" } : Jvm.MethodName)) ∈ lw_all := lw_g (lw_at lw_m8 72 rfl) rfl
theorem q1843 : (Jvm.Cond.selects "CoinTaxes$Citizen" ({ cls := "CoinTaxes$Citizen", name := "duesAgain", desc := "(LCoinTaxes$Law;I)I" } : Jvm.MethodName) ({ cls := "CoinTaxes$Citizen", name := "duesAgain", desc := "(LCoinTaxes$Law;I)I" } : Jvm.MethodName)) ∈ lw_all := lw_g (lw_at lw_m8 73 rfl) rfl
theorem q1844 : (Jvm.Cond.code ({ cls := "CoinTaxes$Citizen", name := "duesAgain", desc := "(LCoinTaxes$Law;I)I" } : Jvm.MethodName) prog_4_method_10_code (3 : Nat) (Option.some Jvm.ClassFile.FieldType.int)) ∈ lw_all := lw_g (lw_at lw_m8 74 rfl) rfl
theorem q1845 : (Jvm.Cond.methodLink "CoinTaxes$Citizen" (128 : Nat) ({ cls := "CoinTaxes$Law", name := "hundredthsAgain", desc := "(I)I" } : Jvm.MethodName)) ∈ lw_all := lw_g (lw_at lw_m8 75 rfl) rfl
theorem q2096 : (Jvm.Cond.instanceMethod ({ cls := "CoinTaxes$Citizen", name := "tax", desc := "(LCoinTaxes$Law;I)I" } : Jvm.MethodName)) ∈ lw_all := lw_g (lw_at lw_m9 86 rfl) rfl
theorem q2097 : (Jvm.Cond.selects "CoinTaxes$Citizen" ({ cls := "CoinTaxes$Citizen", name := "tax", desc := "(LCoinTaxes$Law;I)I" } : Jvm.MethodName) ({ cls := "CoinTaxes$Citizen", name := "tax", desc := "(LCoinTaxes$Law;I)I" } : Jvm.MethodName)) ∈ lw_all := lw_g (lw_at lw_m9 87 rfl) rfl
theorem q2098 : (Jvm.Cond.code ({ cls := "CoinTaxes$Citizen", name := "tax", desc := "(LCoinTaxes$Law;I)I" } : Jvm.MethodName) prog_4_method_13_code (3 : Nat) (Option.some Jvm.ClassFile.FieldType.int)) ∈ lw_all := lw_g (lw_at lw_m9 88 rfl) rfl
theorem q2148 : (Jvm.Cond.instanceMethod ({ cls := "CoinTaxes$Citizen", name := "isNoLoss", desc := "(LCoinTaxes$Law;)Z" } : Jvm.MethodName)) ∈ lw_all := lw_g (lw_at lw_m9 138 rfl) rfl
theorem q2149 : (Jvm.Cond.selects "CoinTaxes$Citizen" ({ cls := "CoinTaxes$Citizen", name := "isNoLoss", desc := "(LCoinTaxes$Law;)Z" } : Jvm.MethodName) ({ cls := "CoinTaxes$Citizen", name := "isNoLoss", desc := "(LCoinTaxes$Law;)Z" } : Jvm.MethodName)) ∈ lw_all := lw_g (lw_at lw_m9 139 rfl) rfl
theorem q2150 : (Jvm.Cond.code ({ cls := "CoinTaxes$Citizen", name := "isNoLoss", desc := "(LCoinTaxes$Law;)Z" } : Jvm.MethodName) prog_4_method_14_code (6 : Nat) (Option.some Jvm.ClassFile.FieldType.boolean)) ∈ lw_all := lw_g (lw_at lw_m9 140 rfl) rfl
theorem q2415 : (Jvm.Cond.instanceMethod ({ cls := "CoinTaxes$Citizen", name := "line", desc := "()Ljava/lang/String;" } : Jvm.MethodName)) ∈ lw_all := lw_g (lw_at lw_m10 165 rfl) rfl
theorem q2416 : (Jvm.Cond.selects "CoinTaxes$Citizen" ({ cls := "CoinTaxes$Citizen", name := "line", desc := "()Ljava/lang/String;" } : Jvm.MethodName) ({ cls := "CoinTaxes$Citizen", name := "line", desc := "()Ljava/lang/String;" } : Jvm.MethodName)) ∈ lw_all := lw_g (lw_at lw_m10 166 rfl) rfl
theorem q2417 : (Jvm.Cond.code ({ cls := "CoinTaxes$Citizen", name := "line", desc := "()Ljava/lang/String;" } : Jvm.MethodName) prog_4_method_20_code (3 : Nat) (Option.some (Jvm.ClassFile.FieldType.object "java/lang/String"))) ∈ lw_all := lw_g (lw_at lw_m10 167 rfl) rfl
theorem q2418 : (Jvm.Cond.classLink "CoinTaxes$Citizen" (171 : Nat) "java/lang/StringBuilder") ∈ lw_all := lw_g (lw_at lw_m10 168 rfl) rfl
theorem q2419 : (Jvm.Cond.methodLink "CoinTaxes$Citizen" (173 : Nat) ({ cls := "java/lang/StringBuilder", name := "<init>", desc := "()V" } : Jvm.MethodName)) ∈ lw_all := lw_g (lw_at lw_m10 169 rfl) rfl
theorem q2420 : (Jvm.Cond.methodLink "CoinTaxes$Citizen" (174 : Nat) ({ cls := "java/lang/StringBuilder", name := "append", desc := "(I)Ljava/lang/StringBuilder;" } : Jvm.MethodName)) ∈ lw_all := lw_g (lw_at lw_m10 170 rfl) rfl
theorem q2421 : (Jvm.Cond.methodLink "CoinTaxes$Citizen" (178 : Nat) ({ cls := "java/lang/StringBuilder", name := "append", desc := "(C)Ljava/lang/StringBuilder;" } : Jvm.MethodName)) ∈ lw_all := lw_g (lw_at lw_m10 171 rfl) rfl
theorem q2422 : (Jvm.Cond.stringRef "CoinTaxes$Citizen" (181 : Nat) "tbg") ∈ lw_tbl := lw_at lw_m10 172 rfl
theorem q2423 : (Jvm.Cond.methodLink "CoinTaxes$Citizen" (183 : Nat) ({ cls := "java/lang/String", name := "charAt", desc := "(I)C" } : Jvm.MethodName)) ∈ lw_all := lw_g (lw_at lw_m10 173 rfl) rfl
theorem q2424 : (Jvm.Cond.stringRef "CoinTaxes$Citizen" (189 : Nat) "?") ∈ lw_tbl := lw_at lw_m10 174 rfl
theorem q2425 : (Jvm.Cond.stringRef "CoinTaxes$Citizen" (191 : Nat) "") ∈ lw_tbl := lw_at lw_m10 175 rfl
theorem q2426 : (Jvm.Cond.methodLink "CoinTaxes$Citizen" (193 : Nat) ({ cls := "java/lang/StringBuilder", name := "append", desc := "(Ljava/lang/String;)Ljava/lang/StringBuilder;" } : Jvm.MethodName)) ∈ lw_all := lw_g (lw_at lw_m10 176 rfl) rfl
theorem q2427 : (Jvm.Cond.stringRef "CoinTaxes$Citizen" (196 : Nat) " -") ∈ lw_tbl := lw_at lw_m10 177 rfl
theorem q2428 : (Jvm.Cond.methodLink "CoinTaxes$Citizen" (198 : Nat) ({ cls := "java/lang/StringBuilder", name := "toString", desc := "()Ljava/lang/String;" } : Jvm.MethodName)) ∈ lw_all := lw_g (lw_at lw_m10 178 rfl) rfl
theorem q3025 : (Jvm.Cond.castable "CoinTaxes$Citizen" "java/lang/Object") ∈ lw_tbl := lw_at lw_m13 55 rfl
theorem in_X7 : ∀ w ∈ wsX70, w ∈ lw_all := lw_in wsX70 [1175, 1177, 1179, 1181, 1183, 1185, 1187, 1189, 1191, 1193] (by decide +kernel) (by decide +kernel)

/-! CoinTaxes$Carried -/
set_option maxRecDepth 100000
def RX8 : String := "CoinTaxes$Carried"
def TX8 : u_T := fun k => match k with
  | 0 => ("CoinTaxes$Carried", "coins", "I", false)
  | _ => ("CoinTaxes$Carried", "years", "I", false)
def tyX8 : Nat → FieldType := fun k => match k with
  | 0 => .int
  | _ => .int
abbrev wsX80 : List Cond := u_ws RX8 TX8 2
theorem nmX8 : ∀ a, a < 2 → ∀ b, b < 2 → a ≠ b → (TX8 a).2.1 ≠ (TX8 b).2.1 := by decide +kernel
theorem tyX8_ok : ∀ k, k < 2 → parseFieldDescriptor (TX8 k).2.2.1 = some (tyX8 k) := by decide +kernel
abbrev cX8_init : ByteArray := prog_3_method_1_code
def yX8_init : MethodName := ⟨RX8, "<init>", "(II)V"⟩
def dkwX8_init_0 : List UInt8 := [42, 183, 0, 1, 42, 27, 181, 0, 7, 42, 28, 181, 0, 13, 177]
abbrev dktX8_init_0 : List UInt8 := dkwX8_init_0 ++ []
theorem dksX8_init_0 : cX8_init.data.toList.drop 0 = dktX8_init_0 := by decide +kernel
theorem dX8_init_0 : decode cX8_init 0 = .ok (.aload_n 0, 1) := dk_42 (dk_at dksX8_init_0 0 rfl rfl)
theorem dX8_init_1 : decode cX8_init 1 = .ok (.invokespecial 1, 3) := dk_183 0 1 (dk_at dksX8_init_0 1 rfl rfl)
theorem dX8_init_4 : decode cX8_init 4 = .ok (.aload_n 0, 1) := dk_42 (dk_at dksX8_init_0 4 rfl rfl)
theorem dX8_init_5 : decode cX8_init 5 = .ok (.iload_n 1, 1) := dk_27 (dk_at dksX8_init_0 5 rfl rfl)
theorem dX8_init_6 : decode cX8_init 6 = .ok (.putfield 7, 3) := dk_181 0 7 (dk_at dksX8_init_0 6 rfl rfl)
theorem dX8_init_9 : decode cX8_init 9 = .ok (.aload_n 0, 1) := dk_42 (dk_at dksX8_init_0 9 rfl rfl)
theorem dX8_init_10 : decode cX8_init 10 = .ok (.iload_n 2, 1) := dk_28 (dk_at dksX8_init_0 10 rfl rfl)
theorem dX8_init_11 : decode cX8_init 11 = .ok (.putfield 13, 3) := dk_181 0 13 (dk_at dksX8_init_0 11 rfl rfl)
theorem dX8_init_14 : decode cX8_init 14 = .ok (.return_, 1) := dk_177 (dk_at dksX8_init_0 14 rfl rfl)
theorem q131 : (Jvm.Cond.initialized "CoinTaxes$Carried") ∈ lw_all := lw_g (lw_at lw_m1 41 rfl) rfl
theorem q967 : (Jvm.Cond.selects "CoinTaxes$Carried" ({ cls := "java/lang/Object", name := "getClass", desc := "()Ljava/lang/Class;" } : Jvm.MethodName) ({ cls := "java/lang/Object", name := "getClass", desc := "()Ljava/lang/Class;" } : Jvm.MethodName)) ∈ lw_all := lw_g (lw_at lw_m4 157 rfl) rfl
theorem q1240 : (Jvm.Cond.instantiable "CoinTaxes$Carried" (2 : Nat)) ∈ lw_all := lw_g (lw_at lw_m5 190 rfl) rfl
theorem q1242 : (Jvm.Cond.instanceMethod ({ cls := "CoinTaxes$Carried", name := "<init>", desc := "(II)V" } : Jvm.MethodName)) ∈ lw_all := lw_g (lw_at lw_m5 192 rfl) rfl
theorem q1243 : (Jvm.Cond.code ({ cls := "CoinTaxes$Carried", name := "<init>", desc := "(II)V" } : Jvm.MethodName) prog_3_method_1_code (3 : Nat) (Option.none : Option Jvm.ClassFile.FieldType)) ∈ lw_all := lw_g (lw_at lw_m5 193 rfl) rfl
theorem q1244 : (Jvm.Cond.methodLink "CoinTaxes$Carried" (1 : Nat) ({ cls := "java/lang/Object", name := "<init>", desc := "()V" } : Jvm.MethodName)) ∈ lw_all := lw_g (lw_at lw_m5 194 rfl) rfl
theorem q1245 : (Jvm.Cond.fieldLink "CoinTaxes$Carried" (7 : Nat) "CoinTaxes$Carried" "coins" "I") ∈ lw_all := lw_g (lw_at lw_m5 195 rfl) rfl
theorem q1248 : (Jvm.Cond.fieldLink "CoinTaxes$Carried" (13 : Nat) "CoinTaxes$Carried" "years" "I") ∈ lw_all := lw_g (lw_at lw_m5 198 rfl) rfl
theorem q1251 : (Jvm.Cond.lays "CoinTaxes$Carried" "CoinTaxes$Carried" "coins" "I") ∈ lw_all := lw_g (lw_at lw_m5 201 rfl) rfl
theorem q1252 : (Jvm.Cond.soleField "CoinTaxes$Carried" "coins") ∈ lw_all := lw_g (lw_at lw_m5 202 rfl) rfl
theorem q1253 : (Jvm.Cond.lays "CoinTaxes$Carried" "CoinTaxes$Carried" "years" "I") ∈ lw_all := lw_g (lw_at lw_m5 203 rfl) rfl
theorem q1254 : (Jvm.Cond.soleField "CoinTaxes$Carried" "years") ∈ lw_all := lw_g (lw_at lw_m5 204 rfl) rfl
theorem q1255 : (Jvm.Cond.superclass "CoinTaxes$Carried" "java/lang/Object") ∈ lw_all := lw_g (lw_at lw_m5 205 rfl) rfl
theorem q3028 : (Jvm.Cond.castable "CoinTaxes$Carried" "java/lang/Object") ∈ lw_tbl := lw_at lw_m13 58 rfl
theorem in_X8 : ∀ w ∈ wsX80, w ∈ lw_all := lw_in wsX80 [1251, 1253] (by decide +kernel) (by decide +kernel)

/-! CoinTaxes$Refused -/
set_option maxRecDepth 100000
def RX9 : String := "CoinTaxes$Refused"
def TX9 : u_T := fun k => match k with
  | 0 => ("java/lang/Throwable", "cause", "Ljava/lang/Throwable;", false)
  | 1 => ("java/lang/Throwable", "stackTrace", "[Ljava/lang/StackTraceElement;", false)
  | 2 => ("java/lang/Throwable", "suppressedExceptions", "Ljava/util/List;", false)
  | 3 => ("java/lang/Throwable", "detailMessage", "Ljava/lang/String;", false)
  | 4 => ("java/lang/Throwable", "backtrace", "Ljava/lang/Object;", false)
  | 5 => ("java/lang/Throwable", "depth", "I", false)
  | 6 => ("CoinTaxes$Refused", "reason", "I", true)
  | 7 => ("CoinTaxes$Refused", "detail", "I", true)
  | _ => ("CoinTaxes$Refused", "behind", "LCoinTaxes$Refused;", true)
def tyX9 : Nat → FieldType := fun k => match k with
  | 0 => .object "java/lang/Throwable"
  | 1 => .array (.object "java/lang/StackTraceElement")
  | 2 => .object "java/util/List"
  | 3 => .object "java/lang/String"
  | 4 => .object "java/lang/Object"
  | 5 => .int
  | 6 => .int
  | 7 => .int
  | _ => .object "CoinTaxes$Refused"
abbrev wsX90 : List Cond := u_ws RX9 TX9 9
theorem nmX9 : ∀ a, a < 9 → ∀ b, b < 9 → a ≠ b → (TX9 a).2.1 ≠ (TX9 b).2.1 := by decide +kernel
theorem tyX9_ok : ∀ k, k < 9 → parseFieldDescriptor (TX9 k).2.2.1 = some (tyX9 k) := by decide +kernel
abbrev cX9_init : ByteArray := prog_9_method_1_code
def yX9_init : MethodName := ⟨RX9, "<init>", "(II)V"⟩
def dkwX9_init_0 : List UInt8 := [42, 27, 28, 1, 183, 0, 1, 177]
abbrev dktX9_init_0 : List UInt8 := dkwX9_init_0 ++ []
theorem dksX9_init_0 : cX9_init.data.toList.drop 0 = dktX9_init_0 := by decide +kernel
theorem dX9_init_0 : decode cX9_init 0 = .ok (.aload_n 0, 1) := dk_42 (dk_at dksX9_init_0 0 rfl rfl)
theorem dX9_init_1 : decode cX9_init 1 = .ok (.iload_n 1, 1) := dk_27 (dk_at dksX9_init_0 1 rfl rfl)
theorem dX9_init_2 : decode cX9_init 2 = .ok (.iload_n 2, 1) := dk_28 (dk_at dksX9_init_0 2 rfl rfl)
theorem dX9_init_3 : decode cX9_init 3 = .ok (.aconst_null, 1) := dk_1 (dk_at dksX9_init_0 3 rfl rfl)
theorem dX9_init_4 : decode cX9_init 4 = .ok (.invokespecial 1, 3) := dk_183 0 1 (dk_at dksX9_init_0 4 rfl rfl)
theorem dX9_init_7 : decode cX9_init 7 = .ok (.return_, 1) := dk_177 (dk_at dksX9_init_0 7 rfl rfl)
abbrev cX9_init_2 : ByteArray := prog_9_method_2_code
def yX9_init_2 : MethodName := ⟨RX9, "<init>", "(IILCoinTaxes$Refused;)V"⟩
def dkwX9_init_2_0 : List UInt8 := [42, 183, 0, 7, 42, 27, 181, 0, 12, 42, 28, 181, 0, 16, 42, 45, 181, 0, 19, 177]
abbrev dktX9_init_2_0 : List UInt8 := dkwX9_init_2_0 ++ []
theorem dksX9_init_2_0 : cX9_init_2.data.toList.drop 0 = dktX9_init_2_0 := by decide +kernel
theorem dX9_init_2_0 : decode cX9_init_2 0 = .ok (.aload_n 0, 1) := dk_42 (dk_at dksX9_init_2_0 0 rfl rfl)
theorem dX9_init_2_1 : decode cX9_init_2 1 = .ok (.invokespecial 7, 3) := dk_183 0 7 (dk_at dksX9_init_2_0 1 rfl rfl)
theorem dX9_init_2_4 : decode cX9_init_2 4 = .ok (.aload_n 0, 1) := dk_42 (dk_at dksX9_init_2_0 4 rfl rfl)
theorem dX9_init_2_5 : decode cX9_init_2 5 = .ok (.iload_n 1, 1) := dk_27 (dk_at dksX9_init_2_0 5 rfl rfl)
theorem dX9_init_2_6 : decode cX9_init_2 6 = .ok (.putfield 12, 3) := dk_181 0 12 (dk_at dksX9_init_2_0 6 rfl rfl)
theorem dX9_init_2_9 : decode cX9_init_2 9 = .ok (.aload_n 0, 1) := dk_42 (dk_at dksX9_init_2_0 9 rfl rfl)
theorem dX9_init_2_10 : decode cX9_init_2 10 = .ok (.iload_n 2, 1) := dk_28 (dk_at dksX9_init_2_0 10 rfl rfl)
theorem dX9_init_2_11 : decode cX9_init_2 11 = .ok (.putfield 16, 3) := dk_181 0 16 (dk_at dksX9_init_2_0 11 rfl rfl)
theorem dX9_init_2_14 : decode cX9_init_2 14 = .ok (.aload_n 0, 1) := dk_42 (dk_at dksX9_init_2_0 14 rfl rfl)
theorem dX9_init_2_15 : decode cX9_init_2 15 = .ok (.aload_n 3, 1) := dk_45 (dk_at dksX9_init_2_0 15 rfl rfl)
theorem dX9_init_2_16 : decode cX9_init_2 16 = .ok (.putfield 19, 3) := dk_181 0 19 (dk_at dksX9_init_2_0 16 rfl rfl)
theorem dX9_init_2_19 : decode cX9_init_2 19 = .ok (.return_, 1) := dk_177 (dk_at dksX9_init_2_0 19 rfl rfl)
theorem q133 : (Jvm.Cond.initialized "CoinTaxes$Refused") ∈ lw_all := lw_g (lw_at lw_m1 43 rfl) rfl
theorem q491 : (Jvm.Cond.selects "CoinTaxes$Refused" ({ cls := "java/lang/Throwable", name := "fillInStackTrace", desc := "()Ljava/lang/Throwable;" } : Jvm.MethodName) ({ cls := "java/lang/Throwable", name := "fillInStackTrace", desc := "()Ljava/lang/Throwable;" } : Jvm.MethodName)) ∈ lw_all := lw_g (lw_at lw_m2 161 rfl) rfl
theorem q951 : (Jvm.Cond.selects "CoinTaxes$Refused" ({ cls := "java/lang/Throwable", name := "toString", desc := "()Ljava/lang/String;" } : Jvm.MethodName) ({ cls := "java/lang/Throwable", name := "toString", desc := "()Ljava/lang/String;" } : Jvm.MethodName)) ∈ lw_all := lw_g (lw_at lw_m4 141 rfl) rfl
theorem q973 : (Jvm.Cond.selects "CoinTaxes$Refused" ({ cls := "java/lang/Object", name := "getClass", desc := "()Ljava/lang/Class;" } : Jvm.MethodName) ({ cls := "java/lang/Object", name := "getClass", desc := "()Ljava/lang/Class;" } : Jvm.MethodName)) ∈ lw_all := lw_g (lw_at lw_m4 163 rfl) rfl
theorem q1001 : (Jvm.Cond.selects "CoinTaxes$Refused" ({ cls := "java/lang/Throwable", name := "getLocalizedMessage", desc := "()Ljava/lang/String;" } : Jvm.MethodName) ({ cls := "java/lang/Throwable", name := "getLocalizedMessage", desc := "()Ljava/lang/String;" } : Jvm.MethodName)) ∈ lw_all := lw_g (lw_at lw_m4 191 rfl) rfl
theorem q1015 : (Jvm.Cond.selects "CoinTaxes$Refused" ({ cls := "java/lang/Throwable", name := "getMessage", desc := "()Ljava/lang/String;" } : Jvm.MethodName) ({ cls := "java/lang/Throwable", name := "getMessage", desc := "()Ljava/lang/String;" } : Jvm.MethodName)) ∈ lw_all := lw_g (lw_at lw_m4 205 rfl) rfl
theorem q1455 : (Jvm.Cond.instantiable "CoinTaxes$Refused" (9 : Nat)) ∈ lw_all := lw_g (lw_at lw_m6 165 rfl) rfl
theorem q1456 : (Jvm.Cond.castable "CoinTaxes$Refused" "CoinTaxes$Refused") ∈ lw_tbl := lw_at lw_m6 166 rfl
theorem q1457 : (Jvm.Cond.selects "CoinTaxes$Refused" ({ cls := "java/lang/Throwable", name := "fillInStackTrace", desc := "(I)Ljava/lang/Throwable;" } : Jvm.MethodName) ({ cls := "java/lang/Throwable", name := "fillInStackTrace", desc := "(I)Ljava/lang/Throwable;" } : Jvm.MethodName)) ∈ lw_all := lw_g (lw_at lw_m6 167 rfl) rfl
theorem q1458 : (Jvm.Cond.lays "CoinTaxes$Refused" "java/lang/Throwable" "cause" "Ljava/lang/Throwable;") ∈ lw_all := lw_g (lw_at lw_m6 168 rfl) rfl
theorem q1459 : (Jvm.Cond.lays "CoinTaxes$Refused" "java/lang/Throwable" "stackTrace" "[Ljava/lang/StackTraceElement;") ∈ lw_all := lw_g (lw_at lw_m6 169 rfl) rfl
theorem q1460 : (Jvm.Cond.lays "CoinTaxes$Refused" "java/lang/Throwable" "suppressedExceptions" "Ljava/util/List;") ∈ lw_all := lw_g (lw_at lw_m6 170 rfl) rfl
theorem q1461 : (Jvm.Cond.lays "CoinTaxes$Refused" "java/lang/Throwable" "detailMessage" "Ljava/lang/String;") ∈ lw_all := lw_g (lw_at lw_m6 171 rfl) rfl
theorem q1462 : (Jvm.Cond.lays "CoinTaxes$Refused" "java/lang/Throwable" "backtrace" "Ljava/lang/Object;") ∈ lw_all := lw_g (lw_at lw_m6 172 rfl) rfl
theorem q1464 : (Jvm.Cond.instanceMethod ({ cls := "CoinTaxes$Refused", name := "<init>", desc := "(II)V" } : Jvm.MethodName)) ∈ lw_all := lw_g (lw_at lw_m6 174 rfl) rfl
theorem q1465 : (Jvm.Cond.code ({ cls := "CoinTaxes$Refused", name := "<init>", desc := "(II)V" } : Jvm.MethodName) prog_9_method_1_code (3 : Nat) (Option.none : Option Jvm.ClassFile.FieldType)) ∈ lw_all := lw_g (lw_at lw_m6 175 rfl) rfl
theorem q1466 : (Jvm.Cond.methodLink "CoinTaxes$Refused" (1 : Nat) ({ cls := "CoinTaxes$Refused", name := "<init>", desc := "(IILCoinTaxes$Refused;)V" } : Jvm.MethodName)) ∈ lw_all := lw_g (lw_at lw_m6 176 rfl) rfl
theorem q1467 : (Jvm.Cond.instanceMethod ({ cls := "CoinTaxes$Refused", name := "<init>", desc := "(IILCoinTaxes$Refused;)V" } : Jvm.MethodName)) ∈ lw_all := lw_g (lw_at lw_m6 177 rfl) rfl
theorem q1468 : (Jvm.Cond.code ({ cls := "CoinTaxes$Refused", name := "<init>", desc := "(IILCoinTaxes$Refused;)V" } : Jvm.MethodName) prog_9_method_2_code (4 : Nat) (Option.none : Option Jvm.ClassFile.FieldType)) ∈ lw_all := lw_g (lw_at lw_m6 178 rfl) rfl
theorem q1469 : (Jvm.Cond.methodLink "CoinTaxes$Refused" (7 : Nat) ({ cls := "java/lang/Exception", name := "<init>", desc := "()V" } : Jvm.MethodName)) ∈ lw_all := lw_g (lw_at lw_m6 179 rfl) rfl
theorem q1470 : (Jvm.Cond.fieldLink "CoinTaxes$Refused" (12 : Nat) "CoinTaxes$Refused" "reason" "I") ∈ lw_all := lw_g (lw_at lw_m6 180 rfl) rfl
theorem q1472 : (Jvm.Cond.fieldLink "CoinTaxes$Refused" (16 : Nat) "CoinTaxes$Refused" "detail" "I") ∈ lw_all := lw_g (lw_at lw_m6 182 rfl) rfl
theorem q1474 : (Jvm.Cond.fieldLink "CoinTaxes$Refused" (19 : Nat) "CoinTaxes$Refused" "behind" "LCoinTaxes$Refused;") ∈ lw_all := lw_g (lw_at lw_m6 184 rfl) rfl
theorem q1476 : (Jvm.Cond.laysFinal "CoinTaxes$Refused" "CoinTaxes$Refused" "reason" "I") ∈ lw_all := lw_g (lw_at lw_m6 186 rfl) rfl
theorem q1477 : (Jvm.Cond.soleField "CoinTaxes$Refused" "reason") ∈ lw_all := lw_g (lw_at lw_m6 187 rfl) rfl
theorem q1478 : (Jvm.Cond.laysFinal "CoinTaxes$Refused" "CoinTaxes$Refused" "detail" "I") ∈ lw_all := lw_g (lw_at lw_m6 188 rfl) rfl
theorem q1479 : (Jvm.Cond.soleField "CoinTaxes$Refused" "detail") ∈ lw_all := lw_g (lw_at lw_m6 189 rfl) rfl
theorem q1480 : (Jvm.Cond.laysFinal "CoinTaxes$Refused" "CoinTaxes$Refused" "behind" "LCoinTaxes$Refused;") ∈ lw_all := lw_g (lw_at lw_m6 190 rfl) rfl
theorem q1481 : (Jvm.Cond.soleField "CoinTaxes$Refused" "behind") ∈ lw_all := lw_g (lw_at lw_m6 191 rfl) rfl
theorem q1482 : (Jvm.Cond.lays "CoinTaxes$Refused" "java/lang/Throwable" "depth" "I") ∈ lw_all := lw_g (lw_at lw_m6 192 rfl) rfl
theorem q1483 : (Jvm.Cond.superclass "CoinTaxes$Refused" "java/lang/Exception") ∈ lw_all := lw_g (lw_at lw_m6 193 rfl) rfl
theorem q3031 : (Jvm.Cond.castable "CoinTaxes$Refused" "java/lang/Object") ∈ lw_tbl := lw_at lw_m13 61 rfl
theorem in_X9 : ∀ w ∈ wsX90, w ∈ lw_all := lw_in wsX90 [1458, 1459, 1460, 1461, 1462, 1482, 1476, 1478, 1480] (by decide +kernel) (by decide +kernel)

/-! CoinTaxes$Reader -/
set_option maxRecDepth 100000
def RX10 : String := "CoinTaxes$Reader"
def TX10 : u_T := fun k => match k with
  | 0 => ("CoinTaxes$Reader", "text", "Ljava/lang/String;", true)
  | _ => ("CoinTaxes$Reader", "at", "I", false)
def tyX10 : Nat → FieldType := fun k => match k with
  | 0 => .object "java/lang/String"
  | _ => .int
abbrev wsX100 : List Cond := u_ws RX10 TX10 2
theorem nmX10 : ∀ a, a < 2 → ∀ b, b < 2 → a ≠ b → (TX10 a).2.1 ≠ (TX10 b).2.1 := by decide +kernel
theorem tyX10_ok : ∀ k, k < 2 → parseFieldDescriptor (TX10 k).2.2.1 = some (tyX10 k) := by decide +kernel
abbrev cX10_init : ByteArray := prog_8_method_1_code
def yX10_init : MethodName := ⟨RX10, "<init>", "(Ljava/lang/String;)V"⟩
def dkwX10_init_0 : List UInt8 := [42, 183, 0, 1, 42, 43, 181, 0, 7, 177]
abbrev dktX10_init_0 : List UInt8 := dkwX10_init_0 ++ []
theorem dksX10_init_0 : cX10_init.data.toList.drop 0 = dktX10_init_0 := by decide +kernel
theorem dX10_init_0 : decode cX10_init 0 = .ok (.aload_n 0, 1) := dk_42 (dk_at dksX10_init_0 0 rfl rfl)
theorem dX10_init_1 : decode cX10_init 1 = .ok (.invokespecial 1, 3) := dk_183 0 1 (dk_at dksX10_init_0 1 rfl rfl)
theorem dX10_init_4 : decode cX10_init 4 = .ok (.aload_n 0, 1) := dk_42 (dk_at dksX10_init_0 4 rfl rfl)
theorem dX10_init_5 : decode cX10_init 5 = .ok (.aload_n 1, 1) := dk_43 (dk_at dksX10_init_0 5 rfl rfl)
theorem dX10_init_6 : decode cX10_init 6 = .ok (.putfield 7, 3) := dk_181 0 7 (dk_at dksX10_init_0 6 rfl rfl)
theorem dX10_init_9 : decode cX10_init 9 = .ok (.return_, 1) := dk_177 (dk_at dksX10_init_0 9 rfl rfl)
abbrev cX10_whole : ByteArray := prog_8_method_16_code
def yX10_whole : MethodName := ⟨RX10, "whole", "()Ljava/util/List;"⟩
def dkwX10_whole_2 : List UInt8 := [167, 0, 4, 3, 182, 0, 40, 43, 176]
abbrev dktX10_whole_2 : List UInt8 := dkwX10_whole_2 ++ []
def dkwX10_whole_1 : List UInt8 := [182, 0, 36, 154, 255, 239, 42, 42, 180, 0, 13, 42, 180, 0, 7, 182, 0, 17, 160, 0, 7, 4]
abbrev dktX10_whole_1 : List UInt8 := dkwX10_whole_1 ++ dktX10_whole_2
def dkwX10_whole_0 : List UInt8 := [187, 0, 119, 89, 183, 0, 121, 76, 43, 42, 182, 0, 122, 185, 0, 125, 2, 0, 87, 42, 16, 59]
abbrev dktX10_whole_0 : List UInt8 := dkwX10_whole_0 ++ dktX10_whole_1
theorem dksX10_whole_0 : cX10_whole.data.toList.drop 0 = dktX10_whole_0 := by decide +kernel
theorem dksX10_whole_1 : cX10_whole.data.toList.drop 22 = dktX10_whole_1 := dk_seg dksX10_whole_0 22 rfl rfl
theorem dksX10_whole_2 : cX10_whole.data.toList.drop 44 = dktX10_whole_2 := dk_seg dksX10_whole_1 22 rfl rfl
theorem dX10_whole_0 : decode cX10_whole 0 = .ok (.new 119, 3) := dk_187 0 119 (dk_at dksX10_whole_0 0 rfl rfl)
theorem dX10_whole_3 : decode cX10_whole 3 = .ok (.dup, 1) := dk_89 (dk_at dksX10_whole_0 3 rfl rfl)
theorem dX10_whole_4 : decode cX10_whole 4 = .ok (.invokespecial 121, 3) := dk_183 0 121 (dk_at dksX10_whole_0 4 rfl rfl)
theorem dX10_whole_7 : decode cX10_whole 7 = .ok (.astore_n 1, 1) := dk_76 (dk_at dksX10_whole_0 7 rfl rfl)
theorem dX10_whole_8 : decode cX10_whole 8 = .ok (.aload_n 1, 1) := dk_43 (dk_at dksX10_whole_0 8 rfl rfl)
theorem dX10_whole_9 : decode cX10_whole 9 = .ok (.aload_n 0, 1) := dk_42 (dk_at dksX10_whole_0 9 rfl rfl)
theorem dX10_whole_10 : decode cX10_whole 10 = .ok (.invokevirtual 122, 3) := dk_182 0 122 (dk_at dksX10_whole_0 10 rfl rfl)
theorem dX10_whole_13 : decode cX10_whole 13 = .ok (.invokeinterface 125 2, 5) := by decide +kernel
theorem dX10_whole_18 : decode cX10_whole 18 = .ok (.pop, 1) := dk_87 (dk_at dksX10_whole_0 18 rfl rfl)
theorem dX10_whole_19 : decode cX10_whole 19 = .ok (.aload_n 0, 1) := dk_42 (dk_at dksX10_whole_0 19 rfl rfl)
theorem dX10_whole_20 : decode cX10_whole 20 = .ok (.bipush 59, 2) := dk_16 59 (dk_at dksX10_whole_0 20 rfl rfl)
theorem dX10_whole_22 : decode cX10_whole 22 = .ok (.invokevirtual 36, 3) := dk_182 0 36 (dk_at dksX10_whole_1 0 rfl rfl)
theorem dX10_whole_25 : decode cX10_whole 25 = .ok (.ifCond .ne (-17), 3) := dk_154 255 239 (dk_at dksX10_whole_1 3 rfl rfl)
theorem dX10_whole_28 : decode cX10_whole 28 = .ok (.aload_n 0, 1) := dk_42 (dk_at dksX10_whole_1 6 rfl rfl)
theorem dX10_whole_29 : decode cX10_whole 29 = .ok (.aload_n 0, 1) := dk_42 (dk_at dksX10_whole_1 7 rfl rfl)
theorem dX10_whole_30 : decode cX10_whole 30 = .ok (.getfield 13, 3) := dk_180 0 13 (dk_at dksX10_whole_1 8 rfl rfl)
theorem dX10_whole_33 : decode cX10_whole 33 = .ok (.aload_n 0, 1) := dk_42 (dk_at dksX10_whole_1 11 rfl rfl)
theorem dX10_whole_34 : decode cX10_whole 34 = .ok (.getfield 7, 3) := dk_180 0 7 (dk_at dksX10_whole_1 12 rfl rfl)
theorem dX10_whole_37 : decode cX10_whole 37 = .ok (.invokevirtual 17, 3) := dk_182 0 17 (dk_at dksX10_whole_1 15 rfl rfl)
theorem dX10_whole_40 : decode cX10_whole 40 = .ok (.if_icmp .ne 7, 3) := dk_160 0 7 (dk_at dksX10_whole_1 18 rfl rfl)
theorem dX10_whole_43 : decode cX10_whole 43 = .ok (.iconst 1, 1) := dk_4 (dk_at dksX10_whole_1 21 rfl rfl)
theorem dX10_whole_44 : decode cX10_whole 44 = .ok (.goto 4, 3) := dk_167 0 4 (dk_at dksX10_whole_2 0 rfl rfl)
theorem dX10_whole_47 : decode cX10_whole 47 = .ok (.iconst 0, 1) := dk_3 (dk_at dksX10_whole_2 3 rfl rfl)
theorem dX10_whole_48 : decode cX10_whole 48 = .ok (.invokevirtual 40, 3) := dk_182 0 40 (dk_at dksX10_whole_2 4 rfl rfl)
theorem dX10_whole_51 : decode cX10_whole 51 = .ok (.aload_n 1, 1) := dk_43 (dk_at dksX10_whole_2 7 rfl rfl)
theorem dX10_whole_52 : decode cX10_whole 52 = .ok (.areturn, 1) := dk_176 (dk_at dksX10_whole_2 8 rfl rfl)
abbrev cX10_order : ByteArray := prog_8_method_15_code
def yX10_order : MethodName := ⟨RX10, "order", "()LCoinTaxes$Order;"⟩
def dkwX10_order_4 : List UInt8 := [183, 0, 78, 176, 42, 18, 117, 182, 0, 47, 187, 0, 65, 89, 18, 117, 3, 3, 3, 183, 0, 78, 176]
abbrev dktX10_order_4 : List UInt8 := dkwX10_order_4 ++ []
def dkwX10_order_3 : List UInt8 := [16, 100, 182, 0, 36, 153, 0, 21, 187, 0, 65, 89, 18, 113, 42, 18, 115, 182, 0, 56, 3, 3]
abbrev dktX10_order_3 : List UInt8 := dkwX10_order_3 ++ dktX10_order_4
def dkwX10_order_2 : List UInt8 := [153, 0, 8, 42, 182, 0, 107, 176, 42, 16, 114, 182, 0, 36, 153, 0, 8, 42, 182, 0, 110, 176, 42]
abbrev dktX10_order_2 : List UInt8 := dkwX10_order_2 ++ dktX10_order_3
def dkwX10_order_1 : List UInt8 := [182, 0, 101, 176, 42, 16, 112, 182, 0, 36, 153, 0, 8, 42, 182, 0, 104, 176, 42, 16, 98, 182, 0, 36]
abbrev dktX10_order_1 : List UInt8 := dkwX10_order_1 ++ dktX10_order_2
def dkwX10_order_0 : List UInt8 := [42, 16, 101, 182, 0, 36, 153, 0, 8, 42, 182, 0, 97, 176, 42, 16, 99, 182, 0, 36, 153, 0, 8, 42]
abbrev dktX10_order_0 : List UInt8 := dkwX10_order_0 ++ dktX10_order_1
theorem dksX10_order_0 : cX10_order.data.toList.drop 0 = dktX10_order_0 := by decide +kernel
theorem dksX10_order_1 : cX10_order.data.toList.drop 24 = dktX10_order_1 := dk_seg dksX10_order_0 24 rfl rfl
theorem dksX10_order_2 : cX10_order.data.toList.drop 48 = dktX10_order_2 := dk_seg dksX10_order_1 24 rfl rfl
theorem dksX10_order_3 : cX10_order.data.toList.drop 71 = dktX10_order_3 := dk_seg dksX10_order_2 23 rfl rfl
theorem dksX10_order_4 : cX10_order.data.toList.drop 93 = dktX10_order_4 := dk_seg dksX10_order_3 22 rfl rfl
theorem dX10_order_0 : decode cX10_order 0 = .ok (.aload_n 0, 1) := dk_42 (dk_at dksX10_order_0 0 rfl rfl)
theorem dX10_order_1 : decode cX10_order 1 = .ok (.bipush 101, 2) := dk_16 101 (dk_at dksX10_order_0 1 rfl rfl)
theorem dX10_order_3 : decode cX10_order 3 = .ok (.invokevirtual 36, 3) := dk_182 0 36 (dk_at dksX10_order_0 3 rfl rfl)
theorem dX10_order_6 : decode cX10_order 6 = .ok (.ifCond .eq 8, 3) := dk_153 0 8 (dk_at dksX10_order_0 6 rfl rfl)
theorem dX10_order_9 : decode cX10_order 9 = .ok (.aload_n 0, 1) := dk_42 (dk_at dksX10_order_0 9 rfl rfl)
theorem dX10_order_10 : decode cX10_order 10 = .ok (.invokevirtual 97, 3) := dk_182 0 97 (dk_at dksX10_order_0 10 rfl rfl)
theorem dX10_order_13 : decode cX10_order 13 = .ok (.areturn, 1) := dk_176 (dk_at dksX10_order_0 13 rfl rfl)
theorem dX10_order_14 : decode cX10_order 14 = .ok (.aload_n 0, 1) := dk_42 (dk_at dksX10_order_0 14 rfl rfl)
theorem dX10_order_15 : decode cX10_order 15 = .ok (.bipush 99, 2) := dk_16 99 (dk_at dksX10_order_0 15 rfl rfl)
theorem dX10_order_17 : decode cX10_order 17 = .ok (.invokevirtual 36, 3) := dk_182 0 36 (dk_at dksX10_order_0 17 rfl rfl)
theorem dX10_order_20 : decode cX10_order 20 = .ok (.ifCond .eq 8, 3) := dk_153 0 8 (dk_at dksX10_order_0 20 rfl rfl)
theorem dX10_order_23 : decode cX10_order 23 = .ok (.aload_n 0, 1) := dk_42 (dk_at dksX10_order_0 23 rfl rfl)
theorem dX10_order_24 : decode cX10_order 24 = .ok (.invokevirtual 101, 3) := dk_182 0 101 (dk_at dksX10_order_1 0 rfl rfl)
theorem dX10_order_27 : decode cX10_order 27 = .ok (.areturn, 1) := dk_176 (dk_at dksX10_order_1 3 rfl rfl)
theorem dX10_order_28 : decode cX10_order 28 = .ok (.aload_n 0, 1) := dk_42 (dk_at dksX10_order_1 4 rfl rfl)
theorem dX10_order_29 : decode cX10_order 29 = .ok (.bipush 112, 2) := dk_16 112 (dk_at dksX10_order_1 5 rfl rfl)
theorem dX10_order_31 : decode cX10_order 31 = .ok (.invokevirtual 36, 3) := dk_182 0 36 (dk_at dksX10_order_1 7 rfl rfl)
theorem dX10_order_34 : decode cX10_order 34 = .ok (.ifCond .eq 8, 3) := dk_153 0 8 (dk_at dksX10_order_1 10 rfl rfl)
theorem dX10_order_37 : decode cX10_order 37 = .ok (.aload_n 0, 1) := dk_42 (dk_at dksX10_order_1 13 rfl rfl)
theorem dX10_order_38 : decode cX10_order 38 = .ok (.invokevirtual 104, 3) := dk_182 0 104 (dk_at dksX10_order_1 14 rfl rfl)
theorem dX10_order_41 : decode cX10_order 41 = .ok (.areturn, 1) := dk_176 (dk_at dksX10_order_1 17 rfl rfl)
theorem dX10_order_42 : decode cX10_order 42 = .ok (.aload_n 0, 1) := dk_42 (dk_at dksX10_order_1 18 rfl rfl)
theorem dX10_order_43 : decode cX10_order 43 = .ok (.bipush 98, 2) := dk_16 98 (dk_at dksX10_order_1 19 rfl rfl)
theorem dX10_order_45 : decode cX10_order 45 = .ok (.invokevirtual 36, 3) := dk_182 0 36 (dk_at dksX10_order_1 21 rfl rfl)
theorem dX10_order_48 : decode cX10_order 48 = .ok (.ifCond .eq 8, 3) := dk_153 0 8 (dk_at dksX10_order_2 0 rfl rfl)
theorem dX10_order_51 : decode cX10_order 51 = .ok (.aload_n 0, 1) := dk_42 (dk_at dksX10_order_2 3 rfl rfl)
theorem dX10_order_52 : decode cX10_order 52 = .ok (.invokevirtual 107, 3) := dk_182 0 107 (dk_at dksX10_order_2 4 rfl rfl)
theorem dX10_order_55 : decode cX10_order 55 = .ok (.areturn, 1) := dk_176 (dk_at dksX10_order_2 7 rfl rfl)
theorem dX10_order_56 : decode cX10_order 56 = .ok (.aload_n 0, 1) := dk_42 (dk_at dksX10_order_2 8 rfl rfl)
theorem dX10_order_57 : decode cX10_order 57 = .ok (.bipush 114, 2) := dk_16 114 (dk_at dksX10_order_2 9 rfl rfl)
theorem dX10_order_59 : decode cX10_order 59 = .ok (.invokevirtual 36, 3) := dk_182 0 36 (dk_at dksX10_order_2 11 rfl rfl)
theorem dX10_order_62 : decode cX10_order 62 = .ok (.ifCond .eq 8, 3) := dk_153 0 8 (dk_at dksX10_order_2 14 rfl rfl)
theorem dX10_order_65 : decode cX10_order 65 = .ok (.aload_n 0, 1) := dk_42 (dk_at dksX10_order_2 17 rfl rfl)
theorem dX10_order_66 : decode cX10_order 66 = .ok (.invokevirtual 110, 3) := dk_182 0 110 (dk_at dksX10_order_2 18 rfl rfl)
theorem dX10_order_69 : decode cX10_order 69 = .ok (.areturn, 1) := dk_176 (dk_at dksX10_order_2 21 rfl rfl)
theorem dX10_order_70 : decode cX10_order 70 = .ok (.aload_n 0, 1) := dk_42 (dk_at dksX10_order_2 22 rfl rfl)
theorem dX10_order_71 : decode cX10_order 71 = .ok (.bipush 100, 2) := dk_16 100 (dk_at dksX10_order_3 0 rfl rfl)
theorem dX10_order_73 : decode cX10_order 73 = .ok (.invokevirtual 36, 3) := dk_182 0 36 (dk_at dksX10_order_3 2 rfl rfl)
theorem dX10_order_76 : decode cX10_order 76 = .ok (.ifCond .eq 21, 3) := dk_153 0 21 (dk_at dksX10_order_3 5 rfl rfl)
theorem dX10_order_79 : decode cX10_order 79 = .ok (.new 65, 3) := dk_187 0 65 (dk_at dksX10_order_3 8 rfl rfl)
theorem dX10_order_82 : decode cX10_order 82 = .ok (.dup, 1) := dk_89 (dk_at dksX10_order_3 11 rfl rfl)
theorem dX10_order_83 : decode cX10_order 83 = .ok (.ldc 113, 2) := dk_18 113 (dk_at dksX10_order_3 12 rfl rfl)
theorem dX10_order_85 : decode cX10_order 85 = .ok (.aload_n 0, 1) := dk_42 (dk_at dksX10_order_3 14 rfl rfl)
theorem dX10_order_86 : decode cX10_order 86 = .ok (.ldc 115, 2) := dk_18 115 (dk_at dksX10_order_3 15 rfl rfl)
theorem dX10_order_88 : decode cX10_order 88 = .ok (.invokevirtual 56, 3) := dk_182 0 56 (dk_at dksX10_order_3 17 rfl rfl)
theorem dX10_order_91 : decode cX10_order 91 = .ok (.iconst 0, 1) := dk_3 (dk_at dksX10_order_3 20 rfl rfl)
theorem dX10_order_92 : decode cX10_order 92 = .ok (.iconst 0, 1) := dk_3 (dk_at dksX10_order_3 21 rfl rfl)
theorem dX10_order_93 : decode cX10_order 93 = .ok (.invokespecial 78, 3) := dk_183 0 78 (dk_at dksX10_order_4 0 rfl rfl)
theorem dX10_order_96 : decode cX10_order 96 = .ok (.areturn, 1) := dk_176 (dk_at dksX10_order_4 3 rfl rfl)
theorem dX10_order_97 : decode cX10_order 97 = .ok (.aload_n 0, 1) := dk_42 (dk_at dksX10_order_4 4 rfl rfl)
theorem dX10_order_98 : decode cX10_order 98 = .ok (.ldc 117, 2) := dk_18 117 (dk_at dksX10_order_4 5 rfl rfl)
theorem dX10_order_100 : decode cX10_order 100 = .ok (.invokevirtual 47, 3) := dk_182 0 47 (dk_at dksX10_order_4 7 rfl rfl)
theorem dX10_order_103 : decode cX10_order 103 = .ok (.new 65, 3) := dk_187 0 65 (dk_at dksX10_order_4 10 rfl rfl)
theorem dX10_order_106 : decode cX10_order 106 = .ok (.dup, 1) := dk_89 (dk_at dksX10_order_4 13 rfl rfl)
theorem dX10_order_107 : decode cX10_order 107 = .ok (.ldc 117, 2) := dk_18 117 (dk_at dksX10_order_4 14 rfl rfl)
theorem dX10_order_109 : decode cX10_order 109 = .ok (.iconst 0, 1) := dk_3 (dk_at dksX10_order_4 16 rfl rfl)
theorem dX10_order_110 : decode cX10_order 110 = .ok (.iconst 0, 1) := dk_3 (dk_at dksX10_order_4 17 rfl rfl)
theorem dX10_order_111 : decode cX10_order 111 = .ok (.iconst 0, 1) := dk_3 (dk_at dksX10_order_4 18 rfl rfl)
theorem dX10_order_112 : decode cX10_order 112 = .ok (.invokespecial 78, 3) := dk_183 0 78 (dk_at dksX10_order_4 19 rfl rfl)
theorem dX10_order_115 : decode cX10_order 115 = .ok (.areturn, 1) := dk_176 (dk_at dksX10_order_4 22 rfl rfl)
abbrev cX10_passes : ByteArray := prog_8_method_3_code
def yX10_passes : MethodName := ⟨RX10, "passes", "(C)Z"⟩
def dkwX10_passes_1 : List UInt8 := [181, 0, 13, 28, 172]
abbrev dktX10_passes_1 : List UInt8 := dkwX10_passes_1 ++ []
def dkwX10_passes_0 : List UInt8 := [42, 27, 27, 182, 0, 27, 61, 42, 89, 180, 0, 13, 28, 153, 0, 7, 4, 167, 0, 4, 3, 96]
abbrev dktX10_passes_0 : List UInt8 := dkwX10_passes_0 ++ dktX10_passes_1
theorem dksX10_passes_0 : cX10_passes.data.toList.drop 0 = dktX10_passes_0 := by decide +kernel
theorem dksX10_passes_1 : cX10_passes.data.toList.drop 22 = dktX10_passes_1 := dk_seg dksX10_passes_0 22 rfl rfl
theorem dX10_passes_0 : decode cX10_passes 0 = .ok (.aload_n 0, 1) := dk_42 (dk_at dksX10_passes_0 0 rfl rfl)
theorem dX10_passes_1 : decode cX10_passes 1 = .ok (.iload_n 1, 1) := dk_27 (dk_at dksX10_passes_0 1 rfl rfl)
theorem dX10_passes_2 : decode cX10_passes 2 = .ok (.iload_n 1, 1) := dk_27 (dk_at dksX10_passes_0 2 rfl rfl)
theorem dX10_passes_3 : decode cX10_passes 3 = .ok (.invokevirtual 27, 3) := dk_182 0 27 (dk_at dksX10_passes_0 3 rfl rfl)
theorem dX10_passes_6 : decode cX10_passes 6 = .ok (.istore_n 2, 1) := dk_61 (dk_at dksX10_passes_0 6 rfl rfl)
theorem dX10_passes_7 : decode cX10_passes 7 = .ok (.aload_n 0, 1) := dk_42 (dk_at dksX10_passes_0 7 rfl rfl)
theorem dX10_passes_8 : decode cX10_passes 8 = .ok (.dup, 1) := dk_89 (dk_at dksX10_passes_0 8 rfl rfl)
theorem dX10_passes_9 : decode cX10_passes 9 = .ok (.getfield 13, 3) := dk_180 0 13 (dk_at dksX10_passes_0 9 rfl rfl)
theorem dX10_passes_12 : decode cX10_passes 12 = .ok (.iload_n 2, 1) := dk_28 (dk_at dksX10_passes_0 12 rfl rfl)
theorem dX10_passes_13 : decode cX10_passes 13 = .ok (.ifCond .eq 7, 3) := dk_153 0 7 (dk_at dksX10_passes_0 13 rfl rfl)
theorem dX10_passes_16 : decode cX10_passes 16 = .ok (.iconst 1, 1) := dk_4 (dk_at dksX10_passes_0 16 rfl rfl)
theorem dX10_passes_17 : decode cX10_passes 17 = .ok (.goto 4, 3) := dk_167 0 4 (dk_at dksX10_passes_0 17 rfl rfl)
theorem dX10_passes_20 : decode cX10_passes 20 = .ok (.iconst 0, 1) := dk_3 (dk_at dksX10_passes_0 20 rfl rfl)
theorem dX10_passes_21 : decode cX10_passes 21 = .ok (.iadd, 1) := dk_96 (dk_at dksX10_passes_0 21 rfl rfl)
theorem dX10_passes_22 : decode cX10_passes 22 = .ok (.putfield 13, 3) := dk_181 0 13 (dk_at dksX10_passes_1 0 rfl rfl)
theorem dX10_passes_25 : decode cX10_passes 25 = .ok (.iload_n 2, 1) := dk_28 (dk_at dksX10_passes_1 3 rfl rfl)
theorem dX10_passes_26 : decode cX10_passes 26 = .ok (.ireturn, 1) := dk_172 (dk_at dksX10_passes_1 4 rfl rfl)
abbrev cX10_isNext : ByteArray := prog_8_method_2_code
def yX10_isNext : MethodName := ⟨RX10, "isNext", "(CC)Z"⟩
def dkwX10_isNext_2 : List UInt8 := [167, 0, 4, 3, 172]
abbrev dktX10_isNext_2 : List UInt8 := dkwX10_isNext_2 ++ []
def dkwX10_isNext_1 : List UInt8 := [182, 0, 23, 163, 0, 22, 42, 180, 0, 7, 42, 180, 0, 13, 182, 0, 23, 28, 163, 0, 7, 4]
abbrev dktX10_isNext_1 : List UInt8 := dkwX10_isNext_1 ++ dktX10_isNext_2
def dkwX10_isNext_0 : List UInt8 := [42, 180, 0, 13, 42, 180, 0, 7, 182, 0, 17, 162, 0, 37, 27, 42, 180, 0, 7, 42, 180, 0, 13]
abbrev dktX10_isNext_0 : List UInt8 := dkwX10_isNext_0 ++ dktX10_isNext_1
theorem dksX10_isNext_0 : cX10_isNext.data.toList.drop 0 = dktX10_isNext_0 := by decide +kernel
theorem dksX10_isNext_1 : cX10_isNext.data.toList.drop 23 = dktX10_isNext_1 := dk_seg dksX10_isNext_0 23 rfl rfl
theorem dksX10_isNext_2 : cX10_isNext.data.toList.drop 45 = dktX10_isNext_2 := dk_seg dksX10_isNext_1 22 rfl rfl
theorem dX10_isNext_0 : decode cX10_isNext 0 = .ok (.aload_n 0, 1) := dk_42 (dk_at dksX10_isNext_0 0 rfl rfl)
theorem dX10_isNext_1 : decode cX10_isNext 1 = .ok (.getfield 13, 3) := dk_180 0 13 (dk_at dksX10_isNext_0 1 rfl rfl)
theorem dX10_isNext_4 : decode cX10_isNext 4 = .ok (.aload_n 0, 1) := dk_42 (dk_at dksX10_isNext_0 4 rfl rfl)
theorem dX10_isNext_5 : decode cX10_isNext 5 = .ok (.getfield 7, 3) := dk_180 0 7 (dk_at dksX10_isNext_0 5 rfl rfl)
theorem dX10_isNext_8 : decode cX10_isNext 8 = .ok (.invokevirtual 17, 3) := dk_182 0 17 (dk_at dksX10_isNext_0 8 rfl rfl)
theorem dX10_isNext_11 : decode cX10_isNext 11 = .ok (.if_icmp .ge 37, 3) := dk_162 0 37 (dk_at dksX10_isNext_0 11 rfl rfl)
theorem dX10_isNext_14 : decode cX10_isNext 14 = .ok (.iload_n 1, 1) := dk_27 (dk_at dksX10_isNext_0 14 rfl rfl)
theorem dX10_isNext_15 : decode cX10_isNext 15 = .ok (.aload_n 0, 1) := dk_42 (dk_at dksX10_isNext_0 15 rfl rfl)
theorem dX10_isNext_16 : decode cX10_isNext 16 = .ok (.getfield 7, 3) := dk_180 0 7 (dk_at dksX10_isNext_0 16 rfl rfl)
theorem dX10_isNext_19 : decode cX10_isNext 19 = .ok (.aload_n 0, 1) := dk_42 (dk_at dksX10_isNext_0 19 rfl rfl)
theorem dX10_isNext_20 : decode cX10_isNext 20 = .ok (.getfield 13, 3) := dk_180 0 13 (dk_at dksX10_isNext_0 20 rfl rfl)
theorem dX10_isNext_23 : decode cX10_isNext 23 = .ok (.invokevirtual 23, 3) := dk_182 0 23 (dk_at dksX10_isNext_1 0 rfl rfl)
theorem dX10_isNext_26 : decode cX10_isNext 26 = .ok (.if_icmp .gt 22, 3) := dk_163 0 22 (dk_at dksX10_isNext_1 3 rfl rfl)
theorem dX10_isNext_29 : decode cX10_isNext 29 = .ok (.aload_n 0, 1) := dk_42 (dk_at dksX10_isNext_1 6 rfl rfl)
theorem dX10_isNext_30 : decode cX10_isNext 30 = .ok (.getfield 7, 3) := dk_180 0 7 (dk_at dksX10_isNext_1 7 rfl rfl)
theorem dX10_isNext_33 : decode cX10_isNext 33 = .ok (.aload_n 0, 1) := dk_42 (dk_at dksX10_isNext_1 10 rfl rfl)
theorem dX10_isNext_34 : decode cX10_isNext 34 = .ok (.getfield 13, 3) := dk_180 0 13 (dk_at dksX10_isNext_1 11 rfl rfl)
theorem dX10_isNext_37 : decode cX10_isNext 37 = .ok (.invokevirtual 23, 3) := dk_182 0 23 (dk_at dksX10_isNext_1 14 rfl rfl)
theorem dX10_isNext_40 : decode cX10_isNext 40 = .ok (.iload_n 2, 1) := dk_28 (dk_at dksX10_isNext_1 17 rfl rfl)
theorem dX10_isNext_41 : decode cX10_isNext 41 = .ok (.if_icmp .gt 7, 3) := dk_163 0 7 (dk_at dksX10_isNext_1 18 rfl rfl)
theorem dX10_isNext_44 : decode cX10_isNext 44 = .ok (.iconst 1, 1) := dk_4 (dk_at dksX10_isNext_1 21 rfl rfl)
theorem dX10_isNext_45 : decode cX10_isNext 45 = .ok (.goto 4, 3) := dk_167 0 4 (dk_at dksX10_isNext_2 0 rfl rfl)
theorem dX10_isNext_48 : decode cX10_isNext 48 = .ok (.iconst 0, 1) := dk_3 (dk_at dksX10_isNext_2 3 rfl rfl)
theorem dX10_isNext_49 : decode cX10_isNext 49 = .ok (.ireturn, 1) := dk_172 (dk_at dksX10_isNext_2 4 rfl rfl)
abbrev cX10_earning : ByteArray := prog_8_method_11_code
def yX10_earning : MethodName := ⟨RX10, "earning", "()LCoinTaxes$Order;"⟩
def dkwX10_earning_1 : List UInt8 := [176]
abbrev dktX10_earning_1 : List UInt8 := dkwX10_earning_1 ++ []
def dkwX10_earning_0 : List UInt8 := [42, 18, 81, 182, 0, 56, 60, 187, 0, 65, 89, 18, 83, 27, 42, 18, 60, 182, 0, 62, 3, 183, 0, 78]
abbrev dktX10_earning_0 : List UInt8 := dkwX10_earning_0 ++ dktX10_earning_1
theorem dksX10_earning_0 : cX10_earning.data.toList.drop 0 = dktX10_earning_0 := by decide +kernel
theorem dksX10_earning_1 : cX10_earning.data.toList.drop 24 = dktX10_earning_1 := dk_seg dksX10_earning_0 24 rfl rfl
theorem dX10_earning_0 : decode cX10_earning 0 = .ok (.aload_n 0, 1) := dk_42 (dk_at dksX10_earning_0 0 rfl rfl)
theorem dX10_earning_1 : decode cX10_earning 1 = .ok (.ldc 81, 2) := dk_18 81 (dk_at dksX10_earning_0 1 rfl rfl)
theorem dX10_earning_3 : decode cX10_earning 3 = .ok (.invokevirtual 56, 3) := dk_182 0 56 (dk_at dksX10_earning_0 3 rfl rfl)
theorem dX10_earning_6 : decode cX10_earning 6 = .ok (.istore_n 1, 1) := dk_60 (dk_at dksX10_earning_0 6 rfl rfl)
theorem dX10_earning_7 : decode cX10_earning 7 = .ok (.new 65, 3) := dk_187 0 65 (dk_at dksX10_earning_0 7 rfl rfl)
theorem dX10_earning_10 : decode cX10_earning 10 = .ok (.dup, 1) := dk_89 (dk_at dksX10_earning_0 10 rfl rfl)
theorem dX10_earning_11 : decode cX10_earning 11 = .ok (.ldc 83, 2) := dk_18 83 (dk_at dksX10_earning_0 11 rfl rfl)
theorem dX10_earning_13 : decode cX10_earning 13 = .ok (.iload_n 1, 1) := dk_27 (dk_at dksX10_earning_0 13 rfl rfl)
theorem dX10_earning_14 : decode cX10_earning 14 = .ok (.aload_n 0, 1) := dk_42 (dk_at dksX10_earning_0 14 rfl rfl)
theorem dX10_earning_15 : decode cX10_earning 15 = .ok (.ldc 60, 2) := dk_18 60 (dk_at dksX10_earning_0 15 rfl rfl)
theorem dX10_earning_17 : decode cX10_earning 17 = .ok (.invokevirtual 62, 3) := dk_182 0 62 (dk_at dksX10_earning_0 17 rfl rfl)
theorem dX10_earning_20 : decode cX10_earning 20 = .ok (.iconst 0, 1) := dk_3 (dk_at dksX10_earning_0 20 rfl rfl)
theorem dX10_earning_21 : decode cX10_earning 21 = .ok (.invokespecial 78, 3) := dk_183 0 78 (dk_at dksX10_earning_0 21 rfl rfl)
theorem dX10_earning_24 : decode cX10_earning 24 = .ok (.areturn, 1) := dk_176 (dk_at dksX10_earning_1 0 rfl rfl)
abbrev cX10_digitBehind : ByteArray := prog_8_method_8_code
def yX10_digitBehind : MethodName := ⟨RX10, "digitBehind", "(Ljava/lang/String;)I"⟩
def dkwX10_digitBehind_0 : List UInt8 := [42, 43, 182, 0, 47, 42, 182, 0, 44, 172]
abbrev dktX10_digitBehind_0 : List UInt8 := dkwX10_digitBehind_0 ++ []
theorem dksX10_digitBehind_0 : cX10_digitBehind.data.toList.drop 0 = dktX10_digitBehind_0 := by decide +kernel
theorem dX10_digitBehind_0 : decode cX10_digitBehind 0 = .ok (.aload_n 0, 1) := dk_42 (dk_at dksX10_digitBehind_0 0 rfl rfl)
theorem dX10_digitBehind_1 : decode cX10_digitBehind 1 = .ok (.aload_n 1, 1) := dk_43 (dk_at dksX10_digitBehind_0 1 rfl rfl)
theorem dX10_digitBehind_2 : decode cX10_digitBehind 2 = .ok (.invokevirtual 47, 3) := dk_182 0 47 (dk_at dksX10_digitBehind_0 2 rfl rfl)
theorem dX10_digitBehind_5 : decode cX10_digitBehind 5 = .ok (.aload_n 0, 1) := dk_42 (dk_at dksX10_digitBehind_0 5 rfl rfl)
theorem dX10_digitBehind_6 : decode cX10_digitBehind 6 = .ok (.invokevirtual 44, 3) := dk_182 0 44 (dk_at dksX10_digitBehind_0 6 rfl rfl)
theorem dX10_digitBehind_9 : decode cX10_digitBehind 9 = .ok (.ireturn, 1) := dk_172 (dk_at dksX10_digitBehind_0 9 rfl rfl)
abbrev cX10_word : ByteArray := prog_8_method_5_code
def yX10_word : MethodName := ⟨RX10, "word", "(Ljava/lang/String;)V"⟩
def dkwX10_word_1 : List UInt8 := [132, 2, 1, 167, 255, 232, 177]
abbrev dktX10_word_1 : List UInt8 := dkwX10_word_1 ++ []
def dkwX10_word_0 : List UInt8 := [3, 61, 28, 43, 182, 0, 17, 162, 0, 22, 42, 42, 43, 28, 182, 0, 23, 182, 0, 36, 182, 0, 40]
abbrev dktX10_word_0 : List UInt8 := dkwX10_word_0 ++ dktX10_word_1
theorem dksX10_word_0 : cX10_word.data.toList.drop 0 = dktX10_word_0 := by decide +kernel
theorem dksX10_word_1 : cX10_word.data.toList.drop 23 = dktX10_word_1 := dk_seg dksX10_word_0 23 rfl rfl
theorem dX10_word_0 : decode cX10_word 0 = .ok (.iconst 0, 1) := dk_3 (dk_at dksX10_word_0 0 rfl rfl)
theorem dX10_word_1 : decode cX10_word 1 = .ok (.istore_n 2, 1) := dk_61 (dk_at dksX10_word_0 1 rfl rfl)
theorem dX10_word_2 : decode cX10_word 2 = .ok (.iload_n 2, 1) := dk_28 (dk_at dksX10_word_0 2 rfl rfl)
theorem dX10_word_3 : decode cX10_word 3 = .ok (.aload_n 1, 1) := dk_43 (dk_at dksX10_word_0 3 rfl rfl)
theorem dX10_word_4 : decode cX10_word 4 = .ok (.invokevirtual 17, 3) := dk_182 0 17 (dk_at dksX10_word_0 4 rfl rfl)
theorem dX10_word_7 : decode cX10_word 7 = .ok (.if_icmp .ge 22, 3) := dk_162 0 22 (dk_at dksX10_word_0 7 rfl rfl)
theorem dX10_word_10 : decode cX10_word 10 = .ok (.aload_n 0, 1) := dk_42 (dk_at dksX10_word_0 10 rfl rfl)
theorem dX10_word_11 : decode cX10_word 11 = .ok (.aload_n 0, 1) := dk_42 (dk_at dksX10_word_0 11 rfl rfl)
theorem dX10_word_12 : decode cX10_word 12 = .ok (.aload_n 1, 1) := dk_43 (dk_at dksX10_word_0 12 rfl rfl)
theorem dX10_word_13 : decode cX10_word 13 = .ok (.iload_n 2, 1) := dk_28 (dk_at dksX10_word_0 13 rfl rfl)
theorem dX10_word_14 : decode cX10_word 14 = .ok (.invokevirtual 23, 3) := dk_182 0 23 (dk_at dksX10_word_0 14 rfl rfl)
theorem dX10_word_17 : decode cX10_word 17 = .ok (.invokevirtual 36, 3) := dk_182 0 36 (dk_at dksX10_word_0 17 rfl rfl)
theorem dX10_word_20 : decode cX10_word 20 = .ok (.invokevirtual 40, 3) := dk_182 0 40 (dk_at dksX10_word_0 20 rfl rfl)
theorem dX10_word_23 : decode cX10_word 23 = .ok (.iinc 2 1, 3) := dk_132 2 1 (dk_at dksX10_word_1 0 rfl rfl)
theorem dX10_word_26 : decode cX10_word 26 = .ok (.goto (-24), 3) := dk_167 255 232 (dk_at dksX10_word_1 3 rfl rfl)
theorem dX10_word_29 : decode cX10_word 29 = .ok (.return_, 1) := dk_177 (dk_at dksX10_word_1 6 rfl rfl)
abbrev cX10_expect : ByteArray := prog_8_method_4_code
def yX10_expect : MethodName := ⟨RX10, "expect", "(Z)V"⟩
def dkwX10_expect_0 : List UInt8 := [27, 154, 0, 15, 187, 0, 31, 89, 42, 180, 0, 13, 183, 0, 33, 191, 177]
abbrev dktX10_expect_0 : List UInt8 := dkwX10_expect_0 ++ []
theorem dksX10_expect_0 : cX10_expect.data.toList.drop 0 = dktX10_expect_0 := by decide +kernel
theorem dX10_expect_0 : decode cX10_expect 0 = .ok (.iload_n 1, 1) := dk_27 (dk_at dksX10_expect_0 0 rfl rfl)
theorem dX10_expect_1 : decode cX10_expect 1 = .ok (.ifCond .ne 15, 3) := dk_154 0 15 (dk_at dksX10_expect_0 1 rfl rfl)
theorem dX10_expect_4 : decode cX10_expect 4 = .ok (.new 31, 3) := dk_187 0 31 (dk_at dksX10_expect_0 4 rfl rfl)
theorem dX10_expect_7 : decode cX10_expect 7 = .ok (.dup, 1) := dk_89 (dk_at dksX10_expect_0 7 rfl rfl)
theorem dX10_expect_8 : decode cX10_expect 8 = .ok (.aload_n 0, 1) := dk_42 (dk_at dksX10_expect_0 8 rfl rfl)
theorem dX10_expect_9 : decode cX10_expect 9 = .ok (.getfield 13, 3) := dk_180 0 13 (dk_at dksX10_expect_0 9 rfl rfl)
theorem dX10_expect_12 : decode cX10_expect 12 = .ok (.invokespecial 33, 3) := dk_183 0 33 (dk_at dksX10_expect_0 12 rfl rfl)
theorem dX10_expect_15 : decode cX10_expect 15 = .ok (.athrow, 1) := dk_191 (dk_at dksX10_expect_0 15 rfl rfl)
theorem dX10_expect_16 : decode cX10_expect 16 = .ok (.return_, 1) := dk_177 (dk_at dksX10_expect_0 16 rfl rfl)
abbrev cX10_digit : ByteArray := prog_8_method_6_code
def yX10_digit : MethodName := ⟨RX10, "digit", "()I"⟩
def dkwX10_digit_1 : List UInt8 := [180, 0, 7, 42, 180, 0, 13, 4, 100, 182, 0, 23, 16, 48, 100, 172]
abbrev dktX10_digit_1 : List UInt8 := dkwX10_digit_1 ++ []
def dkwX10_digit_0 : List UInt8 := [42, 42, 16, 48, 16, 57, 182, 0, 27, 182, 0, 40, 42, 89, 180, 0, 13, 4, 96, 181, 0, 13, 42]
abbrev dktX10_digit_0 : List UInt8 := dkwX10_digit_0 ++ dktX10_digit_1
theorem dksX10_digit_0 : cX10_digit.data.toList.drop 0 = dktX10_digit_0 := by decide +kernel
theorem dksX10_digit_1 : cX10_digit.data.toList.drop 23 = dktX10_digit_1 := dk_seg dksX10_digit_0 23 rfl rfl
theorem dX10_digit_0 : decode cX10_digit 0 = .ok (.aload_n 0, 1) := dk_42 (dk_at dksX10_digit_0 0 rfl rfl)
theorem dX10_digit_1 : decode cX10_digit 1 = .ok (.aload_n 0, 1) := dk_42 (dk_at dksX10_digit_0 1 rfl rfl)
theorem dX10_digit_2 : decode cX10_digit 2 = .ok (.bipush 48, 2) := dk_16 48 (dk_at dksX10_digit_0 2 rfl rfl)
theorem dX10_digit_4 : decode cX10_digit 4 = .ok (.bipush 57, 2) := dk_16 57 (dk_at dksX10_digit_0 4 rfl rfl)
theorem dX10_digit_6 : decode cX10_digit 6 = .ok (.invokevirtual 27, 3) := dk_182 0 27 (dk_at dksX10_digit_0 6 rfl rfl)
theorem dX10_digit_9 : decode cX10_digit 9 = .ok (.invokevirtual 40, 3) := dk_182 0 40 (dk_at dksX10_digit_0 9 rfl rfl)
theorem dX10_digit_12 : decode cX10_digit 12 = .ok (.aload_n 0, 1) := dk_42 (dk_at dksX10_digit_0 12 rfl rfl)
theorem dX10_digit_13 : decode cX10_digit 13 = .ok (.dup, 1) := dk_89 (dk_at dksX10_digit_0 13 rfl rfl)
theorem dX10_digit_14 : decode cX10_digit 14 = .ok (.getfield 13, 3) := dk_180 0 13 (dk_at dksX10_digit_0 14 rfl rfl)
theorem dX10_digit_17 : decode cX10_digit 17 = .ok (.iconst 1, 1) := dk_4 (dk_at dksX10_digit_0 17 rfl rfl)
theorem dX10_digit_18 : decode cX10_digit 18 = .ok (.iadd, 1) := dk_96 (dk_at dksX10_digit_0 18 rfl rfl)
theorem dX10_digit_19 : decode cX10_digit 19 = .ok (.putfield 13, 3) := dk_181 0 13 (dk_at dksX10_digit_0 19 rfl rfl)
theorem dX10_digit_22 : decode cX10_digit 22 = .ok (.aload_n 0, 1) := dk_42 (dk_at dksX10_digit_0 22 rfl rfl)
theorem dX10_digit_23 : decode cX10_digit 23 = .ok (.getfield 7, 3) := dk_180 0 7 (dk_at dksX10_digit_1 0 rfl rfl)
theorem dX10_digit_26 : decode cX10_digit 26 = .ok (.aload_n 0, 1) := dk_42 (dk_at dksX10_digit_1 3 rfl rfl)
theorem dX10_digit_27 : decode cX10_digit 27 = .ok (.getfield 13, 3) := dk_180 0 13 (dk_at dksX10_digit_1 4 rfl rfl)
theorem dX10_digit_30 : decode cX10_digit 30 = .ok (.iconst 1, 1) := dk_4 (dk_at dksX10_digit_1 7 rfl rfl)
theorem dX10_digit_31 : decode cX10_digit 31 = .ok (.isub, 1) := dk_100 (dk_at dksX10_digit_1 8 rfl rfl)
theorem dX10_digit_32 : decode cX10_digit 32 = .ok (.invokevirtual 23, 3) := dk_182 0 23 (dk_at dksX10_digit_1 9 rfl rfl)
theorem dX10_digit_35 : decode cX10_digit 35 = .ok (.bipush 48, 2) := dk_16 48 (dk_at dksX10_digit_1 12 rfl rfl)
theorem dX10_digit_37 : decode cX10_digit 37 = .ok (.isub, 1) := dk_100 (dk_at dksX10_digit_1 14 rfl rfl)
theorem dX10_digit_38 : decode cX10_digit 38 = .ok (.ireturn, 1) := dk_172 (dk_at dksX10_digit_1 15 rfl rfl)
abbrev cX10_numberBehind : ByteArray := prog_8_method_9_code
def yX10_numberBehind : MethodName := ⟨RX10, "numberBehind", "(Ljava/lang/String;)I"⟩
def dkwX10_numberBehind_0 : List UInt8 := [42, 43, 182, 0, 47, 42, 182, 0, 51, 172]
abbrev dktX10_numberBehind_0 : List UInt8 := dkwX10_numberBehind_0 ++ []
theorem dksX10_numberBehind_0 : cX10_numberBehind.data.toList.drop 0 = dktX10_numberBehind_0 := by decide +kernel
theorem dX10_numberBehind_0 : decode cX10_numberBehind 0 = .ok (.aload_n 0, 1) := dk_42 (dk_at dksX10_numberBehind_0 0 rfl rfl)
theorem dX10_numberBehind_1 : decode cX10_numberBehind 1 = .ok (.aload_n 1, 1) := dk_43 (dk_at dksX10_numberBehind_0 1 rfl rfl)
theorem dX10_numberBehind_2 : decode cX10_numberBehind 2 = .ok (.invokevirtual 47, 3) := dk_182 0 47 (dk_at dksX10_numberBehind_0 2 rfl rfl)
theorem dX10_numberBehind_5 : decode cX10_numberBehind 5 = .ok (.aload_n 0, 1) := dk_42 (dk_at dksX10_numberBehind_0 5 rfl rfl)
theorem dX10_numberBehind_6 : decode cX10_numberBehind 6 = .ok (.invokevirtual 51, 3) := dk_182 0 51 (dk_at dksX10_numberBehind_0 6 rfl rfl)
theorem dX10_numberBehind_9 : decode cX10_numberBehind 9 = .ok (.ireturn, 1) := dk_172 (dk_at dksX10_numberBehind_0 9 rfl rfl)
abbrev cX10_number : ByteArray := prog_8_method_7_code
def yX10_number : MethodName := ⟨RX10, "number", "()I"⟩
def dkwX10_number_1 : List UInt8 := [16, 10, 27, 104, 42, 182, 0, 44, 96, 60, 132, 2, 1, 167, 255, 227, 27, 172]
abbrev dktX10_number_1 : List UInt8 := dkwX10_number_1 ++ []
def dkwX10_number_0 : List UInt8 := [42, 182, 0, 44, 60, 4, 61, 28, 7, 162, 0, 30, 42, 16, 48, 16, 57, 182, 0, 27, 153, 0, 19]
abbrev dktX10_number_0 : List UInt8 := dkwX10_number_0 ++ dktX10_number_1
theorem dksX10_number_0 : cX10_number.data.toList.drop 0 = dktX10_number_0 := by decide +kernel
theorem dksX10_number_1 : cX10_number.data.toList.drop 23 = dktX10_number_1 := dk_seg dksX10_number_0 23 rfl rfl
theorem dX10_number_0 : decode cX10_number 0 = .ok (.aload_n 0, 1) := dk_42 (dk_at dksX10_number_0 0 rfl rfl)
theorem dX10_number_1 : decode cX10_number 1 = .ok (.invokevirtual 44, 3) := dk_182 0 44 (dk_at dksX10_number_0 1 rfl rfl)
theorem dX10_number_4 : decode cX10_number 4 = .ok (.istore_n 1, 1) := dk_60 (dk_at dksX10_number_0 4 rfl rfl)
theorem dX10_number_5 : decode cX10_number 5 = .ok (.iconst 1, 1) := dk_4 (dk_at dksX10_number_0 5 rfl rfl)
theorem dX10_number_6 : decode cX10_number 6 = .ok (.istore_n 2, 1) := dk_61 (dk_at dksX10_number_0 6 rfl rfl)
theorem dX10_number_7 : decode cX10_number 7 = .ok (.iload_n 2, 1) := dk_28 (dk_at dksX10_number_0 7 rfl rfl)
theorem dX10_number_8 : decode cX10_number 8 = .ok (.iconst 4, 1) := dk_7 (dk_at dksX10_number_0 8 rfl rfl)
theorem dX10_number_9 : decode cX10_number 9 = .ok (.if_icmp .ge 30, 3) := dk_162 0 30 (dk_at dksX10_number_0 9 rfl rfl)
theorem dX10_number_12 : decode cX10_number 12 = .ok (.aload_n 0, 1) := dk_42 (dk_at dksX10_number_0 12 rfl rfl)
theorem dX10_number_13 : decode cX10_number 13 = .ok (.bipush 48, 2) := dk_16 48 (dk_at dksX10_number_0 13 rfl rfl)
theorem dX10_number_15 : decode cX10_number 15 = .ok (.bipush 57, 2) := dk_16 57 (dk_at dksX10_number_0 15 rfl rfl)
theorem dX10_number_17 : decode cX10_number 17 = .ok (.invokevirtual 27, 3) := dk_182 0 27 (dk_at dksX10_number_0 17 rfl rfl)
theorem dX10_number_20 : decode cX10_number 20 = .ok (.ifCond .eq 19, 3) := dk_153 0 19 (dk_at dksX10_number_0 20 rfl rfl)
theorem dX10_number_23 : decode cX10_number 23 = .ok (.bipush 10, 2) := dk_16 10 (dk_at dksX10_number_1 0 rfl rfl)
theorem dX10_number_25 : decode cX10_number 25 = .ok (.iload_n 1, 1) := dk_27 (dk_at dksX10_number_1 2 rfl rfl)
theorem dX10_number_26 : decode cX10_number 26 = .ok (.imul, 1) := dk_104 (dk_at dksX10_number_1 3 rfl rfl)
theorem dX10_number_27 : decode cX10_number 27 = .ok (.aload_n 0, 1) := dk_42 (dk_at dksX10_number_1 4 rfl rfl)
theorem dX10_number_28 : decode cX10_number 28 = .ok (.invokevirtual 44, 3) := dk_182 0 44 (dk_at dksX10_number_1 5 rfl rfl)
theorem dX10_number_31 : decode cX10_number 31 = .ok (.iadd, 1) := dk_96 (dk_at dksX10_number_1 8 rfl rfl)
theorem dX10_number_32 : decode cX10_number 32 = .ok (.istore_n 1, 1) := dk_60 (dk_at dksX10_number_1 9 rfl rfl)
theorem dX10_number_33 : decode cX10_number 33 = .ok (.iinc 2 1, 3) := dk_132 2 1 (dk_at dksX10_number_1 10 rfl rfl)
theorem dX10_number_36 : decode cX10_number 36 = .ok (.goto (-29), 3) := dk_167 255 227 (dk_at dksX10_number_1 13 rfl rfl)
theorem dX10_number_39 : decode cX10_number 39 = .ok (.iload_n 1, 1) := dk_27 (dk_at dksX10_number_1 16 rfl rfl)
theorem dX10_number_40 : decode cX10_number 40 = .ok (.ireturn, 1) := dk_172 (dk_at dksX10_number_1 17 rfl rfl)
abbrev cX10_withC : ByteArray := prog_8_method_10_code
def yX10_withC : MethodName := ⟨RX10, "withC", "()LCoinTaxes$Order;"⟩
def dkwX10_withC_3 : List UInt8 := [183, 0, 78, 176]
abbrev dktX10_withC_3 : List UInt8 := dkwX10_withC_3 ++ []
def dkwX10_withC_2 : List UInt8 := [176, 42, 18, 72, 182, 0, 56, 60, 187, 0, 65, 89, 18, 74, 27, 42, 18, 76, 182, 0, 62, 3]
abbrev dktX10_withC_2 : List UInt8 := dkwX10_withC_2 ++ dktX10_withC_3
def dkwX10_withC_1 : List UInt8 := [18, 60, 182, 0, 62, 62, 187, 0, 65, 89, 18, 67, 27, 28, 29, 42, 16, 43, 182, 0, 36, 183, 0, 69]
abbrev dktX10_withC_1 : List UInt8 := dkwX10_withC_1 ++ dktX10_withC_2
def dkwX10_withC_0 : List UInt8 := [42, 16, 108, 182, 0, 36, 153, 0, 43, 42, 18, 54, 182, 0, 56, 60, 42, 18, 60, 182, 0, 56, 61, 42]
abbrev dktX10_withC_0 : List UInt8 := dkwX10_withC_0 ++ dktX10_withC_1
theorem dksX10_withC_0 : cX10_withC.data.toList.drop 0 = dktX10_withC_0 := by decide +kernel
theorem dksX10_withC_1 : cX10_withC.data.toList.drop 24 = dktX10_withC_1 := dk_seg dksX10_withC_0 24 rfl rfl
theorem dksX10_withC_2 : cX10_withC.data.toList.drop 48 = dktX10_withC_2 := dk_seg dksX10_withC_1 24 rfl rfl
theorem dksX10_withC_3 : cX10_withC.data.toList.drop 70 = dktX10_withC_3 := dk_seg dksX10_withC_2 22 rfl rfl
theorem dX10_withC_0 : decode cX10_withC 0 = .ok (.aload_n 0, 1) := dk_42 (dk_at dksX10_withC_0 0 rfl rfl)
theorem dX10_withC_1 : decode cX10_withC 1 = .ok (.bipush 108, 2) := dk_16 108 (dk_at dksX10_withC_0 1 rfl rfl)
theorem dX10_withC_3 : decode cX10_withC 3 = .ok (.invokevirtual 36, 3) := dk_182 0 36 (dk_at dksX10_withC_0 3 rfl rfl)
theorem dX10_withC_6 : decode cX10_withC 6 = .ok (.ifCond .eq 43, 3) := dk_153 0 43 (dk_at dksX10_withC_0 6 rfl rfl)
theorem dX10_withC_9 : decode cX10_withC 9 = .ok (.aload_n 0, 1) := dk_42 (dk_at dksX10_withC_0 9 rfl rfl)
theorem dX10_withC_10 : decode cX10_withC 10 = .ok (.ldc 54, 2) := dk_18 54 (dk_at dksX10_withC_0 10 rfl rfl)
theorem dX10_withC_12 : decode cX10_withC 12 = .ok (.invokevirtual 56, 3) := dk_182 0 56 (dk_at dksX10_withC_0 12 rfl rfl)
theorem dX10_withC_15 : decode cX10_withC 15 = .ok (.istore_n 1, 1) := dk_60 (dk_at dksX10_withC_0 15 rfl rfl)
theorem dX10_withC_16 : decode cX10_withC 16 = .ok (.aload_n 0, 1) := dk_42 (dk_at dksX10_withC_0 16 rfl rfl)
theorem dX10_withC_17 : decode cX10_withC 17 = .ok (.ldc 60, 2) := dk_18 60 (dk_at dksX10_withC_0 17 rfl rfl)
theorem dX10_withC_19 : decode cX10_withC 19 = .ok (.invokevirtual 56, 3) := dk_182 0 56 (dk_at dksX10_withC_0 19 rfl rfl)
theorem dX10_withC_22 : decode cX10_withC 22 = .ok (.istore_n 2, 1) := dk_61 (dk_at dksX10_withC_0 22 rfl rfl)
theorem dX10_withC_23 : decode cX10_withC 23 = .ok (.aload_n 0, 1) := dk_42 (dk_at dksX10_withC_0 23 rfl rfl)
theorem dX10_withC_24 : decode cX10_withC 24 = .ok (.ldc 60, 2) := dk_18 60 (dk_at dksX10_withC_1 0 rfl rfl)
theorem dX10_withC_26 : decode cX10_withC 26 = .ok (.invokevirtual 62, 3) := dk_182 0 62 (dk_at dksX10_withC_1 2 rfl rfl)
theorem dX10_withC_29 : decode cX10_withC 29 = .ok (.istore_n 3, 1) := dk_62 (dk_at dksX10_withC_1 5 rfl rfl)
theorem dX10_withC_30 : decode cX10_withC 30 = .ok (.new 65, 3) := dk_187 0 65 (dk_at dksX10_withC_1 6 rfl rfl)
theorem dX10_withC_33 : decode cX10_withC 33 = .ok (.dup, 1) := dk_89 (dk_at dksX10_withC_1 9 rfl rfl)
theorem dX10_withC_34 : decode cX10_withC 34 = .ok (.ldc 67, 2) := dk_18 67 (dk_at dksX10_withC_1 10 rfl rfl)
theorem dX10_withC_36 : decode cX10_withC 36 = .ok (.iload_n 1, 1) := dk_27 (dk_at dksX10_withC_1 12 rfl rfl)
theorem dX10_withC_37 : decode cX10_withC 37 = .ok (.iload_n 2, 1) := dk_28 (dk_at dksX10_withC_1 13 rfl rfl)
theorem dX10_withC_38 : decode cX10_withC 38 = .ok (.iload_n 3, 1) := dk_29 (dk_at dksX10_withC_1 14 rfl rfl)
theorem dX10_withC_39 : decode cX10_withC 39 = .ok (.aload_n 0, 1) := dk_42 (dk_at dksX10_withC_1 15 rfl rfl)
theorem dX10_withC_40 : decode cX10_withC 40 = .ok (.bipush 43, 2) := dk_16 43 (dk_at dksX10_withC_1 16 rfl rfl)
theorem dX10_withC_42 : decode cX10_withC 42 = .ok (.invokevirtual 36, 3) := dk_182 0 36 (dk_at dksX10_withC_1 18 rfl rfl)
theorem dX10_withC_45 : decode cX10_withC 45 = .ok (.invokespecial 69, 3) := dk_183 0 69 (dk_at dksX10_withC_1 21 rfl rfl)
theorem dX10_withC_48 : decode cX10_withC 48 = .ok (.areturn, 1) := dk_176 (dk_at dksX10_withC_2 0 rfl rfl)
theorem dX10_withC_49 : decode cX10_withC 49 = .ok (.aload_n 0, 1) := dk_42 (dk_at dksX10_withC_2 1 rfl rfl)
theorem dX10_withC_50 : decode cX10_withC 50 = .ok (.ldc 72, 2) := dk_18 72 (dk_at dksX10_withC_2 2 rfl rfl)
theorem dX10_withC_52 : decode cX10_withC 52 = .ok (.invokevirtual 56, 3) := dk_182 0 56 (dk_at dksX10_withC_2 4 rfl rfl)
theorem dX10_withC_55 : decode cX10_withC 55 = .ok (.istore_n 1, 1) := dk_60 (dk_at dksX10_withC_2 7 rfl rfl)
theorem dX10_withC_56 : decode cX10_withC 56 = .ok (.new 65, 3) := dk_187 0 65 (dk_at dksX10_withC_2 8 rfl rfl)
theorem dX10_withC_59 : decode cX10_withC 59 = .ok (.dup, 1) := dk_89 (dk_at dksX10_withC_2 11 rfl rfl)
theorem dX10_withC_60 : decode cX10_withC 60 = .ok (.ldc 74, 2) := dk_18 74 (dk_at dksX10_withC_2 12 rfl rfl)
theorem dX10_withC_62 : decode cX10_withC 62 = .ok (.iload_n 1, 1) := dk_27 (dk_at dksX10_withC_2 14 rfl rfl)
theorem dX10_withC_63 : decode cX10_withC 63 = .ok (.aload_n 0, 1) := dk_42 (dk_at dksX10_withC_2 15 rfl rfl)
theorem dX10_withC_64 : decode cX10_withC 64 = .ok (.ldc 76, 2) := dk_18 76 (dk_at dksX10_withC_2 16 rfl rfl)
theorem dX10_withC_66 : decode cX10_withC 66 = .ok (.invokevirtual 62, 3) := dk_182 0 62 (dk_at dksX10_withC_2 18 rfl rfl)
theorem dX10_withC_69 : decode cX10_withC 69 = .ok (.iconst 0, 1) := dk_3 (dk_at dksX10_withC_2 21 rfl rfl)
theorem dX10_withC_70 : decode cX10_withC 70 = .ok (.invokespecial 78, 3) := dk_183 0 78 (dk_at dksX10_withC_3 0 rfl rfl)
theorem dX10_withC_73 : decode cX10_withC 73 = .ok (.areturn, 1) := dk_176 (dk_at dksX10_withC_3 3 rfl rfl)
abbrev cX10_proving : ByteArray := prog_8_method_12_code
def yX10_proving : MethodName := ⟨RX10, "proving", "()LCoinTaxes$Order;"⟩
def dkwX10_proving_1 : List UInt8 := [176]
abbrev dktX10_proving_1 : List UInt8 := dkwX10_proving_1 ++ []
def dkwX10_proving_0 : List UInt8 := [42, 18, 85, 182, 0, 56, 60, 187, 0, 65, 89, 18, 87, 27, 42, 18, 60, 182, 0, 56, 3, 183, 0, 78]
abbrev dktX10_proving_0 : List UInt8 := dkwX10_proving_0 ++ dktX10_proving_1
theorem dksX10_proving_0 : cX10_proving.data.toList.drop 0 = dktX10_proving_0 := by decide +kernel
theorem dksX10_proving_1 : cX10_proving.data.toList.drop 24 = dktX10_proving_1 := dk_seg dksX10_proving_0 24 rfl rfl
theorem dX10_proving_0 : decode cX10_proving 0 = .ok (.aload_n 0, 1) := dk_42 (dk_at dksX10_proving_0 0 rfl rfl)
theorem dX10_proving_1 : decode cX10_proving 1 = .ok (.ldc 85, 2) := dk_18 85 (dk_at dksX10_proving_0 1 rfl rfl)
theorem dX10_proving_3 : decode cX10_proving 3 = .ok (.invokevirtual 56, 3) := dk_182 0 56 (dk_at dksX10_proving_0 3 rfl rfl)
theorem dX10_proving_6 : decode cX10_proving 6 = .ok (.istore_n 1, 1) := dk_60 (dk_at dksX10_proving_0 6 rfl rfl)
theorem dX10_proving_7 : decode cX10_proving 7 = .ok (.new 65, 3) := dk_187 0 65 (dk_at dksX10_proving_0 7 rfl rfl)
theorem dX10_proving_10 : decode cX10_proving 10 = .ok (.dup, 1) := dk_89 (dk_at dksX10_proving_0 10 rfl rfl)
theorem dX10_proving_11 : decode cX10_proving 11 = .ok (.ldc 87, 2) := dk_18 87 (dk_at dksX10_proving_0 11 rfl rfl)
theorem dX10_proving_13 : decode cX10_proving 13 = .ok (.iload_n 1, 1) := dk_27 (dk_at dksX10_proving_0 13 rfl rfl)
theorem dX10_proving_14 : decode cX10_proving 14 = .ok (.aload_n 0, 1) := dk_42 (dk_at dksX10_proving_0 14 rfl rfl)
theorem dX10_proving_15 : decode cX10_proving 15 = .ok (.ldc 60, 2) := dk_18 60 (dk_at dksX10_proving_0 15 rfl rfl)
theorem dX10_proving_17 : decode cX10_proving 17 = .ok (.invokevirtual 56, 3) := dk_182 0 56 (dk_at dksX10_proving_0 17 rfl rfl)
theorem dX10_proving_20 : decode cX10_proving 20 = .ok (.iconst 0, 1) := dk_3 (dk_at dksX10_proving_0 20 rfl rfl)
theorem dX10_proving_21 : decode cX10_proving 21 = .ok (.invokespecial 78, 3) := dk_183 0 78 (dk_at dksX10_proving_0 21 rfl rfl)
theorem dX10_proving_24 : decode cX10_proving 24 = .ok (.areturn, 1) := dk_176 (dk_at dksX10_proving_1 0 rfl rfl)
abbrev cX10_bracketing : ByteArray := prog_8_method_13_code
def yX10_bracketing : MethodName := ⟨RX10, "bracketing", "()LCoinTaxes$Order;"⟩
def dkwX10_bracketing_1 : List UInt8 := [176]
abbrev dktX10_bracketing_1 : List UInt8 := dkwX10_bracketing_1 ++ []
def dkwX10_bracketing_0 : List UInt8 := [42, 18, 89, 182, 0, 62, 60, 187, 0, 65, 89, 18, 91, 27, 42, 18, 76, 182, 0, 62, 3, 183, 0, 78]
abbrev dktX10_bracketing_0 : List UInt8 := dkwX10_bracketing_0 ++ dktX10_bracketing_1
theorem dksX10_bracketing_0 : cX10_bracketing.data.toList.drop 0 = dktX10_bracketing_0 := by decide +kernel
theorem dksX10_bracketing_1 : cX10_bracketing.data.toList.drop 24 = dktX10_bracketing_1 := dk_seg dksX10_bracketing_0 24 rfl rfl
theorem dX10_bracketing_0 : decode cX10_bracketing 0 = .ok (.aload_n 0, 1) := dk_42 (dk_at dksX10_bracketing_0 0 rfl rfl)
theorem dX10_bracketing_1 : decode cX10_bracketing 1 = .ok (.ldc 89, 2) := dk_18 89 (dk_at dksX10_bracketing_0 1 rfl rfl)
theorem dX10_bracketing_3 : decode cX10_bracketing 3 = .ok (.invokevirtual 62, 3) := dk_182 0 62 (dk_at dksX10_bracketing_0 3 rfl rfl)
theorem dX10_bracketing_6 : decode cX10_bracketing 6 = .ok (.istore_n 1, 1) := dk_60 (dk_at dksX10_bracketing_0 6 rfl rfl)
theorem dX10_bracketing_7 : decode cX10_bracketing 7 = .ok (.new 65, 3) := dk_187 0 65 (dk_at dksX10_bracketing_0 7 rfl rfl)
theorem dX10_bracketing_10 : decode cX10_bracketing 10 = .ok (.dup, 1) := dk_89 (dk_at dksX10_bracketing_0 10 rfl rfl)
theorem dX10_bracketing_11 : decode cX10_bracketing 11 = .ok (.ldc 91, 2) := dk_18 91 (dk_at dksX10_bracketing_0 11 rfl rfl)
theorem dX10_bracketing_13 : decode cX10_bracketing 13 = .ok (.iload_n 1, 1) := dk_27 (dk_at dksX10_bracketing_0 13 rfl rfl)
theorem dX10_bracketing_14 : decode cX10_bracketing 14 = .ok (.aload_n 0, 1) := dk_42 (dk_at dksX10_bracketing_0 14 rfl rfl)
theorem dX10_bracketing_15 : decode cX10_bracketing 15 = .ok (.ldc 76, 2) := dk_18 76 (dk_at dksX10_bracketing_0 15 rfl rfl)
theorem dX10_bracketing_17 : decode cX10_bracketing 17 = .ok (.invokevirtual 62, 3) := dk_182 0 62 (dk_at dksX10_bracketing_0 17 rfl rfl)
theorem dX10_bracketing_20 : decode cX10_bracketing 20 = .ok (.iconst 0, 1) := dk_3 (dk_at dksX10_bracketing_0 20 rfl rfl)
theorem dX10_bracketing_21 : decode cX10_bracketing 21 = .ok (.invokespecial 78, 3) := dk_183 0 78 (dk_at dksX10_bracketing_0 21 rfl rfl)
theorem dX10_bracketing_24 : decode cX10_bracketing 24 = .ok (.areturn, 1) := dk_176 (dk_at dksX10_bracketing_1 0 rfl rfl)
abbrev cX10_rating : ByteArray := prog_8_method_14_code
def yX10_rating : MethodName := ⟨RX10, "rating", "()LCoinTaxes$Order;"⟩
def dkwX10_rating_1 : List UInt8 := [176]
abbrev dktX10_rating_1 : List UInt8 := dkwX10_rating_1 ++ []
def dkwX10_rating_0 : List UInt8 := [42, 18, 93, 182, 0, 56, 60, 187, 0, 65, 89, 18, 95, 27, 42, 18, 76, 182, 0, 62, 3, 183, 0, 78]
abbrev dktX10_rating_0 : List UInt8 := dkwX10_rating_0 ++ dktX10_rating_1
theorem dksX10_rating_0 : cX10_rating.data.toList.drop 0 = dktX10_rating_0 := by decide +kernel
theorem dksX10_rating_1 : cX10_rating.data.toList.drop 24 = dktX10_rating_1 := dk_seg dksX10_rating_0 24 rfl rfl
theorem dX10_rating_0 : decode cX10_rating 0 = .ok (.aload_n 0, 1) := dk_42 (dk_at dksX10_rating_0 0 rfl rfl)
theorem dX10_rating_1 : decode cX10_rating 1 = .ok (.ldc 93, 2) := dk_18 93 (dk_at dksX10_rating_0 1 rfl rfl)
theorem dX10_rating_3 : decode cX10_rating 3 = .ok (.invokevirtual 56, 3) := dk_182 0 56 (dk_at dksX10_rating_0 3 rfl rfl)
theorem dX10_rating_6 : decode cX10_rating 6 = .ok (.istore_n 1, 1) := dk_60 (dk_at dksX10_rating_0 6 rfl rfl)
theorem dX10_rating_7 : decode cX10_rating 7 = .ok (.new 65, 3) := dk_187 0 65 (dk_at dksX10_rating_0 7 rfl rfl)
theorem dX10_rating_10 : decode cX10_rating 10 = .ok (.dup, 1) := dk_89 (dk_at dksX10_rating_0 10 rfl rfl)
theorem dX10_rating_11 : decode cX10_rating 11 = .ok (.ldc 95, 2) := dk_18 95 (dk_at dksX10_rating_0 11 rfl rfl)
theorem dX10_rating_13 : decode cX10_rating 13 = .ok (.iload_n 1, 1) := dk_27 (dk_at dksX10_rating_0 13 rfl rfl)
theorem dX10_rating_14 : decode cX10_rating 14 = .ok (.aload_n 0, 1) := dk_42 (dk_at dksX10_rating_0 14 rfl rfl)
theorem dX10_rating_15 : decode cX10_rating 15 = .ok (.ldc 76, 2) := dk_18 76 (dk_at dksX10_rating_0 15 rfl rfl)
theorem dX10_rating_17 : decode cX10_rating 17 = .ok (.invokevirtual 62, 3) := dk_182 0 62 (dk_at dksX10_rating_0 17 rfl rfl)
theorem dX10_rating_20 : decode cX10_rating 20 = .ok (.iconst 0, 1) := dk_3 (dk_at dksX10_rating_0 20 rfl rfl)
theorem dX10_rating_21 : decode cX10_rating 21 = .ok (.invokespecial 78, 3) := dk_183 0 78 (dk_at dksX10_rating_0 21 rfl rfl)
theorem dX10_rating_24 : decode cX10_rating 24 = .ok (.areturn, 1) := dk_176 (dk_at dksX10_rating_1 0 rfl rfl)
theorem q137 : (Jvm.Cond.initialized "CoinTaxes$Reader") ∈ lw_all := lw_g (lw_at lw_m1 47 rfl) rfl
theorem q972 : (Jvm.Cond.selects "CoinTaxes$Reader" ({ cls := "java/lang/Object", name := "getClass", desc := "()Ljava/lang/Class;" } : Jvm.MethodName) ({ cls := "java/lang/Object", name := "getClass", desc := "()Ljava/lang/Class;" } : Jvm.MethodName)) ∈ lw_all := lw_g (lw_at lw_m4 162 rfl) rfl
theorem q2212 : (Jvm.Cond.instantiable "CoinTaxes$Reader" (2 : Nat)) ∈ lw_all := lw_g (lw_at lw_m9 202 rfl) rfl
theorem q2215 : (Jvm.Cond.instanceMethod ({ cls := "CoinTaxes$Reader", name := "<init>", desc := "(Ljava/lang/String;)V" } : Jvm.MethodName)) ∈ lw_all := lw_g (lw_at lw_m9 205 rfl) rfl
theorem q2216 : (Jvm.Cond.code ({ cls := "CoinTaxes$Reader", name := "<init>", desc := "(Ljava/lang/String;)V" } : Jvm.MethodName) prog_8_method_1_code (2 : Nat) (Option.none : Option Jvm.ClassFile.FieldType)) ∈ lw_all := lw_g (lw_at lw_m9 206 rfl) rfl
theorem q2217 : (Jvm.Cond.methodLink "CoinTaxes$Reader" (1 : Nat) ({ cls := "java/lang/Object", name := "<init>", desc := "()V" } : Jvm.MethodName)) ∈ lw_all := lw_g (lw_at lw_m9 207 rfl) rfl
theorem q2218 : (Jvm.Cond.fieldLink "CoinTaxes$Reader" (7 : Nat) "CoinTaxes$Reader" "text" "Ljava/lang/String;") ∈ lw_all := lw_g (lw_at lw_m9 208 rfl) rfl
theorem q2219 : (Jvm.Cond.fieldLink "CoinTaxes$Reader" (13 : Nat) "CoinTaxes$Reader" "at" "I") ∈ lw_all := lw_g (lw_at lw_m9 209 rfl) rfl
theorem q2220 : (Jvm.Cond.laysFinal "CoinTaxes$Reader" "CoinTaxes$Reader" "text" "Ljava/lang/String;") ∈ lw_all := lw_g (lw_at lw_m9 210 rfl) rfl
theorem q2221 : (Jvm.Cond.soleField "CoinTaxes$Reader" "text") ∈ lw_all := lw_g (lw_at lw_m9 211 rfl) rfl
theorem q2222 : (Jvm.Cond.lays "CoinTaxes$Reader" "CoinTaxes$Reader" "at" "I") ∈ lw_all := lw_g (lw_at lw_m9 212 rfl) rfl
theorem q2223 : (Jvm.Cond.soleField "CoinTaxes$Reader" "at") ∈ lw_all := lw_g (lw_at lw_m9 213 rfl) rfl
theorem q2224 : (Jvm.Cond.superclass "CoinTaxes$Reader" "java/lang/Object") ∈ lw_all := lw_g (lw_at lw_m9 214 rfl) rfl
theorem q2278 : (Jvm.Cond.instanceMethod ({ cls := "CoinTaxes$Reader", name := "whole", desc := "()Ljava/util/List;" } : Jvm.MethodName)) ∈ lw_all := lw_g (lw_at lw_m10 28 rfl) rfl
theorem q2279 : (Jvm.Cond.selects "CoinTaxes$Reader" ({ cls := "CoinTaxes$Reader", name := "whole", desc := "()Ljava/util/List;" } : Jvm.MethodName) ({ cls := "CoinTaxes$Reader", name := "whole", desc := "()Ljava/util/List;" } : Jvm.MethodName)) ∈ lw_all := lw_g (lw_at lw_m10 29 rfl) rfl
theorem q2280 : (Jvm.Cond.code ({ cls := "CoinTaxes$Reader", name := "whole", desc := "()Ljava/util/List;" } : Jvm.MethodName) prog_8_method_16_code (2 : Nat) (Option.some (Jvm.ClassFile.FieldType.object "java/util/List"))) ∈ lw_all := lw_g (lw_at lw_m10 30 rfl) rfl
theorem q2281 : (Jvm.Cond.classLink "CoinTaxes$Reader" (119 : Nat) "java/util/ArrayList") ∈ lw_all := lw_g (lw_at lw_m10 31 rfl) rfl
theorem q2282 : (Jvm.Cond.methodLink "CoinTaxes$Reader" (121 : Nat) ({ cls := "java/util/ArrayList", name := "<init>", desc := "()V" } : Jvm.MethodName)) ∈ lw_all := lw_g (lw_at lw_m10 32 rfl) rfl
theorem q2283 : (Jvm.Cond.methodLink "CoinTaxes$Reader" (122 : Nat) ({ cls := "CoinTaxes$Reader", name := "order", desc := "()LCoinTaxes$Order;" } : Jvm.MethodName)) ∈ lw_all := lw_g (lw_at lw_m10 33 rfl) rfl
theorem q2284 : (Jvm.Cond.privateMethod ({ cls := "CoinTaxes$Reader", name := "order", desc := "()LCoinTaxes$Order;" } : Jvm.MethodName)) ∈ lw_tbl := lw_at lw_m10 34 rfl
theorem q2285 : (Jvm.Cond.instanceMethod ({ cls := "CoinTaxes$Reader", name := "order", desc := "()LCoinTaxes$Order;" } : Jvm.MethodName)) ∈ lw_all := lw_g (lw_at lw_m10 35 rfl) rfl
theorem q2286 : (Jvm.Cond.code ({ cls := "CoinTaxes$Reader", name := "order", desc := "()LCoinTaxes$Order;" } : Jvm.MethodName) prog_8_method_15_code (1 : Nat) (Option.some (Jvm.ClassFile.FieldType.object "CoinTaxes$Order"))) ∈ lw_all := lw_g (lw_at lw_m10 36 rfl) rfl
theorem q2287 : (Jvm.Cond.methodLink "CoinTaxes$Reader" (36 : Nat) ({ cls := "CoinTaxes$Reader", name := "passes", desc := "(C)Z" } : Jvm.MethodName)) ∈ lw_all := lw_g (lw_at lw_m10 37 rfl) rfl
theorem q2288 : (Jvm.Cond.privateMethod ({ cls := "CoinTaxes$Reader", name := "passes", desc := "(C)Z" } : Jvm.MethodName)) ∈ lw_tbl := lw_at lw_m10 38 rfl
theorem q2289 : (Jvm.Cond.instanceMethod ({ cls := "CoinTaxes$Reader", name := "passes", desc := "(C)Z" } : Jvm.MethodName)) ∈ lw_all := lw_g (lw_at lw_m10 39 rfl) rfl
theorem q2290 : (Jvm.Cond.code ({ cls := "CoinTaxes$Reader", name := "passes", desc := "(C)Z" } : Jvm.MethodName) prog_8_method_3_code (3 : Nat) (Option.some Jvm.ClassFile.FieldType.boolean)) ∈ lw_all := lw_g (lw_at lw_m10 40 rfl) rfl
theorem q2291 : (Jvm.Cond.methodLink "CoinTaxes$Reader" (27 : Nat) ({ cls := "CoinTaxes$Reader", name := "isNext", desc := "(CC)Z" } : Jvm.MethodName)) ∈ lw_all := lw_g (lw_at lw_m10 41 rfl) rfl
theorem q2292 : (Jvm.Cond.privateMethod ({ cls := "CoinTaxes$Reader", name := "isNext", desc := "(CC)Z" } : Jvm.MethodName)) ∈ lw_tbl := lw_at lw_m10 42 rfl
theorem q2293 : (Jvm.Cond.instanceMethod ({ cls := "CoinTaxes$Reader", name := "isNext", desc := "(CC)Z" } : Jvm.MethodName)) ∈ lw_all := lw_g (lw_at lw_m10 43 rfl) rfl
theorem q2294 : (Jvm.Cond.code ({ cls := "CoinTaxes$Reader", name := "isNext", desc := "(CC)Z" } : Jvm.MethodName) prog_8_method_2_code (3 : Nat) (Option.some Jvm.ClassFile.FieldType.boolean)) ∈ lw_all := lw_g (lw_at lw_m10 44 rfl) rfl
theorem q2295 : (Jvm.Cond.methodLink "CoinTaxes$Reader" (17 : Nat) ({ cls := "java/lang/String", name := "length", desc := "()I" } : Jvm.MethodName)) ∈ lw_all := lw_g (lw_at lw_m10 45 rfl) rfl
theorem q2296 : (Jvm.Cond.methodLink "CoinTaxes$Reader" (23 : Nat) ({ cls := "java/lang/String", name := "charAt", desc := "(I)C" } : Jvm.MethodName)) ∈ lw_all := lw_g (lw_at lw_m10 46 rfl) rfl
theorem q2307 : (Jvm.Cond.methodLink "CoinTaxes$Reader" (97 : Nat) ({ cls := "CoinTaxes$Reader", name := "earning", desc := "()LCoinTaxes$Order;" } : Jvm.MethodName)) ∈ lw_all := lw_g (lw_at lw_m10 57 rfl) rfl
theorem q2308 : (Jvm.Cond.privateMethod ({ cls := "CoinTaxes$Reader", name := "earning", desc := "()LCoinTaxes$Order;" } : Jvm.MethodName)) ∈ lw_tbl := lw_at lw_m10 58 rfl
theorem q2309 : (Jvm.Cond.instanceMethod ({ cls := "CoinTaxes$Reader", name := "earning", desc := "()LCoinTaxes$Order;" } : Jvm.MethodName)) ∈ lw_all := lw_g (lw_at lw_m10 59 rfl) rfl
theorem q2310 : (Jvm.Cond.code ({ cls := "CoinTaxes$Reader", name := "earning", desc := "()LCoinTaxes$Order;" } : Jvm.MethodName) prog_8_method_11_code (2 : Nat) (Option.some (Jvm.ClassFile.FieldType.object "CoinTaxes$Order"))) ∈ lw_all := lw_g (lw_at lw_m10 60 rfl) rfl
theorem q2311 : (Jvm.Cond.stringRef "CoinTaxes$Reader" (81 : Nat) "arn ") ∈ lw_tbl := lw_at lw_m10 61 rfl
theorem q2312 : (Jvm.Cond.methodLink "CoinTaxes$Reader" (56 : Nat) ({ cls := "CoinTaxes$Reader", name := "digitBehind", desc := "(Ljava/lang/String;)I" } : Jvm.MethodName)) ∈ lw_all := lw_g (lw_at lw_m10 62 rfl) rfl
theorem q2313 : (Jvm.Cond.privateMethod ({ cls := "CoinTaxes$Reader", name := "digitBehind", desc := "(Ljava/lang/String;)I" } : Jvm.MethodName)) ∈ lw_tbl := lw_at lw_m10 63 rfl
theorem q2314 : (Jvm.Cond.instanceMethod ({ cls := "CoinTaxes$Reader", name := "digitBehind", desc := "(Ljava/lang/String;)I" } : Jvm.MethodName)) ∈ lw_all := lw_g (lw_at lw_m10 64 rfl) rfl
theorem q2315 : (Jvm.Cond.code ({ cls := "CoinTaxes$Reader", name := "digitBehind", desc := "(Ljava/lang/String;)I" } : Jvm.MethodName) prog_8_method_8_code (2 : Nat) (Option.some Jvm.ClassFile.FieldType.int)) ∈ lw_all := lw_g (lw_at lw_m10 65 rfl) rfl
theorem q2316 : (Jvm.Cond.methodLink "CoinTaxes$Reader" (47 : Nat) ({ cls := "CoinTaxes$Reader", name := "word", desc := "(Ljava/lang/String;)V" } : Jvm.MethodName)) ∈ lw_all := lw_g (lw_at lw_m10 66 rfl) rfl
theorem q2317 : (Jvm.Cond.privateMethod ({ cls := "CoinTaxes$Reader", name := "word", desc := "(Ljava/lang/String;)V" } : Jvm.MethodName)) ∈ lw_tbl := lw_at lw_m10 67 rfl
theorem q2318 : (Jvm.Cond.instanceMethod ({ cls := "CoinTaxes$Reader", name := "word", desc := "(Ljava/lang/String;)V" } : Jvm.MethodName)) ∈ lw_all := lw_g (lw_at lw_m10 68 rfl) rfl
theorem q2319 : (Jvm.Cond.code ({ cls := "CoinTaxes$Reader", name := "word", desc := "(Ljava/lang/String;)V" } : Jvm.MethodName) prog_8_method_5_code (3 : Nat) (Option.none : Option Jvm.ClassFile.FieldType)) ∈ lw_all := lw_g (lw_at lw_m10 69 rfl) rfl
theorem q2320 : (Jvm.Cond.methodLink "CoinTaxes$Reader" (40 : Nat) ({ cls := "CoinTaxes$Reader", name := "expect", desc := "(Z)V" } : Jvm.MethodName)) ∈ lw_all := lw_g (lw_at lw_m10 70 rfl) rfl
theorem q2321 : (Jvm.Cond.privateMethod ({ cls := "CoinTaxes$Reader", name := "expect", desc := "(Z)V" } : Jvm.MethodName)) ∈ lw_tbl := lw_at lw_m10 71 rfl
theorem q2322 : (Jvm.Cond.instanceMethod ({ cls := "CoinTaxes$Reader", name := "expect", desc := "(Z)V" } : Jvm.MethodName)) ∈ lw_all := lw_g (lw_at lw_m10 72 rfl) rfl
theorem q2323 : (Jvm.Cond.code ({ cls := "CoinTaxes$Reader", name := "expect", desc := "(Z)V" } : Jvm.MethodName) prog_8_method_4_code (2 : Nat) (Option.none : Option Jvm.ClassFile.FieldType)) ∈ lw_all := lw_g (lw_at lw_m10 73 rfl) rfl
theorem q2324 : (Jvm.Cond.classLink "CoinTaxes$Reader" (31 : Nat) "CoinTaxes$TextException") ∈ lw_all := lw_g (lw_at lw_m10 74 rfl) rfl
theorem q2333 : (Jvm.Cond.methodLink "CoinTaxes$Reader" (33 : Nat) ({ cls := "CoinTaxes$TextException", name := "<init>", desc := "(I)V" } : Jvm.MethodName)) ∈ lw_all := lw_g (lw_at lw_m10 83 rfl) rfl
theorem q2343 : (Jvm.Cond.methodLink "CoinTaxes$Reader" (44 : Nat) ({ cls := "CoinTaxes$Reader", name := "digit", desc := "()I" } : Jvm.MethodName)) ∈ lw_all := lw_g (lw_at lw_m10 93 rfl) rfl
theorem q2344 : (Jvm.Cond.privateMethod ({ cls := "CoinTaxes$Reader", name := "digit", desc := "()I" } : Jvm.MethodName)) ∈ lw_tbl := lw_at lw_m10 94 rfl
theorem q2345 : (Jvm.Cond.instanceMethod ({ cls := "CoinTaxes$Reader", name := "digit", desc := "()I" } : Jvm.MethodName)) ∈ lw_all := lw_g (lw_at lw_m10 95 rfl) rfl
theorem q2346 : (Jvm.Cond.code ({ cls := "CoinTaxes$Reader", name := "digit", desc := "()I" } : Jvm.MethodName) prog_8_method_6_code (1 : Nat) (Option.some Jvm.ClassFile.FieldType.int)) ∈ lw_all := lw_g (lw_at lw_m10 96 rfl) rfl
theorem q2347 : (Jvm.Cond.classLink "CoinTaxes$Reader" (65 : Nat) "CoinTaxes$Order") ∈ lw_all := lw_g (lw_at lw_m10 97 rfl) rfl
theorem q2348 : (Jvm.Cond.stringRef "CoinTaxes$Reader" (83 : Nat) "earn") ∈ lw_tbl := lw_at lw_m10 98 rfl
theorem q2349 : (Jvm.Cond.stringRef "CoinTaxes$Reader" (60 : Nat) " ") ∈ lw_tbl := lw_at lw_m10 99 rfl
theorem q2350 : (Jvm.Cond.methodLink "CoinTaxes$Reader" (62 : Nat) ({ cls := "CoinTaxes$Reader", name := "numberBehind", desc := "(Ljava/lang/String;)I" } : Jvm.MethodName)) ∈ lw_all := lw_g (lw_at lw_m10 100 rfl) rfl
theorem q2351 : (Jvm.Cond.privateMethod ({ cls := "CoinTaxes$Reader", name := "numberBehind", desc := "(Ljava/lang/String;)I" } : Jvm.MethodName)) ∈ lw_tbl := lw_at lw_m10 101 rfl
theorem q2352 : (Jvm.Cond.instanceMethod ({ cls := "CoinTaxes$Reader", name := "numberBehind", desc := "(Ljava/lang/String;)I" } : Jvm.MethodName)) ∈ lw_all := lw_g (lw_at lw_m10 102 rfl) rfl
theorem q2353 : (Jvm.Cond.code ({ cls := "CoinTaxes$Reader", name := "numberBehind", desc := "(Ljava/lang/String;)I" } : Jvm.MethodName) prog_8_method_9_code (2 : Nat) (Option.some Jvm.ClassFile.FieldType.int)) ∈ lw_all := lw_g (lw_at lw_m10 103 rfl) rfl
theorem q2354 : (Jvm.Cond.methodLink "CoinTaxes$Reader" (51 : Nat) ({ cls := "CoinTaxes$Reader", name := "number", desc := "()I" } : Jvm.MethodName)) ∈ lw_all := lw_g (lw_at lw_m10 104 rfl) rfl
theorem q2355 : (Jvm.Cond.privateMethod ({ cls := "CoinTaxes$Reader", name := "number", desc := "()I" } : Jvm.MethodName)) ∈ lw_tbl := lw_at lw_m10 105 rfl
theorem q2356 : (Jvm.Cond.instanceMethod ({ cls := "CoinTaxes$Reader", name := "number", desc := "()I" } : Jvm.MethodName)) ∈ lw_all := lw_g (lw_at lw_m10 106 rfl) rfl
theorem q2357 : (Jvm.Cond.code ({ cls := "CoinTaxes$Reader", name := "number", desc := "()I" } : Jvm.MethodName) prog_8_method_7_code (3 : Nat) (Option.some Jvm.ClassFile.FieldType.int)) ∈ lw_all := lw_g (lw_at lw_m10 107 rfl) rfl
theorem q2358 : (Jvm.Cond.methodLink "CoinTaxes$Reader" (78 : Nat) ({ cls := "CoinTaxes$Order", name := "<init>", desc := "(Ljava/lang/String;III)V" } : Jvm.MethodName)) ∈ lw_all := lw_g (lw_at lw_m10 108 rfl) rfl
theorem q2359 : (Jvm.Cond.methodLink "CoinTaxes$Reader" (101 : Nat) ({ cls := "CoinTaxes$Reader", name := "withC", desc := "()LCoinTaxes$Order;" } : Jvm.MethodName)) ∈ lw_all := lw_g (lw_at lw_m10 109 rfl) rfl
theorem q2360 : (Jvm.Cond.privateMethod ({ cls := "CoinTaxes$Reader", name := "withC", desc := "()LCoinTaxes$Order;" } : Jvm.MethodName)) ∈ lw_tbl := lw_at lw_m10 110 rfl
theorem q2361 : (Jvm.Cond.instanceMethod ({ cls := "CoinTaxes$Reader", name := "withC", desc := "()LCoinTaxes$Order;" } : Jvm.MethodName)) ∈ lw_all := lw_g (lw_at lw_m10 111 rfl) rfl
theorem q2362 : (Jvm.Cond.code ({ cls := "CoinTaxes$Reader", name := "withC", desc := "()LCoinTaxes$Order;" } : Jvm.MethodName) prog_8_method_10_code (4 : Nat) (Option.some (Jvm.ClassFile.FieldType.object "CoinTaxes$Order"))) ∈ lw_all := lw_g (lw_at lw_m10 112 rfl) rfl
theorem q2363 : (Jvm.Cond.stringRef "CoinTaxes$Reader" (54 : Nat) "aim ") ∈ lw_tbl := lw_at lw_m10 113 rfl
theorem q2364 : (Jvm.Cond.stringRef "CoinTaxes$Reader" (67 : Nat) "claim") ∈ lw_tbl := lw_at lw_m10 114 rfl
theorem q2365 : (Jvm.Cond.methodLink "CoinTaxes$Reader" (69 : Nat) ({ cls := "CoinTaxes$Order", name := "<init>", desc := "(Ljava/lang/String;IIIZ)V" } : Jvm.MethodName)) ∈ lw_all := lw_g (lw_at lw_m10 115 rfl) rfl
theorem q2366 : (Jvm.Cond.stringRef "CoinTaxes$Reader" (72 : Nat) "ap ") ∈ lw_tbl := lw_at lw_m10 116 rfl
theorem q2367 : (Jvm.Cond.stringRef "CoinTaxes$Reader" (74 : Nat) "cap") ∈ lw_tbl := lw_at lw_m10 117 rfl
theorem q2368 : (Jvm.Cond.stringRef "CoinTaxes$Reader" (76 : Nat) "=") ∈ lw_tbl := lw_at lw_m10 118 rfl
theorem q2369 : (Jvm.Cond.methodLink "CoinTaxes$Reader" (104 : Nat) ({ cls := "CoinTaxes$Reader", name := "proving", desc := "()LCoinTaxes$Order;" } : Jvm.MethodName)) ∈ lw_all := lw_g (lw_at lw_m10 119 rfl) rfl
theorem q2370 : (Jvm.Cond.privateMethod ({ cls := "CoinTaxes$Reader", name := "proving", desc := "()LCoinTaxes$Order;" } : Jvm.MethodName)) ∈ lw_tbl := lw_at lw_m10 120 rfl
theorem q2371 : (Jvm.Cond.instanceMethod ({ cls := "CoinTaxes$Reader", name := "proving", desc := "()LCoinTaxes$Order;" } : Jvm.MethodName)) ∈ lw_all := lw_g (lw_at lw_m10 121 rfl) rfl
theorem q2372 : (Jvm.Cond.code ({ cls := "CoinTaxes$Reader", name := "proving", desc := "()LCoinTaxes$Order;" } : Jvm.MethodName) prog_8_method_12_code (2 : Nat) (Option.some (Jvm.ClassFile.FieldType.object "CoinTaxes$Order"))) ∈ lw_all := lw_g (lw_at lw_m10 122 rfl) rfl
theorem q2373 : (Jvm.Cond.stringRef "CoinTaxes$Reader" (85 : Nat) "rove ") ∈ lw_tbl := lw_at lw_m10 123 rfl
theorem q2374 : (Jvm.Cond.stringRef "CoinTaxes$Reader" (87 : Nat) "prove") ∈ lw_tbl := lw_at lw_m10 124 rfl
theorem q2375 : (Jvm.Cond.methodLink "CoinTaxes$Reader" (107 : Nat) ({ cls := "CoinTaxes$Reader", name := "bracketing", desc := "()LCoinTaxes$Order;" } : Jvm.MethodName)) ∈ lw_all := lw_g (lw_at lw_m10 125 rfl) rfl
theorem q2376 : (Jvm.Cond.privateMethod ({ cls := "CoinTaxes$Reader", name := "bracketing", desc := "()LCoinTaxes$Order;" } : Jvm.MethodName)) ∈ lw_tbl := lw_at lw_m10 126 rfl
theorem q2377 : (Jvm.Cond.instanceMethod ({ cls := "CoinTaxes$Reader", name := "bracketing", desc := "()LCoinTaxes$Order;" } : Jvm.MethodName)) ∈ lw_all := lw_g (lw_at lw_m10 127 rfl) rfl
theorem q2378 : (Jvm.Cond.code ({ cls := "CoinTaxes$Reader", name := "bracketing", desc := "()LCoinTaxes$Order;" } : Jvm.MethodName) prog_8_method_13_code (2 : Nat) (Option.some (Jvm.ClassFile.FieldType.object "CoinTaxes$Order"))) ∈ lw_all := lw_g (lw_at lw_m10 128 rfl) rfl
theorem q2379 : (Jvm.Cond.stringRef "CoinTaxes$Reader" (89 : Nat) "racket ") ∈ lw_tbl := lw_at lw_m10 129 rfl
theorem q2380 : (Jvm.Cond.stringRef "CoinTaxes$Reader" (91 : Nat) "bracket") ∈ lw_tbl := lw_at lw_m10 130 rfl
theorem q2381 : (Jvm.Cond.methodLink "CoinTaxes$Reader" (110 : Nat) ({ cls := "CoinTaxes$Reader", name := "rating", desc := "()LCoinTaxes$Order;" } : Jvm.MethodName)) ∈ lw_all := lw_g (lw_at lw_m10 131 rfl) rfl
theorem q2382 : (Jvm.Cond.privateMethod ({ cls := "CoinTaxes$Reader", name := "rating", desc := "()LCoinTaxes$Order;" } : Jvm.MethodName)) ∈ lw_tbl := lw_at lw_m10 132 rfl
theorem q2383 : (Jvm.Cond.instanceMethod ({ cls := "CoinTaxes$Reader", name := "rating", desc := "()LCoinTaxes$Order;" } : Jvm.MethodName)) ∈ lw_all := lw_g (lw_at lw_m10 133 rfl) rfl
theorem q2384 : (Jvm.Cond.code ({ cls := "CoinTaxes$Reader", name := "rating", desc := "()LCoinTaxes$Order;" } : Jvm.MethodName) prog_8_method_14_code (2 : Nat) (Option.some (Jvm.ClassFile.FieldType.object "CoinTaxes$Order"))) ∈ lw_all := lw_g (lw_at lw_m10 134 rfl) rfl
theorem q2385 : (Jvm.Cond.stringRef "CoinTaxes$Reader" (93 : Nat) "ate ") ∈ lw_tbl := lw_at lw_m10 135 rfl
theorem q2386 : (Jvm.Cond.stringRef "CoinTaxes$Reader" (95 : Nat) "rate") ∈ lw_tbl := lw_at lw_m10 136 rfl
theorem q2387 : (Jvm.Cond.stringRef "CoinTaxes$Reader" (113 : Nat) "drop") ∈ lw_tbl := lw_at lw_m10 137 rfl
theorem q2388 : (Jvm.Cond.stringRef "CoinTaxes$Reader" (115 : Nat) "rop ") ∈ lw_tbl := lw_at lw_m10 138 rfl
theorem q2389 : (Jvm.Cond.stringRef "CoinTaxes$Reader" (117 : Nat) "year") ∈ lw_tbl := lw_at lw_m10 139 rfl
theorem q2390 : (Jvm.Cond.interfaceEntry "CoinTaxes$Reader" (125 : Nat)) ∈ lw_tbl := lw_at lw_m10 140 rfl
theorem q2391 : (Jvm.Cond.methodLink "CoinTaxes$Reader" (125 : Nat) ({ cls := "java/util/List", name := "add", desc := "(Ljava/lang/Object;)Z" } : Jvm.MethodName)) ∈ lw_all := lw_g (lw_at lw_m10 141 rfl) rfl
theorem q3034 : (Jvm.Cond.castable "CoinTaxes$Reader" "java/lang/Object") ∈ lw_tbl := lw_at lw_m13 64 rfl
theorem in_X10 : ∀ w ∈ wsX100, w ∈ lw_all := lw_in wsX100 [2220, 2222] (by decide +kernel) (by decide +kernel)

/-! CoinTaxes$TextException -/
set_option maxRecDepth 100000
def RX11 : String := "CoinTaxes$TextException"
def TX11 : u_T := fun k => match k with
  | 0 => ("java/lang/Throwable", "cause", "Ljava/lang/Throwable;", false)
  | 1 => ("java/lang/Throwable", "stackTrace", "[Ljava/lang/StackTraceElement;", false)
  | 2 => ("java/lang/Throwable", "suppressedExceptions", "Ljava/util/List;", false)
  | 3 => ("java/lang/Throwable", "detailMessage", "Ljava/lang/String;", false)
  | 4 => ("java/lang/Throwable", "backtrace", "Ljava/lang/Object;", false)
  | 5 => ("java/lang/Throwable", "depth", "I", false)
  | _ => ("CoinTaxes$TextException", "position", "I", true)
def tyX11 : Nat → FieldType := fun k => match k with
  | 0 => .object "java/lang/Throwable"
  | 1 => .array (.object "java/lang/StackTraceElement")
  | 2 => .object "java/util/List"
  | 3 => .object "java/lang/String"
  | 4 => .object "java/lang/Object"
  | 5 => .int
  | _ => .int
abbrev wsX110 : List Cond := u_ws RX11 TX11 7
theorem nmX11 : ∀ a, a < 7 → ∀ b, b < 7 → a ≠ b → (TX11 a).2.1 ≠ (TX11 b).2.1 := by decide +kernel
theorem tyX11_ok : ∀ k, k < 7 → parseFieldDescriptor (TX11 k).2.2.1 = some (tyX11 k) := by decide +kernel
abbrev cX11_init : ByteArray := prog_10_method_1_code
def yX11_init : MethodName := ⟨RX11, "<init>", "(I)V"⟩
def dkwX11_init_0 : List UInt8 := [42, 183, 0, 1, 42, 27, 181, 0, 7, 177]
abbrev dktX11_init_0 : List UInt8 := dkwX11_init_0 ++ []
theorem dksX11_init_0 : cX11_init.data.toList.drop 0 = dktX11_init_0 := by decide +kernel
theorem dX11_init_0 : decode cX11_init 0 = .ok (.aload_n 0, 1) := dk_42 (dk_at dksX11_init_0 0 rfl rfl)
theorem dX11_init_1 : decode cX11_init 1 = .ok (.invokespecial 1, 3) := dk_183 0 1 (dk_at dksX11_init_0 1 rfl rfl)
theorem dX11_init_4 : decode cX11_init 4 = .ok (.aload_n 0, 1) := dk_42 (dk_at dksX11_init_0 4 rfl rfl)
theorem dX11_init_5 : decode cX11_init 5 = .ok (.iload_n 1, 1) := dk_27 (dk_at dksX11_init_0 5 rfl rfl)
theorem dX11_init_6 : decode cX11_init 6 = .ok (.putfield 7, 3) := dk_181 0 7 (dk_at dksX11_init_0 6 rfl rfl)
theorem dX11_init_9 : decode cX11_init 9 = .ok (.return_, 1) := dk_177 (dk_at dksX11_init_0 9 rfl rfl)
theorem q139 : (Jvm.Cond.initialized "CoinTaxes$TextException") ∈ lw_all := lw_g (lw_at lw_m1 49 rfl) rfl
theorem q492 : (Jvm.Cond.selects "CoinTaxes$TextException" ({ cls := "java/lang/Throwable", name := "fillInStackTrace", desc := "()Ljava/lang/Throwable;" } : Jvm.MethodName) ({ cls := "java/lang/Throwable", name := "fillInStackTrace", desc := "()Ljava/lang/Throwable;" } : Jvm.MethodName)) ∈ lw_all := lw_g (lw_at lw_m2 162 rfl) rfl
theorem q952 : (Jvm.Cond.selects "CoinTaxes$TextException" ({ cls := "java/lang/Throwable", name := "toString", desc := "()Ljava/lang/String;" } : Jvm.MethodName) ({ cls := "java/lang/Throwable", name := "toString", desc := "()Ljava/lang/String;" } : Jvm.MethodName)) ∈ lw_all := lw_g (lw_at lw_m4 142 rfl) rfl
theorem q974 : (Jvm.Cond.selects "CoinTaxes$TextException" ({ cls := "java/lang/Object", name := "getClass", desc := "()Ljava/lang/Class;" } : Jvm.MethodName) ({ cls := "java/lang/Object", name := "getClass", desc := "()Ljava/lang/Class;" } : Jvm.MethodName)) ∈ lw_all := lw_g (lw_at lw_m4 164 rfl) rfl
theorem q1002 : (Jvm.Cond.selects "CoinTaxes$TextException" ({ cls := "java/lang/Throwable", name := "getLocalizedMessage", desc := "()Ljava/lang/String;" } : Jvm.MethodName) ({ cls := "java/lang/Throwable", name := "getLocalizedMessage", desc := "()Ljava/lang/String;" } : Jvm.MethodName)) ∈ lw_all := lw_g (lw_at lw_m4 192 rfl) rfl
theorem q1016 : (Jvm.Cond.selects "CoinTaxes$TextException" ({ cls := "java/lang/Throwable", name := "getMessage", desc := "()Ljava/lang/String;" } : Jvm.MethodName) ({ cls := "java/lang/Throwable", name := "getMessage", desc := "()Ljava/lang/String;" } : Jvm.MethodName)) ∈ lw_all := lw_g (lw_at lw_m4 206 rfl) rfl
theorem q2325 : (Jvm.Cond.instantiable "CoinTaxes$TextException" (7 : Nat)) ∈ lw_all := lw_g (lw_at lw_m10 75 rfl) rfl
theorem q2326 : (Jvm.Cond.castable "CoinTaxes$TextException" "CoinTaxes$TextException") ∈ lw_tbl := lw_at lw_m10 76 rfl
theorem q2327 : (Jvm.Cond.selects "CoinTaxes$TextException" ({ cls := "java/lang/Throwable", name := "fillInStackTrace", desc := "(I)Ljava/lang/Throwable;" } : Jvm.MethodName) ({ cls := "java/lang/Throwable", name := "fillInStackTrace", desc := "(I)Ljava/lang/Throwable;" } : Jvm.MethodName)) ∈ lw_all := lw_g (lw_at lw_m10 77 rfl) rfl
theorem q2328 : (Jvm.Cond.lays "CoinTaxes$TextException" "java/lang/Throwable" "cause" "Ljava/lang/Throwable;") ∈ lw_all := lw_g (lw_at lw_m10 78 rfl) rfl
theorem q2329 : (Jvm.Cond.lays "CoinTaxes$TextException" "java/lang/Throwable" "stackTrace" "[Ljava/lang/StackTraceElement;") ∈ lw_all := lw_g (lw_at lw_m10 79 rfl) rfl
theorem q2330 : (Jvm.Cond.lays "CoinTaxes$TextException" "java/lang/Throwable" "suppressedExceptions" "Ljava/util/List;") ∈ lw_all := lw_g (lw_at lw_m10 80 rfl) rfl
theorem q2331 : (Jvm.Cond.lays "CoinTaxes$TextException" "java/lang/Throwable" "detailMessage" "Ljava/lang/String;") ∈ lw_all := lw_g (lw_at lw_m10 81 rfl) rfl
theorem q2332 : (Jvm.Cond.lays "CoinTaxes$TextException" "java/lang/Throwable" "backtrace" "Ljava/lang/Object;") ∈ lw_all := lw_g (lw_at lw_m10 82 rfl) rfl
theorem q2334 : (Jvm.Cond.instanceMethod ({ cls := "CoinTaxes$TextException", name := "<init>", desc := "(I)V" } : Jvm.MethodName)) ∈ lw_all := lw_g (lw_at lw_m10 84 rfl) rfl
theorem q2335 : (Jvm.Cond.code ({ cls := "CoinTaxes$TextException", name := "<init>", desc := "(I)V" } : Jvm.MethodName) prog_10_method_1_code (2 : Nat) (Option.none : Option Jvm.ClassFile.FieldType)) ∈ lw_all := lw_g (lw_at lw_m10 85 rfl) rfl
theorem q2336 : (Jvm.Cond.methodLink "CoinTaxes$TextException" (1 : Nat) ({ cls := "java/lang/Exception", name := "<init>", desc := "()V" } : Jvm.MethodName)) ∈ lw_all := lw_g (lw_at lw_m10 86 rfl) rfl
theorem q2337 : (Jvm.Cond.fieldLink "CoinTaxes$TextException" (7 : Nat) "CoinTaxes$TextException" "position" "I") ∈ lw_all := lw_g (lw_at lw_m10 87 rfl) rfl
theorem q2339 : (Jvm.Cond.laysFinal "CoinTaxes$TextException" "CoinTaxes$TextException" "position" "I") ∈ lw_all := lw_g (lw_at lw_m10 89 rfl) rfl
theorem q2340 : (Jvm.Cond.soleField "CoinTaxes$TextException" "position") ∈ lw_all := lw_g (lw_at lw_m10 90 rfl) rfl
theorem q2341 : (Jvm.Cond.lays "CoinTaxes$TextException" "java/lang/Throwable" "depth" "I") ∈ lw_all := lw_g (lw_at lw_m10 91 rfl) rfl
theorem q2342 : (Jvm.Cond.superclass "CoinTaxes$TextException" "java/lang/Exception") ∈ lw_all := lw_g (lw_at lw_m10 92 rfl) rfl
theorem q3036 : (Jvm.Cond.castable "CoinTaxes$TextException" "java/lang/Object") ∈ lw_tbl := lw_at lw_m13 66 rfl
theorem in_X11 : ∀ w ∈ wsX110, w ∈ lw_all := lw_in wsX110 [2328, 2329, 2330, 2331, 2332, 2341, 2339] (by decide +kernel) (by decide +kernel)
