/-! CoinTaxesLaw -/
set_option maxRecDepth 100000
def RX0 : String := "CoinTaxesLaw"
abbrev cX0_bracket : ByteArray := method_3_code
def yX0_bracket : MethodName := ⟨RX0, "bracket", "(LCoinTaxes;II[J)I"⟩
def dkwX0_bracket_0 : List UInt8 := [45, 3, 42, 27, 28, 182, 0, 7, 133, 80, 167, 0, 7, 58, 4, 4, 172, 3, 172]
abbrev dktX0_bracket_0 : List UInt8 := dkwX0_bracket_0 ++ []
theorem dksX0_bracket_0 : cX0_bracket.data.toList.drop 0 = dktX0_bracket_0 := by decide +kernel
theorem dX0_bracket_0 : decode cX0_bracket 0 = .ok (.aload_n 3, 1) := dk_45 (dk_at dksX0_bracket_0 0 rfl rfl)
theorem dX0_bracket_1 : decode cX0_bracket 1 = .ok (.iconst 0, 1) := dk_3 (dk_at dksX0_bracket_0 1 rfl rfl)
theorem dX0_bracket_2 : decode cX0_bracket 2 = .ok (.aload_n 0, 1) := dk_42 (dk_at dksX0_bracket_0 2 rfl rfl)
theorem dX0_bracket_3 : decode cX0_bracket 3 = .ok (.iload_n 1, 1) := dk_27 (dk_at dksX0_bracket_0 3 rfl rfl)
theorem dX0_bracket_4 : decode cX0_bracket 4 = .ok (.iload_n 2, 1) := dk_28 (dk_at dksX0_bracket_0 4 rfl rfl)
theorem dX0_bracket_5 : decode cX0_bracket 5 = .ok (.invokevirtual 7, 3) := dk_182 0 7 (dk_at dksX0_bracket_0 5 rfl rfl)
theorem dX0_bracket_8 : decode cX0_bracket 8 = .ok (.i2l, 1) := dk_133 (dk_at dksX0_bracket_0 8 rfl rfl)
theorem dX0_bracket_9 : decode cX0_bracket 9 = .ok (.lastore, 1) := dk_80 (dk_at dksX0_bracket_0 9 rfl rfl)
theorem dX0_bracket_10 : decode cX0_bracket 10 = .ok (.goto 7, 3) := dk_167 0 7 (dk_at dksX0_bracket_0 10 rfl rfl)
theorem dX0_bracket_13 : decode cX0_bracket 13 = .ok (.astore 4, 2) := dk_58 4 (dk_at dksX0_bracket_0 13 rfl rfl)
theorem dX0_bracket_15 : decode cX0_bracket 15 = .ok (.iconst 1, 1) := dk_4 (dk_at dksX0_bracket_0 15 rfl rfl)
theorem dX0_bracket_16 : decode cX0_bracket 16 = .ok (.ireturn, 1) := dk_172 (dk_at dksX0_bracket_0 16 rfl rfl)
theorem dX0_bracket_17 : decode cX0_bracket 17 = .ok (.iconst 0, 1) := dk_3 (dk_at dksX0_bracket_0 17 rfl rfl)
theorem dX0_bracket_18 : decode cX0_bracket 18 = .ok (.ireturn, 1) := dk_172 (dk_at dksX0_bracket_0 18 rfl rfl)
abbrev cX0_drop : ByteArray := method_4_code
def yX0_drop : MethodName := ⟨RX0, "drop", "(LCoinTaxes;I[J)I"⟩
def dkwX0_drop_0 : List UInt8 := [44, 3, 42, 27, 182, 0, 15, 133, 80, 167, 0, 6, 78, 4, 172, 3, 172]
abbrev dktX0_drop_0 : List UInt8 := dkwX0_drop_0 ++ []
theorem dksX0_drop_0 : cX0_drop.data.toList.drop 0 = dktX0_drop_0 := by decide +kernel
theorem dX0_drop_0 : decode cX0_drop 0 = .ok (.aload_n 2, 1) := dk_44 (dk_at dksX0_drop_0 0 rfl rfl)
theorem dX0_drop_1 : decode cX0_drop 1 = .ok (.iconst 0, 1) := dk_3 (dk_at dksX0_drop_0 1 rfl rfl)
theorem dX0_drop_2 : decode cX0_drop 2 = .ok (.aload_n 0, 1) := dk_42 (dk_at dksX0_drop_0 2 rfl rfl)
theorem dX0_drop_3 : decode cX0_drop 3 = .ok (.iload_n 1, 1) := dk_27 (dk_at dksX0_drop_0 3 rfl rfl)
theorem dX0_drop_4 : decode cX0_drop 4 = .ok (.invokevirtual 15, 3) := dk_182 0 15 (dk_at dksX0_drop_0 4 rfl rfl)
theorem dX0_drop_7 : decode cX0_drop 7 = .ok (.i2l, 1) := dk_133 (dk_at dksX0_drop_0 7 rfl rfl)
theorem dX0_drop_8 : decode cX0_drop 8 = .ok (.lastore, 1) := dk_80 (dk_at dksX0_drop_0 8 rfl rfl)
theorem dX0_drop_9 : decode cX0_drop 9 = .ok (.goto 6, 3) := dk_167 0 6 (dk_at dksX0_drop_0 9 rfl rfl)
theorem dX0_drop_12 : decode cX0_drop 12 = .ok (.astore_n 3, 1) := dk_78 (dk_at dksX0_drop_0 12 rfl rfl)
theorem dX0_drop_13 : decode cX0_drop 13 = .ok (.iconst 1, 1) := dk_4 (dk_at dksX0_drop_0 13 rfl rfl)
theorem dX0_drop_14 : decode cX0_drop 14 = .ok (.ireturn, 1) := dk_172 (dk_at dksX0_drop_0 14 rfl rfl)
theorem dX0_drop_15 : decode cX0_drop 15 = .ok (.iconst 0, 1) := dk_3 (dk_at dksX0_drop_0 15 rfl rfl)
theorem dX0_drop_16 : decode cX0_drop 16 = .ok (.ireturn, 1) := dk_172 (dk_at dksX0_drop_0 16 rfl rfl)
abbrev cX0_rate : ByteArray := method_5_code
def yX0_rate : MethodName := ⟨RX0, "rate", "(LCoinTaxes;II[J)I"⟩
def dkwX0_rate_0 : List UInt8 := [45, 3, 42, 27, 28, 182, 0, 19, 133, 80, 167, 0, 7, 58, 4, 4, 172, 3, 172]
abbrev dktX0_rate_0 : List UInt8 := dkwX0_rate_0 ++ []
theorem dksX0_rate_0 : cX0_rate.data.toList.drop 0 = dktX0_rate_0 := by decide +kernel
theorem dX0_rate_0 : decode cX0_rate 0 = .ok (.aload_n 3, 1) := dk_45 (dk_at dksX0_rate_0 0 rfl rfl)
theorem dX0_rate_1 : decode cX0_rate 1 = .ok (.iconst 0, 1) := dk_3 (dk_at dksX0_rate_0 1 rfl rfl)
theorem dX0_rate_2 : decode cX0_rate 2 = .ok (.aload_n 0, 1) := dk_42 (dk_at dksX0_rate_0 2 rfl rfl)
theorem dX0_rate_3 : decode cX0_rate 3 = .ok (.iload_n 1, 1) := dk_27 (dk_at dksX0_rate_0 3 rfl rfl)
theorem dX0_rate_4 : decode cX0_rate 4 = .ok (.iload_n 2, 1) := dk_28 (dk_at dksX0_rate_0 4 rfl rfl)
theorem dX0_rate_5 : decode cX0_rate 5 = .ok (.invokevirtual 19, 3) := dk_182 0 19 (dk_at dksX0_rate_0 5 rfl rfl)
theorem dX0_rate_8 : decode cX0_rate 8 = .ok (.i2l, 1) := dk_133 (dk_at dksX0_rate_0 8 rfl rfl)
theorem dX0_rate_9 : decode cX0_rate 9 = .ok (.lastore, 1) := dk_80 (dk_at dksX0_rate_0 9 rfl rfl)
theorem dX0_rate_10 : decode cX0_rate 10 = .ok (.goto 7, 3) := dk_167 0 7 (dk_at dksX0_rate_0 10 rfl rfl)
theorem dX0_rate_13 : decode cX0_rate 13 = .ok (.astore 4, 2) := dk_58 4 (dk_at dksX0_rate_0 13 rfl rfl)
theorem dX0_rate_15 : decode cX0_rate 15 = .ok (.iconst 1, 1) := dk_4 (dk_at dksX0_rate_0 15 rfl rfl)
theorem dX0_rate_16 : decode cX0_rate 16 = .ok (.ireturn, 1) := dk_172 (dk_at dksX0_rate_0 16 rfl rfl)
theorem dX0_rate_17 : decode cX0_rate 17 = .ok (.iconst 0, 1) := dk_3 (dk_at dksX0_rate_0 17 rfl rfl)
theorem dX0_rate_18 : decode cX0_rate 18 = .ok (.ireturn, 1) := dk_172 (dk_at dksX0_rate_0 18 rfl rfl)
abbrev cX0_credit : ByteArray := method_6_code
def yX0_credit : MethodName := ⟨RX0, "credit", "(LCoinTaxes;III[J)I"⟩
def dkwX0_credit_0 : List UInt8 := [25, 4, 3, 42, 27, 28, 29, 182, 0, 22, 133, 80, 167, 0, 7, 58, 5, 4, 172, 3, 172]
abbrev dktX0_credit_0 : List UInt8 := dkwX0_credit_0 ++ []
theorem dksX0_credit_0 : cX0_credit.data.toList.drop 0 = dktX0_credit_0 := by decide +kernel
theorem dX0_credit_0 : decode cX0_credit 0 = .ok (.aload 4, 2) := dk_25 4 (dk_at dksX0_credit_0 0 rfl rfl)
theorem dX0_credit_2 : decode cX0_credit 2 = .ok (.iconst 0, 1) := dk_3 (dk_at dksX0_credit_0 2 rfl rfl)
theorem dX0_credit_3 : decode cX0_credit 3 = .ok (.aload_n 0, 1) := dk_42 (dk_at dksX0_credit_0 3 rfl rfl)
theorem dX0_credit_4 : decode cX0_credit 4 = .ok (.iload_n 1, 1) := dk_27 (dk_at dksX0_credit_0 4 rfl rfl)
theorem dX0_credit_5 : decode cX0_credit 5 = .ok (.iload_n 2, 1) := dk_28 (dk_at dksX0_credit_0 5 rfl rfl)
theorem dX0_credit_6 : decode cX0_credit 6 = .ok (.iload_n 3, 1) := dk_29 (dk_at dksX0_credit_0 6 rfl rfl)
theorem dX0_credit_7 : decode cX0_credit 7 = .ok (.invokevirtual 22, 3) := dk_182 0 22 (dk_at dksX0_credit_0 7 rfl rfl)
theorem dX0_credit_10 : decode cX0_credit 10 = .ok (.i2l, 1) := dk_133 (dk_at dksX0_credit_0 10 rfl rfl)
theorem dX0_credit_11 : decode cX0_credit 11 = .ok (.lastore, 1) := dk_80 (dk_at dksX0_credit_0 11 rfl rfl)
theorem dX0_credit_12 : decode cX0_credit 12 = .ok (.goto 7, 3) := dk_167 0 7 (dk_at dksX0_credit_0 12 rfl rfl)
theorem dX0_credit_15 : decode cX0_credit 15 = .ok (.astore 5, 2) := dk_58 5 (dk_at dksX0_credit_0 15 rfl rfl)
theorem dX0_credit_17 : decode cX0_credit 17 = .ok (.iconst 1, 1) := dk_4 (dk_at dksX0_credit_0 17 rfl rfl)
theorem dX0_credit_18 : decode cX0_credit 18 = .ok (.ireturn, 1) := dk_172 (dk_at dksX0_credit_0 18 rfl rfl)
theorem dX0_credit_19 : decode cX0_credit 19 = .ok (.iconst 0, 1) := dk_3 (dk_at dksX0_credit_0 19 rfl rfl)
theorem dX0_credit_20 : decode cX0_credit 20 = .ok (.ireturn, 1) := dk_172 (dk_at dksX0_credit_0 20 rfl rfl)
abbrev cX0_cap : ByteArray := method_7_code
def yX0_cap : MethodName := ⟨RX0, "cap", "(LCoinTaxes;II[J)I"⟩
def dkwX0_cap_0 : List UInt8 := [45, 3, 42, 27, 28, 182, 0, 26, 133, 80, 167, 0, 7, 58, 4, 4, 172, 3, 172]
abbrev dktX0_cap_0 : List UInt8 := dkwX0_cap_0 ++ []
theorem dksX0_cap_0 : cX0_cap.data.toList.drop 0 = dktX0_cap_0 := by decide +kernel
theorem dX0_cap_0 : decode cX0_cap 0 = .ok (.aload_n 3, 1) := dk_45 (dk_at dksX0_cap_0 0 rfl rfl)
theorem dX0_cap_1 : decode cX0_cap 1 = .ok (.iconst 0, 1) := dk_3 (dk_at dksX0_cap_0 1 rfl rfl)
theorem dX0_cap_2 : decode cX0_cap 2 = .ok (.aload_n 0, 1) := dk_42 (dk_at dksX0_cap_0 2 rfl rfl)
theorem dX0_cap_3 : decode cX0_cap 3 = .ok (.iload_n 1, 1) := dk_27 (dk_at dksX0_cap_0 3 rfl rfl)
theorem dX0_cap_4 : decode cX0_cap 4 = .ok (.iload_n 2, 1) := dk_28 (dk_at dksX0_cap_0 4 rfl rfl)
theorem dX0_cap_5 : decode cX0_cap 5 = .ok (.invokevirtual 26, 3) := dk_182 0 26 (dk_at dksX0_cap_0 5 rfl rfl)
theorem dX0_cap_8 : decode cX0_cap 8 = .ok (.i2l, 1) := dk_133 (dk_at dksX0_cap_0 8 rfl rfl)
theorem dX0_cap_9 : decode cX0_cap 9 = .ok (.lastore, 1) := dk_80 (dk_at dksX0_cap_0 9 rfl rfl)
theorem dX0_cap_10 : decode cX0_cap 10 = .ok (.goto 7, 3) := dk_167 0 7 (dk_at dksX0_cap_0 10 rfl rfl)
theorem dX0_cap_13 : decode cX0_cap 13 = .ok (.astore 4, 2) := dk_58 4 (dk_at dksX0_cap_0 13 rfl rfl)
theorem dX0_cap_15 : decode cX0_cap 15 = .ok (.iconst 1, 1) := dk_4 (dk_at dksX0_cap_0 15 rfl rfl)
theorem dX0_cap_16 : decode cX0_cap 16 = .ok (.ireturn, 1) := dk_172 (dk_at dksX0_cap_0 16 rfl rfl)
theorem dX0_cap_17 : decode cX0_cap 17 = .ok (.iconst 0, 1) := dk_3 (dk_at dksX0_cap_0 17 rfl rfl)
theorem dX0_cap_18 : decode cX0_cap 18 = .ok (.ireturn, 1) := dk_172 (dk_at dksX0_cap_0 18 rfl rfl)
abbrev cX0_citizen : ByteArray := method_8_code
def yX0_citizen : MethodName := ⟨RX0, "citizen", "(LCoinTaxes;[J)I"⟩
def dkwX0_citizen_0 : List UInt8 := [43, 3, 42, 182, 0, 29, 133, 80, 167, 0, 6, 77, 4, 172, 3, 172]
abbrev dktX0_citizen_0 : List UInt8 := dkwX0_citizen_0 ++ []
theorem dksX0_citizen_0 : cX0_citizen.data.toList.drop 0 = dktX0_citizen_0 := by decide +kernel
theorem dX0_citizen_0 : decode cX0_citizen 0 = .ok (.aload_n 1, 1) := dk_43 (dk_at dksX0_citizen_0 0 rfl rfl)
theorem dX0_citizen_1 : decode cX0_citizen 1 = .ok (.iconst 0, 1) := dk_3 (dk_at dksX0_citizen_0 1 rfl rfl)
theorem dX0_citizen_2 : decode cX0_citizen 2 = .ok (.aload_n 0, 1) := dk_42 (dk_at dksX0_citizen_0 2 rfl rfl)
theorem dX0_citizen_3 : decode cX0_citizen 3 = .ok (.invokevirtual 29, 3) := dk_182 0 29 (dk_at dksX0_citizen_0 3 rfl rfl)
theorem dX0_citizen_6 : decode cX0_citizen 6 = .ok (.i2l, 1) := dk_133 (dk_at dksX0_citizen_0 6 rfl rfl)
theorem dX0_citizen_7 : decode cX0_citizen 7 = .ok (.lastore, 1) := dk_80 (dk_at dksX0_citizen_0 7 rfl rfl)
theorem dX0_citizen_8 : decode cX0_citizen 8 = .ok (.goto 6, 3) := dk_167 0 6 (dk_at dksX0_citizen_0 8 rfl rfl)
theorem dX0_citizen_11 : decode cX0_citizen 11 = .ok (.astore_n 2, 1) := dk_77 (dk_at dksX0_citizen_0 11 rfl rfl)
theorem dX0_citizen_12 : decode cX0_citizen 12 = .ok (.iconst 1, 1) := dk_4 (dk_at dksX0_citizen_0 12 rfl rfl)
theorem dX0_citizen_13 : decode cX0_citizen 13 = .ok (.ireturn, 1) := dk_172 (dk_at dksX0_citizen_0 13 rfl rfl)
theorem dX0_citizen_14 : decode cX0_citizen 14 = .ok (.iconst 0, 1) := dk_3 (dk_at dksX0_citizen_0 14 rfl rfl)
theorem dX0_citizen_15 : decode cX0_citizen 15 = .ok (.ireturn, 1) := dk_172 (dk_at dksX0_citizen_0 15 rfl rfl)
abbrev cX0_earn : ByteArray := method_9_code
def yX0_earn : MethodName := ⟨RX0, "earn", "(LCoinTaxes;II[J)I"⟩
def dkwX0_earn_0 : List UInt8 := [45, 3, 42, 27, 28, 182, 0, 33, 133, 80, 167, 0, 7, 58, 4, 4, 172, 3, 172]
abbrev dktX0_earn_0 : List UInt8 := dkwX0_earn_0 ++ []
theorem dksX0_earn_0 : cX0_earn.data.toList.drop 0 = dktX0_earn_0 := by decide +kernel
theorem dX0_earn_0 : decode cX0_earn 0 = .ok (.aload_n 3, 1) := dk_45 (dk_at dksX0_earn_0 0 rfl rfl)
theorem dX0_earn_1 : decode cX0_earn 1 = .ok (.iconst 0, 1) := dk_3 (dk_at dksX0_earn_0 1 rfl rfl)
theorem dX0_earn_2 : decode cX0_earn 2 = .ok (.aload_n 0, 1) := dk_42 (dk_at dksX0_earn_0 2 rfl rfl)
theorem dX0_earn_3 : decode cX0_earn 3 = .ok (.iload_n 1, 1) := dk_27 (dk_at dksX0_earn_0 3 rfl rfl)
theorem dX0_earn_4 : decode cX0_earn 4 = .ok (.iload_n 2, 1) := dk_28 (dk_at dksX0_earn_0 4 rfl rfl)
theorem dX0_earn_5 : decode cX0_earn 5 = .ok (.invokevirtual 33, 3) := dk_182 0 33 (dk_at dksX0_earn_0 5 rfl rfl)
theorem dX0_earn_8 : decode cX0_earn 8 = .ok (.i2l, 1) := dk_133 (dk_at dksX0_earn_0 8 rfl rfl)
theorem dX0_earn_9 : decode cX0_earn 9 = .ok (.lastore, 1) := dk_80 (dk_at dksX0_earn_0 9 rfl rfl)
theorem dX0_earn_10 : decode cX0_earn 10 = .ok (.goto 7, 3) := dk_167 0 7 (dk_at dksX0_earn_0 10 rfl rfl)
theorem dX0_earn_13 : decode cX0_earn 13 = .ok (.astore 4, 2) := dk_58 4 (dk_at dksX0_earn_0 13 rfl rfl)
theorem dX0_earn_15 : decode cX0_earn 15 = .ok (.iconst 1, 1) := dk_4 (dk_at dksX0_earn_0 15 rfl rfl)
theorem dX0_earn_16 : decode cX0_earn 16 = .ok (.ireturn, 1) := dk_172 (dk_at dksX0_earn_0 16 rfl rfl)
theorem dX0_earn_17 : decode cX0_earn 17 = .ok (.iconst 0, 1) := dk_3 (dk_at dksX0_earn_0 17 rfl rfl)
theorem dX0_earn_18 : decode cX0_earn 18 = .ok (.ireturn, 1) := dk_172 (dk_at dksX0_earn_0 18 rfl rfl)
abbrev cX0_claim : ByteArray := method_10_code
def yX0_claim : MethodName := ⟨RX0, "claim", "(LCoinTaxes;IIIZ[J)I"⟩
def dkwX0_claim_0 : List UInt8 := [25, 5, 3, 42, 27, 28, 29, 21, 4, 182, 0, 36, 133, 80, 167, 0, 7, 58, 6, 4, 172, 3, 172]
abbrev dktX0_claim_0 : List UInt8 := dkwX0_claim_0 ++ []
theorem dksX0_claim_0 : cX0_claim.data.toList.drop 0 = dktX0_claim_0 := by decide +kernel
theorem dX0_claim_0 : decode cX0_claim 0 = .ok (.aload 5, 2) := dk_25 5 (dk_at dksX0_claim_0 0 rfl rfl)
theorem dX0_claim_2 : decode cX0_claim 2 = .ok (.iconst 0, 1) := dk_3 (dk_at dksX0_claim_0 2 rfl rfl)
theorem dX0_claim_3 : decode cX0_claim 3 = .ok (.aload_n 0, 1) := dk_42 (dk_at dksX0_claim_0 3 rfl rfl)
theorem dX0_claim_4 : decode cX0_claim 4 = .ok (.iload_n 1, 1) := dk_27 (dk_at dksX0_claim_0 4 rfl rfl)
theorem dX0_claim_5 : decode cX0_claim 5 = .ok (.iload_n 2, 1) := dk_28 (dk_at dksX0_claim_0 5 rfl rfl)
theorem dX0_claim_6 : decode cX0_claim 6 = .ok (.iload_n 3, 1) := dk_29 (dk_at dksX0_claim_0 6 rfl rfl)
theorem dX0_claim_7 : decode cX0_claim 7 = .ok (.iload 4, 2) := dk_21 4 (dk_at dksX0_claim_0 7 rfl rfl)
theorem dX0_claim_9 : decode cX0_claim 9 = .ok (.invokevirtual 36, 3) := dk_182 0 36 (dk_at dksX0_claim_0 9 rfl rfl)
theorem dX0_claim_12 : decode cX0_claim 12 = .ok (.i2l, 1) := dk_133 (dk_at dksX0_claim_0 12 rfl rfl)
theorem dX0_claim_13 : decode cX0_claim 13 = .ok (.lastore, 1) := dk_80 (dk_at dksX0_claim_0 13 rfl rfl)
theorem dX0_claim_14 : decode cX0_claim 14 = .ok (.goto 7, 3) := dk_167 0 7 (dk_at dksX0_claim_0 14 rfl rfl)
theorem dX0_claim_17 : decode cX0_claim 17 = .ok (.astore 6, 2) := dk_58 6 (dk_at dksX0_claim_0 17 rfl rfl)
theorem dX0_claim_19 : decode cX0_claim 19 = .ok (.iconst 1, 1) := dk_4 (dk_at dksX0_claim_0 19 rfl rfl)
theorem dX0_claim_20 : decode cX0_claim 20 = .ok (.ireturn, 1) := dk_172 (dk_at dksX0_claim_0 20 rfl rfl)
theorem dX0_claim_21 : decode cX0_claim 21 = .ok (.iconst 0, 1) := dk_3 (dk_at dksX0_claim_0 21 rfl rfl)
theorem dX0_claim_22 : decode cX0_claim 22 = .ok (.ireturn, 1) := dk_172 (dk_at dksX0_claim_0 22 rfl rfl)
abbrev cX0_prove : ByteArray := method_11_code
def yX0_prove : MethodName := ⟨RX0, "prove", "(LCoinTaxes;II[J)I"⟩
def dkwX0_prove_0 : List UInt8 := [45, 3, 42, 27, 28, 182, 0, 40, 133, 80, 167, 0, 7, 58, 4, 4, 172, 3, 172]
abbrev dktX0_prove_0 : List UInt8 := dkwX0_prove_0 ++ []
theorem dksX0_prove_0 : cX0_prove.data.toList.drop 0 = dktX0_prove_0 := by decide +kernel
theorem dX0_prove_0 : decode cX0_prove 0 = .ok (.aload_n 3, 1) := dk_45 (dk_at dksX0_prove_0 0 rfl rfl)
theorem dX0_prove_1 : decode cX0_prove 1 = .ok (.iconst 0, 1) := dk_3 (dk_at dksX0_prove_0 1 rfl rfl)
theorem dX0_prove_2 : decode cX0_prove 2 = .ok (.aload_n 0, 1) := dk_42 (dk_at dksX0_prove_0 2 rfl rfl)
theorem dX0_prove_3 : decode cX0_prove 3 = .ok (.iload_n 1, 1) := dk_27 (dk_at dksX0_prove_0 3 rfl rfl)
theorem dX0_prove_4 : decode cX0_prove 4 = .ok (.iload_n 2, 1) := dk_28 (dk_at dksX0_prove_0 4 rfl rfl)
theorem dX0_prove_5 : decode cX0_prove 5 = .ok (.invokevirtual 40, 3) := dk_182 0 40 (dk_at dksX0_prove_0 5 rfl rfl)
theorem dX0_prove_8 : decode cX0_prove 8 = .ok (.i2l, 1) := dk_133 (dk_at dksX0_prove_0 8 rfl rfl)
theorem dX0_prove_9 : decode cX0_prove 9 = .ok (.lastore, 1) := dk_80 (dk_at dksX0_prove_0 9 rfl rfl)
theorem dX0_prove_10 : decode cX0_prove 10 = .ok (.goto 7, 3) := dk_167 0 7 (dk_at dksX0_prove_0 10 rfl rfl)
theorem dX0_prove_13 : decode cX0_prove 13 = .ok (.astore 4, 2) := dk_58 4 (dk_at dksX0_prove_0 13 rfl rfl)
theorem dX0_prove_15 : decode cX0_prove 15 = .ok (.iconst 1, 1) := dk_4 (dk_at dksX0_prove_0 15 rfl rfl)
theorem dX0_prove_16 : decode cX0_prove 16 = .ok (.ireturn, 1) := dk_172 (dk_at dksX0_prove_0 16 rfl rfl)
theorem dX0_prove_17 : decode cX0_prove 17 = .ok (.iconst 0, 1) := dk_3 (dk_at dksX0_prove_0 17 rfl rfl)
theorem dX0_prove_18 : decode cX0_prove 18 = .ok (.ireturn, 1) := dk_172 (dk_at dksX0_prove_0 18 rfl rfl)
abbrev cX0_bracketOf : ByteArray := method_12_code
def yX0_bracketOf : MethodName := ⟨RX0, "bracketOf", "(LCoinTaxes;II[J)I"⟩
def dkwX0_bracketOf_0 : List UInt8 := [45, 3, 42, 27, 28, 182, 0, 43, 133, 80, 167, 0, 11, 58, 4, 4, 172, 58, 4, 5, 172, 3, 172]
abbrev dktX0_bracketOf_0 : List UInt8 := dkwX0_bracketOf_0 ++ []
theorem dksX0_bracketOf_0 : cX0_bracketOf.data.toList.drop 0 = dktX0_bracketOf_0 := by decide +kernel
theorem dX0_bracketOf_0 : decode cX0_bracketOf 0 = .ok (.aload_n 3, 1) := dk_45 (dk_at dksX0_bracketOf_0 0 rfl rfl)
theorem dX0_bracketOf_1 : decode cX0_bracketOf 1 = .ok (.iconst 0, 1) := dk_3 (dk_at dksX0_bracketOf_0 1 rfl rfl)
theorem dX0_bracketOf_2 : decode cX0_bracketOf 2 = .ok (.aload_n 0, 1) := dk_42 (dk_at dksX0_bracketOf_0 2 rfl rfl)
theorem dX0_bracketOf_3 : decode cX0_bracketOf 3 = .ok (.iload_n 1, 1) := dk_27 (dk_at dksX0_bracketOf_0 3 rfl rfl)
theorem dX0_bracketOf_4 : decode cX0_bracketOf 4 = .ok (.iload_n 2, 1) := dk_28 (dk_at dksX0_bracketOf_0 4 rfl rfl)
theorem dX0_bracketOf_5 : decode cX0_bracketOf 5 = .ok (.invokevirtual 43, 3) := dk_182 0 43 (dk_at dksX0_bracketOf_0 5 rfl rfl)
theorem dX0_bracketOf_8 : decode cX0_bracketOf 8 = .ok (.i2l, 1) := dk_133 (dk_at dksX0_bracketOf_0 8 rfl rfl)
theorem dX0_bracketOf_9 : decode cX0_bracketOf 9 = .ok (.lastore, 1) := dk_80 (dk_at dksX0_bracketOf_0 9 rfl rfl)
theorem dX0_bracketOf_10 : decode cX0_bracketOf 10 = .ok (.goto 11, 3) := dk_167 0 11 (dk_at dksX0_bracketOf_0 10 rfl rfl)
theorem dX0_bracketOf_13 : decode cX0_bracketOf 13 = .ok (.astore 4, 2) := dk_58 4 (dk_at dksX0_bracketOf_0 13 rfl rfl)
theorem dX0_bracketOf_15 : decode cX0_bracketOf 15 = .ok (.iconst 1, 1) := dk_4 (dk_at dksX0_bracketOf_0 15 rfl rfl)
theorem dX0_bracketOf_16 : decode cX0_bracketOf 16 = .ok (.ireturn, 1) := dk_172 (dk_at dksX0_bracketOf_0 16 rfl rfl)
theorem dX0_bracketOf_17 : decode cX0_bracketOf 17 = .ok (.astore 4, 2) := dk_58 4 (dk_at dksX0_bracketOf_0 17 rfl rfl)
theorem dX0_bracketOf_19 : decode cX0_bracketOf 19 = .ok (.iconst 2, 1) := dk_5 (dk_at dksX0_bracketOf_0 19 rfl rfl)
theorem dX0_bracketOf_20 : decode cX0_bracketOf 20 = .ok (.ireturn, 1) := dk_172 (dk_at dksX0_bracketOf_0 20 rfl rfl)
theorem dX0_bracketOf_21 : decode cX0_bracketOf 21 = .ok (.iconst 0, 1) := dk_3 (dk_at dksX0_bracketOf_0 21 rfl rfl)
theorem dX0_bracketOf_22 : decode cX0_bracketOf 22 = .ok (.ireturn, 1) := dk_172 (dk_at dksX0_bracketOf_0 22 rfl rfl)
abbrev cX0_bracketAt : ByteArray := method_13_code
def yX0_bracketAt : MethodName := ⟨RX0, "bracketAt", "(LCoinTaxes;I[J)I"⟩
def dkwX0_bracketAt_0 : List UInt8 := [44, 3, 42, 27, 182, 0, 50, 133, 80, 167, 0, 6, 78, 4, 172, 3, 172]
abbrev dktX0_bracketAt_0 : List UInt8 := dkwX0_bracketAt_0 ++ []
theorem dksX0_bracketAt_0 : cX0_bracketAt.data.toList.drop 0 = dktX0_bracketAt_0 := by decide +kernel
theorem dX0_bracketAt_0 : decode cX0_bracketAt 0 = .ok (.aload_n 2, 1) := dk_44 (dk_at dksX0_bracketAt_0 0 rfl rfl)
theorem dX0_bracketAt_1 : decode cX0_bracketAt 1 = .ok (.iconst 0, 1) := dk_3 (dk_at dksX0_bracketAt_0 1 rfl rfl)
theorem dX0_bracketAt_2 : decode cX0_bracketAt 2 = .ok (.aload_n 0, 1) := dk_42 (dk_at dksX0_bracketAt_0 2 rfl rfl)
theorem dX0_bracketAt_3 : decode cX0_bracketAt 3 = .ok (.iload_n 1, 1) := dk_27 (dk_at dksX0_bracketAt_0 3 rfl rfl)
theorem dX0_bracketAt_4 : decode cX0_bracketAt 4 = .ok (.invokevirtual 50, 3) := dk_182 0 50 (dk_at dksX0_bracketAt_0 4 rfl rfl)
theorem dX0_bracketAt_7 : decode cX0_bracketAt 7 = .ok (.i2l, 1) := dk_133 (dk_at dksX0_bracketAt_0 7 rfl rfl)
theorem dX0_bracketAt_8 : decode cX0_bracketAt 8 = .ok (.lastore, 1) := dk_80 (dk_at dksX0_bracketAt_0 8 rfl rfl)
theorem dX0_bracketAt_9 : decode cX0_bracketAt 9 = .ok (.goto 6, 3) := dk_167 0 6 (dk_at dksX0_bracketAt_0 9 rfl rfl)
theorem dX0_bracketAt_12 : decode cX0_bracketAt 12 = .ok (.astore_n 3, 1) := dk_78 (dk_at dksX0_bracketAt_0 12 rfl rfl)
theorem dX0_bracketAt_13 : decode cX0_bracketAt 13 = .ok (.iconst 1, 1) := dk_4 (dk_at dksX0_bracketAt_0 13 rfl rfl)
theorem dX0_bracketAt_14 : decode cX0_bracketAt 14 = .ok (.ireturn, 1) := dk_172 (dk_at dksX0_bracketAt_0 14 rfl rfl)
theorem dX0_bracketAt_15 : decode cX0_bracketAt 15 = .ok (.iconst 0, 1) := dk_3 (dk_at dksX0_bracketAt_0 15 rfl rfl)
theorem dX0_bracketAt_16 : decode cX0_bracketAt 16 = .ok (.ireturn, 1) := dk_172 (dk_at dksX0_bracketAt_0 16 rfl rfl)
abbrev cX0_citizenOf : ByteArray := method_14_code
def yX0_citizenOf : MethodName := ⟨RX0, "citizenOf", "(LCoinTaxes;II[J)I"⟩
def dkwX0_citizenOf_0 : List UInt8 := [45, 3, 42, 27, 28, 182, 0, 53, 133, 80, 167, 0, 11, 58, 4, 4, 172, 58, 4, 5, 172, 3, 172]
abbrev dktX0_citizenOf_0 : List UInt8 := dkwX0_citizenOf_0 ++ []
theorem dksX0_citizenOf_0 : cX0_citizenOf.data.toList.drop 0 = dktX0_citizenOf_0 := by decide +kernel
theorem dX0_citizenOf_0 : decode cX0_citizenOf 0 = .ok (.aload_n 3, 1) := dk_45 (dk_at dksX0_citizenOf_0 0 rfl rfl)
theorem dX0_citizenOf_1 : decode cX0_citizenOf 1 = .ok (.iconst 0, 1) := dk_3 (dk_at dksX0_citizenOf_0 1 rfl rfl)
theorem dX0_citizenOf_2 : decode cX0_citizenOf 2 = .ok (.aload_n 0, 1) := dk_42 (dk_at dksX0_citizenOf_0 2 rfl rfl)
theorem dX0_citizenOf_3 : decode cX0_citizenOf 3 = .ok (.iload_n 1, 1) := dk_27 (dk_at dksX0_citizenOf_0 3 rfl rfl)
theorem dX0_citizenOf_4 : decode cX0_citizenOf 4 = .ok (.iload_n 2, 1) := dk_28 (dk_at dksX0_citizenOf_0 4 rfl rfl)
theorem dX0_citizenOf_5 : decode cX0_citizenOf 5 = .ok (.invokevirtual 53, 3) := dk_182 0 53 (dk_at dksX0_citizenOf_0 5 rfl rfl)
theorem dX0_citizenOf_8 : decode cX0_citizenOf 8 = .ok (.i2l, 1) := dk_133 (dk_at dksX0_citizenOf_0 8 rfl rfl)
theorem dX0_citizenOf_9 : decode cX0_citizenOf 9 = .ok (.lastore, 1) := dk_80 (dk_at dksX0_citizenOf_0 9 rfl rfl)
theorem dX0_citizenOf_10 : decode cX0_citizenOf 10 = .ok (.goto 11, 3) := dk_167 0 11 (dk_at dksX0_citizenOf_0 10 rfl rfl)
theorem dX0_citizenOf_13 : decode cX0_citizenOf 13 = .ok (.astore 4, 2) := dk_58 4 (dk_at dksX0_citizenOf_0 13 rfl rfl)
theorem dX0_citizenOf_15 : decode cX0_citizenOf 15 = .ok (.iconst 1, 1) := dk_4 (dk_at dksX0_citizenOf_0 15 rfl rfl)
theorem dX0_citizenOf_16 : decode cX0_citizenOf 16 = .ok (.ireturn, 1) := dk_172 (dk_at dksX0_citizenOf_0 16 rfl rfl)
theorem dX0_citizenOf_17 : decode cX0_citizenOf 17 = .ok (.astore 4, 2) := dk_58 4 (dk_at dksX0_citizenOf_0 17 rfl rfl)
theorem dX0_citizenOf_19 : decode cX0_citizenOf 19 = .ok (.iconst 2, 1) := dk_5 (dk_at dksX0_citizenOf_0 19 rfl rfl)
theorem dX0_citizenOf_20 : decode cX0_citizenOf 20 = .ok (.ireturn, 1) := dk_172 (dk_at dksX0_citizenOf_0 20 rfl rfl)
theorem dX0_citizenOf_21 : decode cX0_citizenOf 21 = .ok (.iconst 0, 1) := dk_3 (dk_at dksX0_citizenOf_0 21 rfl rfl)
theorem dX0_citizenOf_22 : decode cX0_citizenOf 22 = .ok (.ireturn, 1) := dk_172 (dk_at dksX0_citizenOf_0 22 rfl rfl)
abbrev cX0_claimOf : ByteArray := method_15_code
def yX0_claimOf : MethodName := ⟨RX0, "claimOf", "(LCoinTaxes;IIZ[J)I"⟩
def dkwX0_claimOf_0 : List UInt8 := [25, 4, 3, 42, 27, 28, 29, 182, 0, 56, 133, 80, 167, 0, 7, 58, 5, 4, 172, 3, 172]
abbrev dktX0_claimOf_0 : List UInt8 := dkwX0_claimOf_0 ++ []
theorem dksX0_claimOf_0 : cX0_claimOf.data.toList.drop 0 = dktX0_claimOf_0 := by decide +kernel
theorem dX0_claimOf_0 : decode cX0_claimOf 0 = .ok (.aload 4, 2) := dk_25 4 (dk_at dksX0_claimOf_0 0 rfl rfl)
theorem dX0_claimOf_2 : decode cX0_claimOf 2 = .ok (.iconst 0, 1) := dk_3 (dk_at dksX0_claimOf_0 2 rfl rfl)
theorem dX0_claimOf_3 : decode cX0_claimOf 3 = .ok (.aload_n 0, 1) := dk_42 (dk_at dksX0_claimOf_0 3 rfl rfl)
theorem dX0_claimOf_4 : decode cX0_claimOf 4 = .ok (.iload_n 1, 1) := dk_27 (dk_at dksX0_claimOf_0 4 rfl rfl)
theorem dX0_claimOf_5 : decode cX0_claimOf 5 = .ok (.iload_n 2, 1) := dk_28 (dk_at dksX0_claimOf_0 5 rfl rfl)
theorem dX0_claimOf_6 : decode cX0_claimOf 6 = .ok (.iload_n 3, 1) := dk_29 (dk_at dksX0_claimOf_0 6 rfl rfl)
theorem dX0_claimOf_7 : decode cX0_claimOf 7 = .ok (.invokevirtual 56, 3) := dk_182 0 56 (dk_at dksX0_claimOf_0 7 rfl rfl)
theorem dX0_claimOf_10 : decode cX0_claimOf 10 = .ok (.i2l, 1) := dk_133 (dk_at dksX0_claimOf_0 10 rfl rfl)
theorem dX0_claimOf_11 : decode cX0_claimOf 11 = .ok (.lastore, 1) := dk_80 (dk_at dksX0_claimOf_0 11 rfl rfl)
theorem dX0_claimOf_12 : decode cX0_claimOf 12 = .ok (.goto 7, 3) := dk_167 0 7 (dk_at dksX0_claimOf_0 12 rfl rfl)
theorem dX0_claimOf_15 : decode cX0_claimOf 15 = .ok (.astore 5, 2) := dk_58 5 (dk_at dksX0_claimOf_0 15 rfl rfl)
theorem dX0_claimOf_17 : decode cX0_claimOf 17 = .ok (.iconst 1, 1) := dk_4 (dk_at dksX0_claimOf_0 17 rfl rfl)
theorem dX0_claimOf_18 : decode cX0_claimOf 18 = .ok (.ireturn, 1) := dk_172 (dk_at dksX0_claimOf_0 18 rfl rfl)
theorem dX0_claimOf_19 : decode cX0_claimOf 19 = .ok (.iconst 0, 1) := dk_3 (dk_at dksX0_claimOf_0 19 rfl rfl)
theorem dX0_claimOf_20 : decode cX0_claimOf 20 = .ok (.ireturn, 1) := dk_172 (dk_at dksX0_claimOf_0 20 rfl rfl)
abbrev cX0_carriedOf : ByteArray := method_16_code
def yX0_carriedOf : MethodName := ⟨RX0, "carriedOf", "(LCoinTaxes;III[J)I"⟩
def dkwX0_carriedOf_1 : List UInt8 := [58, 5, 6, 172, 3, 172]
abbrev dktX0_carriedOf_1 : List UInt8 := dkwX0_carriedOf_1 ++ []
def dkwX0_carriedOf_0 : List UInt8 := [25, 4, 3, 42, 27, 28, 29, 182, 0, 60, 133, 80, 167, 0, 15, 58, 5, 4, 172, 58, 5, 5, 172]
abbrev dktX0_carriedOf_0 : List UInt8 := dkwX0_carriedOf_0 ++ dktX0_carriedOf_1
theorem dksX0_carriedOf_0 : cX0_carriedOf.data.toList.drop 0 = dktX0_carriedOf_0 := by decide +kernel
theorem dksX0_carriedOf_1 : cX0_carriedOf.data.toList.drop 23 = dktX0_carriedOf_1 := dk_seg dksX0_carriedOf_0 23 rfl rfl
theorem dX0_carriedOf_0 : decode cX0_carriedOf 0 = .ok (.aload 4, 2) := dk_25 4 (dk_at dksX0_carriedOf_0 0 rfl rfl)
theorem dX0_carriedOf_2 : decode cX0_carriedOf 2 = .ok (.iconst 0, 1) := dk_3 (dk_at dksX0_carriedOf_0 2 rfl rfl)
theorem dX0_carriedOf_3 : decode cX0_carriedOf 3 = .ok (.aload_n 0, 1) := dk_42 (dk_at dksX0_carriedOf_0 3 rfl rfl)
theorem dX0_carriedOf_4 : decode cX0_carriedOf 4 = .ok (.iload_n 1, 1) := dk_27 (dk_at dksX0_carriedOf_0 4 rfl rfl)
theorem dX0_carriedOf_5 : decode cX0_carriedOf 5 = .ok (.iload_n 2, 1) := dk_28 (dk_at dksX0_carriedOf_0 5 rfl rfl)
theorem dX0_carriedOf_6 : decode cX0_carriedOf 6 = .ok (.iload_n 3, 1) := dk_29 (dk_at dksX0_carriedOf_0 6 rfl rfl)
theorem dX0_carriedOf_7 : decode cX0_carriedOf 7 = .ok (.invokevirtual 60, 3) := dk_182 0 60 (dk_at dksX0_carriedOf_0 7 rfl rfl)
theorem dX0_carriedOf_10 : decode cX0_carriedOf 10 = .ok (.i2l, 1) := dk_133 (dk_at dksX0_carriedOf_0 10 rfl rfl)
theorem dX0_carriedOf_11 : decode cX0_carriedOf 11 = .ok (.lastore, 1) := dk_80 (dk_at dksX0_carriedOf_0 11 rfl rfl)
theorem dX0_carriedOf_12 : decode cX0_carriedOf 12 = .ok (.goto 15, 3) := dk_167 0 15 (dk_at dksX0_carriedOf_0 12 rfl rfl)
theorem dX0_carriedOf_15 : decode cX0_carriedOf 15 = .ok (.astore 5, 2) := dk_58 5 (dk_at dksX0_carriedOf_0 15 rfl rfl)
theorem dX0_carriedOf_17 : decode cX0_carriedOf 17 = .ok (.iconst 1, 1) := dk_4 (dk_at dksX0_carriedOf_0 17 rfl rfl)
theorem dX0_carriedOf_18 : decode cX0_carriedOf 18 = .ok (.ireturn, 1) := dk_172 (dk_at dksX0_carriedOf_0 18 rfl rfl)
theorem dX0_carriedOf_19 : decode cX0_carriedOf 19 = .ok (.astore 5, 2) := dk_58 5 (dk_at dksX0_carriedOf_0 19 rfl rfl)
theorem dX0_carriedOf_21 : decode cX0_carriedOf 21 = .ok (.iconst 2, 1) := dk_5 (dk_at dksX0_carriedOf_0 21 rfl rfl)
theorem dX0_carriedOf_22 : decode cX0_carriedOf 22 = .ok (.ireturn, 1) := dk_172 (dk_at dksX0_carriedOf_0 22 rfl rfl)
theorem dX0_carriedOf_23 : decode cX0_carriedOf 23 = .ok (.astore 5, 2) := dk_58 5 (dk_at dksX0_carriedOf_1 0 rfl rfl)
theorem dX0_carriedOf_25 : decode cX0_carriedOf 25 = .ok (.iconst 3, 1) := dk_6 (dk_at dksX0_carriedOf_1 2 rfl rfl)
theorem dX0_carriedOf_26 : decode cX0_carriedOf 26 = .ok (.ireturn, 1) := dk_172 (dk_at dksX0_carriedOf_1 3 rfl rfl)
theorem dX0_carriedOf_27 : decode cX0_carriedOf 27 = .ok (.iconst 0, 1) := dk_3 (dk_at dksX0_carriedOf_1 4 rfl rfl)
theorem dX0_carriedOf_28 : decode cX0_carriedOf 28 = .ok (.ireturn, 1) := dk_172 (dk_at dksX0_carriedOf_1 5 rfl rfl)
abbrev cX0_creditFor : ByteArray := method_17_code
def yX0_creditFor : MethodName := ⟨RX0, "creditFor", "(LCoinTaxes;I[J)I"⟩
def dkwX0_creditFor_0 : List UInt8 := [44, 3, 42, 27, 182, 0, 65, 133, 80, 167, 0, 6, 78, 4, 172, 3, 172]
abbrev dktX0_creditFor_0 : List UInt8 := dkwX0_creditFor_0 ++ []
theorem dksX0_creditFor_0 : cX0_creditFor.data.toList.drop 0 = dktX0_creditFor_0 := by decide +kernel
theorem dX0_creditFor_0 : decode cX0_creditFor 0 = .ok (.aload_n 2, 1) := dk_44 (dk_at dksX0_creditFor_0 0 rfl rfl)
theorem dX0_creditFor_1 : decode cX0_creditFor 1 = .ok (.iconst 0, 1) := dk_3 (dk_at dksX0_creditFor_0 1 rfl rfl)
theorem dX0_creditFor_2 : decode cX0_creditFor 2 = .ok (.aload_n 0, 1) := dk_42 (dk_at dksX0_creditFor_0 2 rfl rfl)
theorem dX0_creditFor_3 : decode cX0_creditFor 3 = .ok (.iload_n 1, 1) := dk_27 (dk_at dksX0_creditFor_0 3 rfl rfl)
theorem dX0_creditFor_4 : decode cX0_creditFor 4 = .ok (.invokevirtual 65, 3) := dk_182 0 65 (dk_at dksX0_creditFor_0 4 rfl rfl)
theorem dX0_creditFor_7 : decode cX0_creditFor 7 = .ok (.i2l, 1) := dk_133 (dk_at dksX0_creditFor_0 7 rfl rfl)
theorem dX0_creditFor_8 : decode cX0_creditFor 8 = .ok (.lastore, 1) := dk_80 (dk_at dksX0_creditFor_0 8 rfl rfl)
theorem dX0_creditFor_9 : decode cX0_creditFor 9 = .ok (.goto 6, 3) := dk_167 0 6 (dk_at dksX0_creditFor_0 9 rfl rfl)
theorem dX0_creditFor_12 : decode cX0_creditFor 12 = .ok (.astore_n 3, 1) := dk_78 (dk_at dksX0_creditFor_0 12 rfl rfl)
theorem dX0_creditFor_13 : decode cX0_creditFor 13 = .ok (.iconst 1, 1) := dk_4 (dk_at dksX0_creditFor_0 13 rfl rfl)
theorem dX0_creditFor_14 : decode cX0_creditFor 14 = .ok (.ireturn, 1) := dk_172 (dk_at dksX0_creditFor_0 14 rfl rfl)
theorem dX0_creditFor_15 : decode cX0_creditFor 15 = .ok (.iconst 0, 1) := dk_3 (dk_at dksX0_creditFor_0 15 rfl rfl)
theorem dX0_creditFor_16 : decode cX0_creditFor 16 = .ok (.ireturn, 1) := dk_172 (dk_at dksX0_creditFor_0 16 rfl rfl)
abbrev cX0_taxNow : ByteArray := method_18_code
def yX0_taxNow : MethodName := ⟨RX0, "taxNow", "(LCoinTaxes;I[J)I"⟩
def dkwX0_taxNow_0 : List UInt8 := [44, 3, 42, 27, 182, 0, 68, 133, 80, 167, 0, 6, 78, 4, 172, 3, 172]
abbrev dktX0_taxNow_0 : List UInt8 := dkwX0_taxNow_0 ++ []
theorem dksX0_taxNow_0 : cX0_taxNow.data.toList.drop 0 = dktX0_taxNow_0 := by decide +kernel
theorem dX0_taxNow_0 : decode cX0_taxNow 0 = .ok (.aload_n 2, 1) := dk_44 (dk_at dksX0_taxNow_0 0 rfl rfl)
theorem dX0_taxNow_1 : decode cX0_taxNow 1 = .ok (.iconst 0, 1) := dk_3 (dk_at dksX0_taxNow_0 1 rfl rfl)
theorem dX0_taxNow_2 : decode cX0_taxNow 2 = .ok (.aload_n 0, 1) := dk_42 (dk_at dksX0_taxNow_0 2 rfl rfl)
theorem dX0_taxNow_3 : decode cX0_taxNow 3 = .ok (.iload_n 1, 1) := dk_27 (dk_at dksX0_taxNow_0 3 rfl rfl)
theorem dX0_taxNow_4 : decode cX0_taxNow 4 = .ok (.invokevirtual 68, 3) := dk_182 0 68 (dk_at dksX0_taxNow_0 4 rfl rfl)
theorem dX0_taxNow_7 : decode cX0_taxNow 7 = .ok (.i2l, 1) := dk_133 (dk_at dksX0_taxNow_0 7 rfl rfl)
theorem dX0_taxNow_8 : decode cX0_taxNow 8 = .ok (.lastore, 1) := dk_80 (dk_at dksX0_taxNow_0 8 rfl rfl)
theorem dX0_taxNow_9 : decode cX0_taxNow 9 = .ok (.goto 6, 3) := dk_167 0 6 (dk_at dksX0_taxNow_0 9 rfl rfl)
theorem dX0_taxNow_12 : decode cX0_taxNow 12 = .ok (.astore_n 3, 1) := dk_78 (dk_at dksX0_taxNow_0 12 rfl rfl)
theorem dX0_taxNow_13 : decode cX0_taxNow 13 = .ok (.iconst 1, 1) := dk_4 (dk_at dksX0_taxNow_0 13 rfl rfl)
theorem dX0_taxNow_14 : decode cX0_taxNow 14 = .ok (.ireturn, 1) := dk_172 (dk_at dksX0_taxNow_0 14 rfl rfl)
theorem dX0_taxNow_15 : decode cX0_taxNow 15 = .ok (.iconst 0, 1) := dk_3 (dk_at dksX0_taxNow_0 15 rfl rfl)
theorem dX0_taxNow_16 : decode cX0_taxNow 16 = .ok (.ireturn, 1) := dk_172 (dk_at dksX0_taxNow_0 16 rfl rfl)
abbrev cX0_taxAgain : ByteArray := method_19_code
def yX0_taxAgain : MethodName := ⟨RX0, "taxAgain", "(LCoinTaxes;I[J)I"⟩
def dkwX0_taxAgain_0 : List UInt8 := [44, 3, 42, 27, 182, 0, 71, 133, 80, 167, 0, 6, 78, 4, 172, 3, 172]
abbrev dktX0_taxAgain_0 : List UInt8 := dkwX0_taxAgain_0 ++ []
theorem dksX0_taxAgain_0 : cX0_taxAgain.data.toList.drop 0 = dktX0_taxAgain_0 := by decide +kernel
theorem dX0_taxAgain_0 : decode cX0_taxAgain 0 = .ok (.aload_n 2, 1) := dk_44 (dk_at dksX0_taxAgain_0 0 rfl rfl)
theorem dX0_taxAgain_1 : decode cX0_taxAgain 1 = .ok (.iconst 0, 1) := dk_3 (dk_at dksX0_taxAgain_0 1 rfl rfl)
theorem dX0_taxAgain_2 : decode cX0_taxAgain 2 = .ok (.aload_n 0, 1) := dk_42 (dk_at dksX0_taxAgain_0 2 rfl rfl)
theorem dX0_taxAgain_3 : decode cX0_taxAgain 3 = .ok (.iload_n 1, 1) := dk_27 (dk_at dksX0_taxAgain_0 3 rfl rfl)
theorem dX0_taxAgain_4 : decode cX0_taxAgain 4 = .ok (.invokevirtual 71, 3) := dk_182 0 71 (dk_at dksX0_taxAgain_0 4 rfl rfl)
theorem dX0_taxAgain_7 : decode cX0_taxAgain 7 = .ok (.i2l, 1) := dk_133 (dk_at dksX0_taxAgain_0 7 rfl rfl)
theorem dX0_taxAgain_8 : decode cX0_taxAgain 8 = .ok (.lastore, 1) := dk_80 (dk_at dksX0_taxAgain_0 8 rfl rfl)
theorem dX0_taxAgain_9 : decode cX0_taxAgain 9 = .ok (.goto 6, 3) := dk_167 0 6 (dk_at dksX0_taxAgain_0 9 rfl rfl)
theorem dX0_taxAgain_12 : decode cX0_taxAgain 12 = .ok (.astore_n 3, 1) := dk_78 (dk_at dksX0_taxAgain_0 12 rfl rfl)
theorem dX0_taxAgain_13 : decode cX0_taxAgain 13 = .ok (.iconst 1, 1) := dk_4 (dk_at dksX0_taxAgain_0 13 rfl rfl)
theorem dX0_taxAgain_14 : decode cX0_taxAgain 14 = .ok (.ireturn, 1) := dk_172 (dk_at dksX0_taxAgain_0 14 rfl rfl)
theorem dX0_taxAgain_15 : decode cX0_taxAgain 15 = .ok (.iconst 0, 1) := dk_3 (dk_at dksX0_taxAgain_0 15 rfl rfl)
theorem dX0_taxAgain_16 : decode cX0_taxAgain 16 = .ok (.ireturn, 1) := dk_172 (dk_at dksX0_taxAgain_0 16 rfl rfl)
abbrev cX0_auditCosts : ByteArray := method_20_code
def yX0_auditCosts : MethodName := ⟨RX0, "auditCosts", "(LCoinTaxes;I[J)I"⟩
def dkwX0_auditCosts_0 : List UInt8 := [44, 3, 42, 27, 182, 0, 74, 133, 80, 167, 0, 6, 78, 4, 172, 3, 172]
abbrev dktX0_auditCosts_0 : List UInt8 := dkwX0_auditCosts_0 ++ []
theorem dksX0_auditCosts_0 : cX0_auditCosts.data.toList.drop 0 = dktX0_auditCosts_0 := by decide +kernel
theorem dX0_auditCosts_0 : decode cX0_auditCosts 0 = .ok (.aload_n 2, 1) := dk_44 (dk_at dksX0_auditCosts_0 0 rfl rfl)
theorem dX0_auditCosts_1 : decode cX0_auditCosts 1 = .ok (.iconst 0, 1) := dk_3 (dk_at dksX0_auditCosts_0 1 rfl rfl)
theorem dX0_auditCosts_2 : decode cX0_auditCosts 2 = .ok (.aload_n 0, 1) := dk_42 (dk_at dksX0_auditCosts_0 2 rfl rfl)
theorem dX0_auditCosts_3 : decode cX0_auditCosts 3 = .ok (.iload_n 1, 1) := dk_27 (dk_at dksX0_auditCosts_0 3 rfl rfl)
theorem dX0_auditCosts_4 : decode cX0_auditCosts 4 = .ok (.invokevirtual 74, 3) := dk_182 0 74 (dk_at dksX0_auditCosts_0 4 rfl rfl)
theorem dX0_auditCosts_7 : decode cX0_auditCosts 7 = .ok (.i2l, 1) := dk_133 (dk_at dksX0_auditCosts_0 7 rfl rfl)
theorem dX0_auditCosts_8 : decode cX0_auditCosts 8 = .ok (.lastore, 1) := dk_80 (dk_at dksX0_auditCosts_0 8 rfl rfl)
theorem dX0_auditCosts_9 : decode cX0_auditCosts 9 = .ok (.goto 6, 3) := dk_167 0 6 (dk_at dksX0_auditCosts_0 9 rfl rfl)
theorem dX0_auditCosts_12 : decode cX0_auditCosts 12 = .ok (.astore_n 3, 1) := dk_78 (dk_at dksX0_auditCosts_0 12 rfl rfl)
theorem dX0_auditCosts_13 : decode cX0_auditCosts 13 = .ok (.iconst 1, 1) := dk_4 (dk_at dksX0_auditCosts_0 13 rfl rfl)
theorem dX0_auditCosts_14 : decode cX0_auditCosts 14 = .ok (.ireturn, 1) := dk_172 (dk_at dksX0_auditCosts_0 14 rfl rfl)
theorem dX0_auditCosts_15 : decode cX0_auditCosts 15 = .ok (.iconst 0, 1) := dk_3 (dk_at dksX0_auditCosts_0 15 rfl rfl)
theorem dX0_auditCosts_16 : decode cX0_auditCosts 16 = .ok (.ireturn, 1) := dk_172 (dk_at dksX0_auditCosts_0 16 rfl rfl)
abbrev cX0_left : ByteArray := method_21_code
def yX0_left : MethodName := ⟨RX0, "left", "(LCoinTaxes;II[J)I"⟩
def dkwX0_left_0 : List UInt8 := [45, 3, 42, 27, 28, 182, 0, 77, 133, 80, 167, 0, 11, 58, 4, 4, 172, 58, 4, 5, 172, 3, 172]
abbrev dktX0_left_0 : List UInt8 := dkwX0_left_0 ++ []
theorem dksX0_left_0 : cX0_left.data.toList.drop 0 = dktX0_left_0 := by decide +kernel
theorem dX0_left_0 : decode cX0_left 0 = .ok (.aload_n 3, 1) := dk_45 (dk_at dksX0_left_0 0 rfl rfl)
theorem dX0_left_1 : decode cX0_left 1 = .ok (.iconst 0, 1) := dk_3 (dk_at dksX0_left_0 1 rfl rfl)
theorem dX0_left_2 : decode cX0_left 2 = .ok (.aload_n 0, 1) := dk_42 (dk_at dksX0_left_0 2 rfl rfl)
theorem dX0_left_3 : decode cX0_left 3 = .ok (.iload_n 1, 1) := dk_27 (dk_at dksX0_left_0 3 rfl rfl)
theorem dX0_left_4 : decode cX0_left 4 = .ok (.iload_n 2, 1) := dk_28 (dk_at dksX0_left_0 4 rfl rfl)
theorem dX0_left_5 : decode cX0_left 5 = .ok (.invokevirtual 77, 3) := dk_182 0 77 (dk_at dksX0_left_0 5 rfl rfl)
theorem dX0_left_8 : decode cX0_left 8 = .ok (.i2l, 1) := dk_133 (dk_at dksX0_left_0 8 rfl rfl)
theorem dX0_left_9 : decode cX0_left 9 = .ok (.lastore, 1) := dk_80 (dk_at dksX0_left_0 9 rfl rfl)
theorem dX0_left_10 : decode cX0_left 10 = .ok (.goto 11, 3) := dk_167 0 11 (dk_at dksX0_left_0 10 rfl rfl)
theorem dX0_left_13 : decode cX0_left 13 = .ok (.astore 4, 2) := dk_58 4 (dk_at dksX0_left_0 13 rfl rfl)
theorem dX0_left_15 : decode cX0_left 15 = .ok (.iconst 1, 1) := dk_4 (dk_at dksX0_left_0 15 rfl rfl)
theorem dX0_left_16 : decode cX0_left 16 = .ok (.ireturn, 1) := dk_172 (dk_at dksX0_left_0 16 rfl rfl)
theorem dX0_left_17 : decode cX0_left 17 = .ok (.astore 4, 2) := dk_58 4 (dk_at dksX0_left_0 17 rfl rfl)
theorem dX0_left_19 : decode cX0_left 19 = .ok (.iconst 2, 1) := dk_5 (dk_at dksX0_left_0 19 rfl rfl)
theorem dX0_left_20 : decode cX0_left 20 = .ok (.ireturn, 1) := dk_172 (dk_at dksX0_left_0 20 rfl rfl)
theorem dX0_left_21 : decode cX0_left 21 = .ok (.iconst 0, 1) := dk_3 (dk_at dksX0_left_0 21 rfl rfl)
theorem dX0_left_22 : decode cX0_left 22 = .ok (.ireturn, 1) := dk_172 (dk_at dksX0_left_0 22 rfl rfl)
abbrev cX0_margin : ByteArray := method_22_code
def yX0_margin : MethodName := ⟨RX0, "margin", "(LCoinTaxes;I[J)I"⟩
def dkwX0_margin_0 : List UInt8 := [44, 3, 42, 27, 182, 0, 80, 133, 80, 167, 0, 6, 78, 4, 172, 3, 172]
abbrev dktX0_margin_0 : List UInt8 := dkwX0_margin_0 ++ []
theorem dksX0_margin_0 : cX0_margin.data.toList.drop 0 = dktX0_margin_0 := by decide +kernel
theorem dX0_margin_0 : decode cX0_margin 0 = .ok (.aload_n 2, 1) := dk_44 (dk_at dksX0_margin_0 0 rfl rfl)
theorem dX0_margin_1 : decode cX0_margin 1 = .ok (.iconst 0, 1) := dk_3 (dk_at dksX0_margin_0 1 rfl rfl)
theorem dX0_margin_2 : decode cX0_margin 2 = .ok (.aload_n 0, 1) := dk_42 (dk_at dksX0_margin_0 2 rfl rfl)
theorem dX0_margin_3 : decode cX0_margin 3 = .ok (.iload_n 1, 1) := dk_27 (dk_at dksX0_margin_0 3 rfl rfl)
theorem dX0_margin_4 : decode cX0_margin 4 = .ok (.invokevirtual 80, 3) := dk_182 0 80 (dk_at dksX0_margin_0 4 rfl rfl)
theorem dX0_margin_7 : decode cX0_margin 7 = .ok (.i2l, 1) := dk_133 (dk_at dksX0_margin_0 7 rfl rfl)
theorem dX0_margin_8 : decode cX0_margin 8 = .ok (.lastore, 1) := dk_80 (dk_at dksX0_margin_0 8 rfl rfl)
theorem dX0_margin_9 : decode cX0_margin 9 = .ok (.goto 6, 3) := dk_167 0 6 (dk_at dksX0_margin_0 9 rfl rfl)
theorem dX0_margin_12 : decode cX0_margin 12 = .ok (.astore_n 3, 1) := dk_78 (dk_at dksX0_margin_0 12 rfl rfl)
theorem dX0_margin_13 : decode cX0_margin 13 = .ok (.iconst 1, 1) := dk_4 (dk_at dksX0_margin_0 13 rfl rfl)
theorem dX0_margin_14 : decode cX0_margin 14 = .ok (.ireturn, 1) := dk_172 (dk_at dksX0_margin_0 14 rfl rfl)
theorem dX0_margin_15 : decode cX0_margin 15 = .ok (.iconst 0, 1) := dk_3 (dk_at dksX0_margin_0 15 rfl rfl)
theorem dX0_margin_16 : decode cX0_margin 16 = .ok (.ireturn, 1) := dk_172 (dk_at dksX0_margin_0 16 rfl rfl)
abbrev cX0_isNoLoss : ByteArray := method_23_code
def yX0_isNoLoss : MethodName := ⟨RX0, "isNoLoss", "(LCoinTaxes;I[J)I"⟩
def dkwX0_isNoLoss_0 : List UInt8 := [44, 3, 42, 27, 182, 0, 83, 153, 0, 7, 10, 167, 0, 4, 9, 80, 167, 0, 6, 78, 4, 172, 3, 172]
abbrev dktX0_isNoLoss_0 : List UInt8 := dkwX0_isNoLoss_0 ++ []
theorem dksX0_isNoLoss_0 : cX0_isNoLoss.data.toList.drop 0 = dktX0_isNoLoss_0 := by decide +kernel
theorem dX0_isNoLoss_0 : decode cX0_isNoLoss 0 = .ok (.aload_n 2, 1) := dk_44 (dk_at dksX0_isNoLoss_0 0 rfl rfl)
theorem dX0_isNoLoss_1 : decode cX0_isNoLoss 1 = .ok (.iconst 0, 1) := dk_3 (dk_at dksX0_isNoLoss_0 1 rfl rfl)
theorem dX0_isNoLoss_2 : decode cX0_isNoLoss 2 = .ok (.aload_n 0, 1) := dk_42 (dk_at dksX0_isNoLoss_0 2 rfl rfl)
theorem dX0_isNoLoss_3 : decode cX0_isNoLoss 3 = .ok (.iload_n 1, 1) := dk_27 (dk_at dksX0_isNoLoss_0 3 rfl rfl)
theorem dX0_isNoLoss_4 : decode cX0_isNoLoss 4 = .ok (.invokevirtual 83, 3) := dk_182 0 83 (dk_at dksX0_isNoLoss_0 4 rfl rfl)
theorem dX0_isNoLoss_7 : decode cX0_isNoLoss 7 = .ok (.ifCond .eq 7, 3) := dk_153 0 7 (dk_at dksX0_isNoLoss_0 7 rfl rfl)
theorem dX0_isNoLoss_10 : decode cX0_isNoLoss 10 = .ok (.lconst 1, 1) := dk_10 (dk_at dksX0_isNoLoss_0 10 rfl rfl)
theorem dX0_isNoLoss_11 : decode cX0_isNoLoss 11 = .ok (.goto 4, 3) := dk_167 0 4 (dk_at dksX0_isNoLoss_0 11 rfl rfl)
theorem dX0_isNoLoss_14 : decode cX0_isNoLoss 14 = .ok (.lconst 0, 1) := dk_9 (dk_at dksX0_isNoLoss_0 14 rfl rfl)
theorem dX0_isNoLoss_15 : decode cX0_isNoLoss 15 = .ok (.lastore, 1) := dk_80 (dk_at dksX0_isNoLoss_0 15 rfl rfl)
theorem dX0_isNoLoss_16 : decode cX0_isNoLoss 16 = .ok (.goto 6, 3) := dk_167 0 6 (dk_at dksX0_isNoLoss_0 16 rfl rfl)
theorem dX0_isNoLoss_19 : decode cX0_isNoLoss 19 = .ok (.astore_n 3, 1) := dk_78 (dk_at dksX0_isNoLoss_0 19 rfl rfl)
theorem dX0_isNoLoss_20 : decode cX0_isNoLoss 20 = .ok (.iconst 1, 1) := dk_4 (dk_at dksX0_isNoLoss_0 20 rfl rfl)
theorem dX0_isNoLoss_21 : decode cX0_isNoLoss 21 = .ok (.ireturn, 1) := dk_172 (dk_at dksX0_isNoLoss_0 21 rfl rfl)
theorem dX0_isNoLoss_22 : decode cX0_isNoLoss 22 = .ok (.iconst 0, 1) := dk_3 (dk_at dksX0_isNoLoss_0 22 rfl rfl)
theorem dX0_isNoLoss_23 : decode cX0_isNoLoss 23 = .ok (.ireturn, 1) := dk_172 (dk_at dksX0_isNoLoss_0 23 rfl rfl)
abbrev cX0_auditIn : ByteArray := method_24_code
def yX0_auditIn : MethodName := ⟨RX0, "auditIn", "(LCoinTaxes;I[J)I"⟩
def dkwX0_auditIn_0 : List UInt8 := [44, 3, 42, 27, 182, 0, 87, 133, 80, 167, 0, 9, 78, 4, 172, 78, 5, 172, 3, 172]
abbrev dktX0_auditIn_0 : List UInt8 := dkwX0_auditIn_0 ++ []
theorem dksX0_auditIn_0 : cX0_auditIn.data.toList.drop 0 = dktX0_auditIn_0 := by decide +kernel
theorem dX0_auditIn_0 : decode cX0_auditIn 0 = .ok (.aload_n 2, 1) := dk_44 (dk_at dksX0_auditIn_0 0 rfl rfl)
theorem dX0_auditIn_1 : decode cX0_auditIn 1 = .ok (.iconst 0, 1) := dk_3 (dk_at dksX0_auditIn_0 1 rfl rfl)
theorem dX0_auditIn_2 : decode cX0_auditIn 2 = .ok (.aload_n 0, 1) := dk_42 (dk_at dksX0_auditIn_0 2 rfl rfl)
theorem dX0_auditIn_3 : decode cX0_auditIn 3 = .ok (.iload_n 1, 1) := dk_27 (dk_at dksX0_auditIn_0 3 rfl rfl)
theorem dX0_auditIn_4 : decode cX0_auditIn 4 = .ok (.invokevirtual 87, 3) := dk_182 0 87 (dk_at dksX0_auditIn_0 4 rfl rfl)
theorem dX0_auditIn_7 : decode cX0_auditIn 7 = .ok (.i2l, 1) := dk_133 (dk_at dksX0_auditIn_0 7 rfl rfl)
theorem dX0_auditIn_8 : decode cX0_auditIn 8 = .ok (.lastore, 1) := dk_80 (dk_at dksX0_auditIn_0 8 rfl rfl)
theorem dX0_auditIn_9 : decode cX0_auditIn 9 = .ok (.goto 9, 3) := dk_167 0 9 (dk_at dksX0_auditIn_0 9 rfl rfl)
theorem dX0_auditIn_12 : decode cX0_auditIn 12 = .ok (.astore_n 3, 1) := dk_78 (dk_at dksX0_auditIn_0 12 rfl rfl)
theorem dX0_auditIn_13 : decode cX0_auditIn 13 = .ok (.iconst 1, 1) := dk_4 (dk_at dksX0_auditIn_0 13 rfl rfl)
theorem dX0_auditIn_14 : decode cX0_auditIn 14 = .ok (.ireturn, 1) := dk_172 (dk_at dksX0_auditIn_0 14 rfl rfl)
theorem dX0_auditIn_15 : decode cX0_auditIn 15 = .ok (.astore_n 3, 1) := dk_78 (dk_at dksX0_auditIn_0 15 rfl rfl)
theorem dX0_auditIn_16 : decode cX0_auditIn 16 = .ok (.iconst 2, 1) := dk_5 (dk_at dksX0_auditIn_0 16 rfl rfl)
theorem dX0_auditIn_17 : decode cX0_auditIn 17 = .ok (.ireturn, 1) := dk_172 (dk_at dksX0_auditIn_0 17 rfl rfl)
theorem dX0_auditIn_18 : decode cX0_auditIn 18 = .ok (.iconst 0, 1) := dk_3 (dk_at dksX0_auditIn_0 18 rfl rfl)
theorem dX0_auditIn_19 : decode cX0_auditIn 19 = .ok (.ireturn, 1) := dk_172 (dk_at dksX0_auditIn_0 19 rfl rfl)
abbrev cX0_ranked : ByteArray := method_25_code
def yX0_ranked : MethodName := ⟨RX0, "ranked", "(LCoinTaxes;I[J)I"⟩
def dkwX0_ranked_0 : List UInt8 := [44, 3, 42, 27, 182, 0, 90, 133, 80, 167, 0, 6, 78, 4, 172, 3, 172]
abbrev dktX0_ranked_0 : List UInt8 := dkwX0_ranked_0 ++ []
theorem dksX0_ranked_0 : cX0_ranked.data.toList.drop 0 = dktX0_ranked_0 := by decide +kernel
theorem dX0_ranked_0 : decode cX0_ranked 0 = .ok (.aload_n 2, 1) := dk_44 (dk_at dksX0_ranked_0 0 rfl rfl)
theorem dX0_ranked_1 : decode cX0_ranked 1 = .ok (.iconst 0, 1) := dk_3 (dk_at dksX0_ranked_0 1 rfl rfl)
theorem dX0_ranked_2 : decode cX0_ranked 2 = .ok (.aload_n 0, 1) := dk_42 (dk_at dksX0_ranked_0 2 rfl rfl)
theorem dX0_ranked_3 : decode cX0_ranked 3 = .ok (.iload_n 1, 1) := dk_27 (dk_at dksX0_ranked_0 3 rfl rfl)
theorem dX0_ranked_4 : decode cX0_ranked 4 = .ok (.invokevirtual 90, 3) := dk_182 0 90 (dk_at dksX0_ranked_0 4 rfl rfl)
theorem dX0_ranked_7 : decode cX0_ranked 7 = .ok (.i2l, 1) := dk_133 (dk_at dksX0_ranked_0 7 rfl rfl)
theorem dX0_ranked_8 : decode cX0_ranked 8 = .ok (.lastore, 1) := dk_80 (dk_at dksX0_ranked_0 8 rfl rfl)
theorem dX0_ranked_9 : decode cX0_ranked 9 = .ok (.goto 6, 3) := dk_167 0 6 (dk_at dksX0_ranked_0 9 rfl rfl)
theorem dX0_ranked_12 : decode cX0_ranked 12 = .ok (.astore_n 3, 1) := dk_78 (dk_at dksX0_ranked_0 12 rfl rfl)
theorem dX0_ranked_13 : decode cX0_ranked 13 = .ok (.iconst 1, 1) := dk_4 (dk_at dksX0_ranked_0 13 rfl rfl)
theorem dX0_ranked_14 : decode cX0_ranked 14 = .ok (.ireturn, 1) := dk_172 (dk_at dksX0_ranked_0 14 rfl rfl)
theorem dX0_ranked_15 : decode cX0_ranked 15 = .ok (.iconst 0, 1) := dk_3 (dk_at dksX0_ranked_0 15 rfl rfl)
theorem dX0_ranked_16 : decode cX0_ranked 16 = .ok (.ireturn, 1) := dk_172 (dk_at dksX0_ranked_0 16 rfl rfl)
abbrev cX0_feed : ByteArray := method_26_code
def yX0_feed : MethodName := ⟨RX0, "feed", "(LCoinTaxes;C[J)I"⟩
def dkwX0_feed_0 : List UInt8 := [44, 3, 42, 27, 182, 0, 93, 133, 80, 167, 0, 6, 78, 4, 172, 3, 172]
abbrev dktX0_feed_0 : List UInt8 := dkwX0_feed_0 ++ []
theorem dksX0_feed_0 : cX0_feed.data.toList.drop 0 = dktX0_feed_0 := by decide +kernel
theorem dX0_feed_0 : decode cX0_feed 0 = .ok (.aload_n 2, 1) := dk_44 (dk_at dksX0_feed_0 0 rfl rfl)
theorem dX0_feed_1 : decode cX0_feed 1 = .ok (.iconst 0, 1) := dk_3 (dk_at dksX0_feed_0 1 rfl rfl)
theorem dX0_feed_2 : decode cX0_feed 2 = .ok (.aload_n 0, 1) := dk_42 (dk_at dksX0_feed_0 2 rfl rfl)
theorem dX0_feed_3 : decode cX0_feed 3 = .ok (.iload_n 1, 1) := dk_27 (dk_at dksX0_feed_0 3 rfl rfl)
theorem dX0_feed_4 : decode cX0_feed 4 = .ok (.invokevirtual 93, 3) := dk_182 0 93 (dk_at dksX0_feed_0 4 rfl rfl)
theorem dX0_feed_7 : decode cX0_feed 7 = .ok (.i2l, 1) := dk_133 (dk_at dksX0_feed_0 7 rfl rfl)
theorem dX0_feed_8 : decode cX0_feed 8 = .ok (.lastore, 1) := dk_80 (dk_at dksX0_feed_0 8 rfl rfl)
theorem dX0_feed_9 : decode cX0_feed 9 = .ok (.goto 6, 3) := dk_167 0 6 (dk_at dksX0_feed_0 9 rfl rfl)
theorem dX0_feed_12 : decode cX0_feed 12 = .ok (.astore_n 3, 1) := dk_78 (dk_at dksX0_feed_0 12 rfl rfl)
theorem dX0_feed_13 : decode cX0_feed 13 = .ok (.iconst 1, 1) := dk_4 (dk_at dksX0_feed_0 13 rfl rfl)
theorem dX0_feed_14 : decode cX0_feed 14 = .ok (.ireturn, 1) := dk_172 (dk_at dksX0_feed_0 14 rfl rfl)
theorem dX0_feed_15 : decode cX0_feed 15 = .ok (.iconst 0, 1) := dk_3 (dk_at dksX0_feed_0 15 rfl rfl)
theorem dX0_feed_16 : decode cX0_feed 16 = .ok (.ireturn, 1) := dk_172 (dk_at dksX0_feed_0 16 rfl rfl)
abbrev cX0_run : ByteArray := method_27_code
def yX0_run : MethodName := ⟨RX0, "run", "(LCoinTaxes;[J)I"⟩
def dkwX0_run_0 : List UInt8 := [43, 3, 42, 182, 0, 99, 133, 80, 167, 0, 9, 77, 4, 172, 77, 5, 172, 3, 172]
abbrev dktX0_run_0 : List UInt8 := dkwX0_run_0 ++ []
theorem dksX0_run_0 : cX0_run.data.toList.drop 0 = dktX0_run_0 := by decide +kernel
theorem dX0_run_0 : decode cX0_run 0 = .ok (.aload_n 1, 1) := dk_43 (dk_at dksX0_run_0 0 rfl rfl)
theorem dX0_run_1 : decode cX0_run 1 = .ok (.iconst 0, 1) := dk_3 (dk_at dksX0_run_0 1 rfl rfl)
theorem dX0_run_2 : decode cX0_run 2 = .ok (.aload_n 0, 1) := dk_42 (dk_at dksX0_run_0 2 rfl rfl)
theorem dX0_run_3 : decode cX0_run 3 = .ok (.invokevirtual 99, 3) := dk_182 0 99 (dk_at dksX0_run_0 3 rfl rfl)
theorem dX0_run_6 : decode cX0_run 6 = .ok (.i2l, 1) := dk_133 (dk_at dksX0_run_0 6 rfl rfl)
theorem dX0_run_7 : decode cX0_run 7 = .ok (.lastore, 1) := dk_80 (dk_at dksX0_run_0 7 rfl rfl)
theorem dX0_run_8 : decode cX0_run 8 = .ok (.goto 9, 3) := dk_167 0 9 (dk_at dksX0_run_0 8 rfl rfl)
theorem dX0_run_11 : decode cX0_run 11 = .ok (.astore_n 2, 1) := dk_77 (dk_at dksX0_run_0 11 rfl rfl)
theorem dX0_run_12 : decode cX0_run 12 = .ok (.iconst 1, 1) := dk_4 (dk_at dksX0_run_0 12 rfl rfl)
theorem dX0_run_13 : decode cX0_run 13 = .ok (.ireturn, 1) := dk_172 (dk_at dksX0_run_0 13 rfl rfl)
theorem dX0_run_14 : decode cX0_run 14 = .ok (.astore_n 2, 1) := dk_77 (dk_at dksX0_run_0 14 rfl rfl)
theorem dX0_run_15 : decode cX0_run 15 = .ok (.iconst 2, 1) := dk_5 (dk_at dksX0_run_0 15 rfl rfl)
theorem dX0_run_16 : decode cX0_run 16 = .ok (.ireturn, 1) := dk_172 (dk_at dksX0_run_0 16 rfl rfl)
theorem dX0_run_17 : decode cX0_run 17 = .ok (.iconst 0, 1) := dk_3 (dk_at dksX0_run_0 17 rfl rfl)
theorem dX0_run_18 : decode cX0_run 18 = .ok (.ireturn, 1) := dk_172 (dk_at dksX0_run_0 18 rfl rfl)
abbrev cX0_faultPosition : ByteArray := method_28_code
def yX0_faultPosition : MethodName := ⟨RX0, "faultPosition", "(LCoinTaxes;[J)I"⟩
def dkwX0_faultPosition_0 : List UInt8 := [43, 3, 42, 182, 0, 102, 133, 80, 167, 0, 6, 77, 4, 172, 3, 172]
abbrev dktX0_faultPosition_0 : List UInt8 := dkwX0_faultPosition_0 ++ []
theorem dksX0_faultPosition_0 : cX0_faultPosition.data.toList.drop 0 = dktX0_faultPosition_0 := by decide +kernel
theorem dX0_faultPosition_0 : decode cX0_faultPosition 0 = .ok (.aload_n 1, 1) := dk_43 (dk_at dksX0_faultPosition_0 0 rfl rfl)
theorem dX0_faultPosition_1 : decode cX0_faultPosition 1 = .ok (.iconst 0, 1) := dk_3 (dk_at dksX0_faultPosition_0 1 rfl rfl)
theorem dX0_faultPosition_2 : decode cX0_faultPosition 2 = .ok (.aload_n 0, 1) := dk_42 (dk_at dksX0_faultPosition_0 2 rfl rfl)
theorem dX0_faultPosition_3 : decode cX0_faultPosition 3 = .ok (.invokevirtual 102, 3) := dk_182 0 102 (dk_at dksX0_faultPosition_0 3 rfl rfl)
theorem dX0_faultPosition_6 : decode cX0_faultPosition 6 = .ok (.i2l, 1) := dk_133 (dk_at dksX0_faultPosition_0 6 rfl rfl)
theorem dX0_faultPosition_7 : decode cX0_faultPosition 7 = .ok (.lastore, 1) := dk_80 (dk_at dksX0_faultPosition_0 7 rfl rfl)
theorem dX0_faultPosition_8 : decode cX0_faultPosition 8 = .ok (.goto 6, 3) := dk_167 0 6 (dk_at dksX0_faultPosition_0 8 rfl rfl)
theorem dX0_faultPosition_11 : decode cX0_faultPosition 11 = .ok (.astore_n 2, 1) := dk_77 (dk_at dksX0_faultPosition_0 11 rfl rfl)
theorem dX0_faultPosition_12 : decode cX0_faultPosition 12 = .ok (.iconst 1, 1) := dk_4 (dk_at dksX0_faultPosition_0 12 rfl rfl)
theorem dX0_faultPosition_13 : decode cX0_faultPosition 13 = .ok (.ireturn, 1) := dk_172 (dk_at dksX0_faultPosition_0 13 rfl rfl)
theorem dX0_faultPosition_14 : decode cX0_faultPosition 14 = .ok (.iconst 0, 1) := dk_3 (dk_at dksX0_faultPosition_0 14 rfl rfl)
theorem dX0_faultPosition_15 : decode cX0_faultPosition 15 = .ok (.ireturn, 1) := dk_172 (dk_at dksX0_faultPosition_0 15 rfl rfl)
abbrev cX0_reason : ByteArray := method_29_code
def yX0_reason : MethodName := ⟨RX0, "reason", "(LCoinTaxes;ZZ[J)I"⟩
def dkwX0_reason_0 : List UInt8 := [45, 3, 42, 27, 28, 182, 0, 105, 133, 80, 167, 0, 7, 58, 4, 4, 172, 3, 172]
abbrev dktX0_reason_0 : List UInt8 := dkwX0_reason_0 ++ []
theorem dksX0_reason_0 : cX0_reason.data.toList.drop 0 = dktX0_reason_0 := by decide +kernel
theorem dX0_reason_0 : decode cX0_reason 0 = .ok (.aload_n 3, 1) := dk_45 (dk_at dksX0_reason_0 0 rfl rfl)
theorem dX0_reason_1 : decode cX0_reason 1 = .ok (.iconst 0, 1) := dk_3 (dk_at dksX0_reason_0 1 rfl rfl)
theorem dX0_reason_2 : decode cX0_reason 2 = .ok (.aload_n 0, 1) := dk_42 (dk_at dksX0_reason_0 2 rfl rfl)
theorem dX0_reason_3 : decode cX0_reason 3 = .ok (.iload_n 1, 1) := dk_27 (dk_at dksX0_reason_0 3 rfl rfl)
theorem dX0_reason_4 : decode cX0_reason 4 = .ok (.iload_n 2, 1) := dk_28 (dk_at dksX0_reason_0 4 rfl rfl)
theorem dX0_reason_5 : decode cX0_reason 5 = .ok (.invokevirtual 105, 3) := dk_182 0 105 (dk_at dksX0_reason_0 5 rfl rfl)
theorem dX0_reason_8 : decode cX0_reason 8 = .ok (.i2l, 1) := dk_133 (dk_at dksX0_reason_0 8 rfl rfl)
theorem dX0_reason_9 : decode cX0_reason 9 = .ok (.lastore, 1) := dk_80 (dk_at dksX0_reason_0 9 rfl rfl)
theorem dX0_reason_10 : decode cX0_reason 10 = .ok (.goto 7, 3) := dk_167 0 7 (dk_at dksX0_reason_0 10 rfl rfl)
theorem dX0_reason_13 : decode cX0_reason 13 = .ok (.astore 4, 2) := dk_58 4 (dk_at dksX0_reason_0 13 rfl rfl)
theorem dX0_reason_15 : decode cX0_reason 15 = .ok (.iconst 1, 1) := dk_4 (dk_at dksX0_reason_0 15 rfl rfl)
theorem dX0_reason_16 : decode cX0_reason 16 = .ok (.ireturn, 1) := dk_172 (dk_at dksX0_reason_0 16 rfl rfl)
theorem dX0_reason_17 : decode cX0_reason 17 = .ok (.iconst 0, 1) := dk_3 (dk_at dksX0_reason_0 17 rfl rfl)
theorem dX0_reason_18 : decode cX0_reason 18 = .ok (.ireturn, 1) := dk_172 (dk_at dksX0_reason_0 18 rfl rfl)
abbrev cX0_line : ByteArray := method_30_code
def yX0_line : MethodName := ⟨RX0, "line", "(LCoinTaxes;I[J)I"⟩
def dkwX0_line_0 : List UInt8 := [44, 3, 42, 27, 182, 0, 109, 133, 80, 167, 0, 6, 78, 4, 172, 3, 172]
abbrev dktX0_line_0 : List UInt8 := dkwX0_line_0 ++ []
theorem dksX0_line_0 : cX0_line.data.toList.drop 0 = dktX0_line_0 := by decide +kernel
theorem dX0_line_0 : decode cX0_line 0 = .ok (.aload_n 2, 1) := dk_44 (dk_at dksX0_line_0 0 rfl rfl)
theorem dX0_line_1 : decode cX0_line 1 = .ok (.iconst 0, 1) := dk_3 (dk_at dksX0_line_0 1 rfl rfl)
theorem dX0_line_2 : decode cX0_line 2 = .ok (.aload_n 0, 1) := dk_42 (dk_at dksX0_line_0 2 rfl rfl)
theorem dX0_line_3 : decode cX0_line 3 = .ok (.iload_n 1, 1) := dk_27 (dk_at dksX0_line_0 3 rfl rfl)
theorem dX0_line_4 : decode cX0_line 4 = .ok (.invokevirtual 109, 3) := dk_182 0 109 (dk_at dksX0_line_0 4 rfl rfl)
theorem dX0_line_7 : decode cX0_line 7 = .ok (.i2l, 1) := dk_133 (dk_at dksX0_line_0 7 rfl rfl)
theorem dX0_line_8 : decode cX0_line 8 = .ok (.lastore, 1) := dk_80 (dk_at dksX0_line_0 8 rfl rfl)
theorem dX0_line_9 : decode cX0_line 9 = .ok (.goto 6, 3) := dk_167 0 6 (dk_at dksX0_line_0 9 rfl rfl)
theorem dX0_line_12 : decode cX0_line 12 = .ok (.astore_n 3, 1) := dk_78 (dk_at dksX0_line_0 12 rfl rfl)
theorem dX0_line_13 : decode cX0_line 13 = .ok (.iconst 1, 1) := dk_4 (dk_at dksX0_line_0 13 rfl rfl)
theorem dX0_line_14 : decode cX0_line 14 = .ok (.ireturn, 1) := dk_172 (dk_at dksX0_line_0 14 rfl rfl)
theorem dX0_line_15 : decode cX0_line 15 = .ok (.iconst 0, 1) := dk_3 (dk_at dksX0_line_0 15 rfl rfl)
theorem dX0_line_16 : decode cX0_line 16 = .ok (.ireturn, 1) := dk_172 (dk_at dksX0_line_0 16 rfl rfl)
abbrev cX0_character : ByteArray := method_31_code
def yX0_character : MethodName := ⟨RX0, "character", "(LCoinTaxes;I[J)I"⟩
def dkwX0_character_0 : List UInt8 := [44, 3, 42, 27, 182, 0, 112, 133, 80, 167, 0, 6, 78, 4, 172, 3, 172]
abbrev dktX0_character_0 : List UInt8 := dkwX0_character_0 ++ []
theorem dksX0_character_0 : cX0_character.data.toList.drop 0 = dktX0_character_0 := by decide +kernel
theorem dX0_character_0 : decode cX0_character 0 = .ok (.aload_n 2, 1) := dk_44 (dk_at dksX0_character_0 0 rfl rfl)
theorem dX0_character_1 : decode cX0_character 1 = .ok (.iconst 0, 1) := dk_3 (dk_at dksX0_character_0 1 rfl rfl)
theorem dX0_character_2 : decode cX0_character 2 = .ok (.aload_n 0, 1) := dk_42 (dk_at dksX0_character_0 2 rfl rfl)
theorem dX0_character_3 : decode cX0_character 3 = .ok (.iload_n 1, 1) := dk_27 (dk_at dksX0_character_0 3 rfl rfl)
theorem dX0_character_4 : decode cX0_character 4 = .ok (.invokevirtual 112, 3) := dk_182 0 112 (dk_at dksX0_character_0 4 rfl rfl)
theorem dX0_character_7 : decode cX0_character 7 = .ok (.i2l, 1) := dk_133 (dk_at dksX0_character_0 7 rfl rfl)
theorem dX0_character_8 : decode cX0_character 8 = .ok (.lastore, 1) := dk_80 (dk_at dksX0_character_0 8 rfl rfl)
theorem dX0_character_9 : decode cX0_character 9 = .ok (.goto 6, 3) := dk_167 0 6 (dk_at dksX0_character_0 9 rfl rfl)
theorem dX0_character_12 : decode cX0_character 12 = .ok (.astore_n 3, 1) := dk_78 (dk_at dksX0_character_0 12 rfl rfl)
theorem dX0_character_13 : decode cX0_character 13 = .ok (.iconst 1, 1) := dk_4 (dk_at dksX0_character_0 13 rfl rfl)
theorem dX0_character_14 : decode cX0_character 14 = .ok (.ireturn, 1) := dk_172 (dk_at dksX0_character_0 14 rfl rfl)
theorem dX0_character_15 : decode cX0_character 15 = .ok (.iconst 0, 1) := dk_3 (dk_at dksX0_character_0 15 rfl rfl)
theorem dX0_character_16 : decode cX0_character 16 = .ok (.ireturn, 1) := dk_172 (dk_at dksX0_character_0 16 rfl rfl)
abbrev cX0_share : ByteArray := method_32_code
def yX0_share : MethodName := ⟨RX0, "share", "(LCoinTaxes;I[D)I"⟩
def dkwX0_share_0 : List UInt8 := [44, 3, 42, 27, 182, 0, 116, 141, 82, 167, 0, 9, 78, 4, 172, 78, 5, 172, 3, 172]
abbrev dktX0_share_0 : List UInt8 := dkwX0_share_0 ++ []
theorem dksX0_share_0 : cX0_share.data.toList.drop 0 = dktX0_share_0 := by decide +kernel
theorem dX0_share_0 : decode cX0_share 0 = .ok (.aload_n 2, 1) := dk_44 (dk_at dksX0_share_0 0 rfl rfl)
theorem dX0_share_1 : decode cX0_share 1 = .ok (.iconst 0, 1) := dk_3 (dk_at dksX0_share_0 1 rfl rfl)
theorem dX0_share_2 : decode cX0_share 2 = .ok (.aload_n 0, 1) := dk_42 (dk_at dksX0_share_0 2 rfl rfl)
theorem dX0_share_3 : decode cX0_share 3 = .ok (.iload_n 1, 1) := dk_27 (dk_at dksX0_share_0 3 rfl rfl)
theorem dX0_share_4 : decode cX0_share 4 = .ok (.invokevirtual 116, 3) := dk_182 0 116 (dk_at dksX0_share_0 4 rfl rfl)
theorem dX0_share_7 : decode cX0_share 7 = .ok (.f2d, 1) := dk_141 (dk_at dksX0_share_0 7 rfl rfl)
theorem dX0_share_8 : decode cX0_share 8 = .ok (.dastore, 1) := dk_82 (dk_at dksX0_share_0 8 rfl rfl)
theorem dX0_share_9 : decode cX0_share 9 = .ok (.goto 9, 3) := dk_167 0 9 (dk_at dksX0_share_0 9 rfl rfl)
theorem dX0_share_12 : decode cX0_share 12 = .ok (.astore_n 3, 1) := dk_78 (dk_at dksX0_share_0 12 rfl rfl)
theorem dX0_share_13 : decode cX0_share 13 = .ok (.iconst 1, 1) := dk_4 (dk_at dksX0_share_0 13 rfl rfl)
theorem dX0_share_14 : decode cX0_share 14 = .ok (.ireturn, 1) := dk_172 (dk_at dksX0_share_0 14 rfl rfl)
theorem dX0_share_15 : decode cX0_share 15 = .ok (.astore_n 3, 1) := dk_78 (dk_at dksX0_share_0 15 rfl rfl)
theorem dX0_share_16 : decode cX0_share 16 = .ok (.iconst 2, 1) := dk_5 (dk_at dksX0_share_0 16 rfl rfl)
theorem dX0_share_17 : decode cX0_share 17 = .ok (.ireturn, 1) := dk_172 (dk_at dksX0_share_0 17 rfl rfl)
theorem dX0_share_18 : decode cX0_share 18 = .ok (.iconst 0, 1) := dk_3 (dk_at dksX0_share_0 18 rfl rfl)
theorem dX0_share_19 : decode cX0_share 19 = .ok (.ireturn, 1) := dk_172 (dk_at dksX0_share_0 19 rfl rfl)
abbrev cX0_meanIncome : ByteArray := method_33_code
def yX0_meanIncome : MethodName := ⟨RX0, "meanIncome", "(LCoinTaxes;[D)I"⟩
def dkwX0_meanIncome_0 : List UInt8 := [43, 3, 42, 182, 0, 122, 82, 167, 0, 6, 77, 4, 172, 3, 172]
abbrev dktX0_meanIncome_0 : List UInt8 := dkwX0_meanIncome_0 ++ []
theorem dksX0_meanIncome_0 : cX0_meanIncome.data.toList.drop 0 = dktX0_meanIncome_0 := by decide +kernel
theorem dX0_meanIncome_0 : decode cX0_meanIncome 0 = .ok (.aload_n 1, 1) := dk_43 (dk_at dksX0_meanIncome_0 0 rfl rfl)
theorem dX0_meanIncome_1 : decode cX0_meanIncome 1 = .ok (.iconst 0, 1) := dk_3 (dk_at dksX0_meanIncome_0 1 rfl rfl)
theorem dX0_meanIncome_2 : decode cX0_meanIncome 2 = .ok (.aload_n 0, 1) := dk_42 (dk_at dksX0_meanIncome_0 2 rfl rfl)
theorem dX0_meanIncome_3 : decode cX0_meanIncome 3 = .ok (.invokevirtual 122, 3) := dk_182 0 122 (dk_at dksX0_meanIncome_0 3 rfl rfl)
theorem dX0_meanIncome_6 : decode cX0_meanIncome 6 = .ok (.dastore, 1) := dk_82 (dk_at dksX0_meanIncome_0 6 rfl rfl)
theorem dX0_meanIncome_7 : decode cX0_meanIncome 7 = .ok (.goto 6, 3) := dk_167 0 6 (dk_at dksX0_meanIncome_0 7 rfl rfl)
theorem dX0_meanIncome_10 : decode cX0_meanIncome 10 = .ok (.astore_n 2, 1) := dk_77 (dk_at dksX0_meanIncome_0 10 rfl rfl)
theorem dX0_meanIncome_11 : decode cX0_meanIncome 11 = .ok (.iconst 1, 1) := dk_4 (dk_at dksX0_meanIncome_0 11 rfl rfl)
theorem dX0_meanIncome_12 : decode cX0_meanIncome 12 = .ok (.ireturn, 1) := dk_172 (dk_at dksX0_meanIncome_0 12 rfl rfl)
theorem dX0_meanIncome_13 : decode cX0_meanIncome 13 = .ok (.iconst 0, 1) := dk_3 (dk_at dksX0_meanIncome_0 13 rfl rfl)
theorem dX0_meanIncome_14 : decode cX0_meanIncome 14 = .ok (.ireturn, 1) := dk_172 (dk_at dksX0_meanIncome_0 14 rfl rfl)
abbrev cX0_account : ByteArray := method_34_code
def yX0_account : MethodName := ⟨RX0, "account", "(LCoinTaxes;I[J)I"⟩
def dkwX0_account_0 : List UInt8 := [44, 3, 42, 27, 182, 0, 126, 133, 80, 167, 0, 6, 78, 4, 172, 3, 172]
abbrev dktX0_account_0 : List UInt8 := dkwX0_account_0 ++ []
theorem dksX0_account_0 : cX0_account.data.toList.drop 0 = dktX0_account_0 := by decide +kernel
theorem dX0_account_0 : decode cX0_account 0 = .ok (.aload_n 2, 1) := dk_44 (dk_at dksX0_account_0 0 rfl rfl)
theorem dX0_account_1 : decode cX0_account 1 = .ok (.iconst 0, 1) := dk_3 (dk_at dksX0_account_0 1 rfl rfl)
theorem dX0_account_2 : decode cX0_account 2 = .ok (.aload_n 0, 1) := dk_42 (dk_at dksX0_account_0 2 rfl rfl)
theorem dX0_account_3 : decode cX0_account 3 = .ok (.iload_n 1, 1) := dk_27 (dk_at dksX0_account_0 3 rfl rfl)
theorem dX0_account_4 : decode cX0_account 4 = .ok (.invokevirtual 126, 3) := dk_182 0 126 (dk_at dksX0_account_0 4 rfl rfl)
theorem dX0_account_7 : decode cX0_account 7 = .ok (.i2l, 1) := dk_133 (dk_at dksX0_account_0 7 rfl rfl)
theorem dX0_account_8 : decode cX0_account 8 = .ok (.lastore, 1) := dk_80 (dk_at dksX0_account_0 8 rfl rfl)
theorem dX0_account_9 : decode cX0_account 9 = .ok (.goto 6, 3) := dk_167 0 6 (dk_at dksX0_account_0 9 rfl rfl)
theorem dX0_account_12 : decode cX0_account 12 = .ok (.astore_n 3, 1) := dk_78 (dk_at dksX0_account_0 12 rfl rfl)
theorem dX0_account_13 : decode cX0_account 13 = .ok (.iconst 1, 1) := dk_4 (dk_at dksX0_account_0 13 rfl rfl)
theorem dX0_account_14 : decode cX0_account 14 = .ok (.ireturn, 1) := dk_172 (dk_at dksX0_account_0 14 rfl rfl)
theorem dX0_account_15 : decode cX0_account 15 = .ok (.iconst 0, 1) := dk_3 (dk_at dksX0_account_0 15 rfl rfl)
theorem dX0_account_16 : decode cX0_account 16 = .ok (.ireturn, 1) := dk_172 (dk_at dksX0_account_0 16 rfl rfl)
abbrev cX0_undo : ByteArray := method_35_code
def yX0_undo : MethodName := ⟨RX0, "undo", "(LCoinTaxes;[J)I"⟩
def dkwX0_undo_0 : List UInt8 := [43, 3, 42, 182, 0, 129, 133, 80, 167, 0, 6, 77, 4, 172, 3, 172]
abbrev dktX0_undo_0 : List UInt8 := dkwX0_undo_0 ++ []
theorem dksX0_undo_0 : cX0_undo.data.toList.drop 0 = dktX0_undo_0 := by decide +kernel
theorem dX0_undo_0 : decode cX0_undo 0 = .ok (.aload_n 1, 1) := dk_43 (dk_at dksX0_undo_0 0 rfl rfl)
theorem dX0_undo_1 : decode cX0_undo 1 = .ok (.iconst 0, 1) := dk_3 (dk_at dksX0_undo_0 1 rfl rfl)
theorem dX0_undo_2 : decode cX0_undo 2 = .ok (.aload_n 0, 1) := dk_42 (dk_at dksX0_undo_0 2 rfl rfl)
theorem dX0_undo_3 : decode cX0_undo 3 = .ok (.invokevirtual 129, 3) := dk_182 0 129 (dk_at dksX0_undo_0 3 rfl rfl)
theorem dX0_undo_6 : decode cX0_undo 6 = .ok (.i2l, 1) := dk_133 (dk_at dksX0_undo_0 6 rfl rfl)
theorem dX0_undo_7 : decode cX0_undo 7 = .ok (.lastore, 1) := dk_80 (dk_at dksX0_undo_0 7 rfl rfl)
theorem dX0_undo_8 : decode cX0_undo 8 = .ok (.goto 6, 3) := dk_167 0 6 (dk_at dksX0_undo_0 8 rfl rfl)
theorem dX0_undo_11 : decode cX0_undo 11 = .ok (.astore_n 2, 1) := dk_77 (dk_at dksX0_undo_0 11 rfl rfl)
theorem dX0_undo_12 : decode cX0_undo 12 = .ok (.iconst 1, 1) := dk_4 (dk_at dksX0_undo_0 12 rfl rfl)
theorem dX0_undo_13 : decode cX0_undo 13 = .ok (.ireturn, 1) := dk_172 (dk_at dksX0_undo_0 13 rfl rfl)
theorem dX0_undo_14 : decode cX0_undo 14 = .ok (.iconst 0, 1) := dk_3 (dk_at dksX0_undo_0 14 rfl rfl)
theorem dX0_undo_15 : decode cX0_undo 15 = .ok (.ireturn, 1) := dk_172 (dk_at dksX0_undo_0 15 rfl rfl)
abbrev cX0_restore : ByteArray := method_36_code
def yX0_restore : MethodName := ⟨RX0, "restore", "(LCoinTaxes;[J)I"⟩
def dkwX0_restore_0 : List UInt8 := [43, 3, 42, 182, 0, 132, 133, 80, 167, 0, 6, 77, 4, 172, 3, 172]
abbrev dktX0_restore_0 : List UInt8 := dkwX0_restore_0 ++ []
theorem dksX0_restore_0 : cX0_restore.data.toList.drop 0 = dktX0_restore_0 := by decide +kernel
theorem dX0_restore_0 : decode cX0_restore 0 = .ok (.aload_n 1, 1) := dk_43 (dk_at dksX0_restore_0 0 rfl rfl)
theorem dX0_restore_1 : decode cX0_restore 1 = .ok (.iconst 0, 1) := dk_3 (dk_at dksX0_restore_0 1 rfl rfl)
theorem dX0_restore_2 : decode cX0_restore 2 = .ok (.aload_n 0, 1) := dk_42 (dk_at dksX0_restore_0 2 rfl rfl)
theorem dX0_restore_3 : decode cX0_restore 3 = .ok (.invokevirtual 132, 3) := dk_182 0 132 (dk_at dksX0_restore_0 3 rfl rfl)
theorem dX0_restore_6 : decode cX0_restore 6 = .ok (.i2l, 1) := dk_133 (dk_at dksX0_restore_0 6 rfl rfl)
theorem dX0_restore_7 : decode cX0_restore 7 = .ok (.lastore, 1) := dk_80 (dk_at dksX0_restore_0 7 rfl rfl)
theorem dX0_restore_8 : decode cX0_restore 8 = .ok (.goto 6, 3) := dk_167 0 6 (dk_at dksX0_restore_0 8 rfl rfl)
theorem dX0_restore_11 : decode cX0_restore 11 = .ok (.astore_n 2, 1) := dk_77 (dk_at dksX0_restore_0 11 rfl rfl)
theorem dX0_restore_12 : decode cX0_restore 12 = .ok (.iconst 1, 1) := dk_4 (dk_at dksX0_restore_0 12 rfl rfl)
theorem dX0_restore_13 : decode cX0_restore 13 = .ok (.ireturn, 1) := dk_172 (dk_at dksX0_restore_0 13 rfl rfl)
theorem dX0_restore_14 : decode cX0_restore 14 = .ok (.iconst 0, 1) := dk_3 (dk_at dksX0_restore_0 14 rfl rfl)
theorem dX0_restore_15 : decode cX0_restore 15 = .ok (.ireturn, 1) := dk_172 (dk_at dksX0_restore_0 15 rfl rfl)
theorem q90 : (Jvm.Cond.initialized "CoinTaxesLaw") ∈ lw_all := lw_g (lw_at lw_m1 0 rfl) rfl
theorem q141 : (Jvm.Cond.classLink "CoinTaxesLaw" (8 : Nat) "CoinTaxes") ∈ lw_all := lw_g (lw_at lw_m1 51 rfl) rfl
theorem q143 : (Jvm.Cond.methodLink "CoinTaxesLaw" (135 : Nat) ({ cls := "CoinTaxes", name := "<init>", desc := "()V" } : Jvm.MethodName)) ∈ lw_all := lw_g (lw_at lw_m1 53 rfl) rfl
theorem q395 : (Jvm.Cond.methodLink "CoinTaxesLaw" (176 : Nat) ({ cls := "CoinTaxes", name := "endYear", desc := "()I" } : Jvm.MethodName)) ∈ lw_all := lw_g (lw_at lw_m2 65 rfl) rfl
theorem q1775 : (Jvm.Cond.methodLink "CoinTaxesLaw" (240 : Nat) ({ cls := "CoinTaxes", name := "bracketLine", desc := "()I" } : Jvm.MethodName)) ∈ lw_all := lw_g (lw_at lw_m8 5 rfl) rfl
theorem q1816 : (Jvm.Cond.methodLink "CoinTaxesLaw" (258 : Nat) ({ cls := "CoinTaxes", name := "isBalanced", desc := "()Z" } : Jvm.MethodName)) ∈ lw_all := lw_g (lw_at lw_m8 46 rfl) rfl
theorem q1849 : (Jvm.Cond.methodLink "CoinTaxesLaw" (266 : Nat) ({ cls := "CoinTaxes", name := "save", desc := "()I" } : Jvm.MethodName)) ∈ lw_all := lw_g (lw_at lw_m8 79 rfl) rfl
theorem q1853 : (Jvm.Cond.methodLink "CoinTaxesLaw" (139 : Nat) ({ cls := "CoinTaxesLaw", name := "bracket", desc := "(LCoinTaxes;II[J)I" } : Jvm.MethodName)) ∈ lw_all := lw_g (lw_at lw_m8 83 rfl) rfl
theorem q1854 : (Jvm.Cond.static ({ cls := "CoinTaxesLaw", name := "bracket", desc := "(LCoinTaxes;II[J)I" } : Jvm.MethodName)) ∈ lw_all := lw_g (lw_at lw_m8 84 rfl) rfl
theorem q1855 : (Jvm.Cond.codeWith ({ cls := "CoinTaxesLaw", name := "bracket", desc := "(LCoinTaxes;II[J)I" } : Jvm.MethodName) method_3_code (5 : Nat) (Option.some Jvm.ClassFile.FieldType.int) [((0 : Nat), (10 : Nat), (13 : Nat), (13 : Nat))]) ∈ lw_all := lw_g (lw_at lw_m8 85 rfl) rfl
theorem q1856 : (Jvm.Cond.classLink "CoinTaxesLaw" (13 : Nat) "java/lang/UnsupportedOperationException") ∈ lw_all := lw_g (lw_at lw_m8 86 rfl) rfl
theorem q1857 : (Jvm.Cond.methodLink "CoinTaxesLaw" (7 : Nat) ({ cls := "CoinTaxes", name := "bracket", desc := "(II)I" } : Jvm.MethodName)) ∈ lw_all := lw_g (lw_at lw_m8 87 rfl) rfl
theorem q1862 : (Jvm.Cond.methodLink "CoinTaxesLaw" (148 : Nat) ({ cls := "CoinTaxesLaw", name := "drop", desc := "(LCoinTaxes;I[J)I" } : Jvm.MethodName)) ∈ lw_all := lw_g (lw_at lw_m8 92 rfl) rfl
theorem q1863 : (Jvm.Cond.static ({ cls := "CoinTaxesLaw", name := "drop", desc := "(LCoinTaxes;I[J)I" } : Jvm.MethodName)) ∈ lw_all := lw_g (lw_at lw_m8 93 rfl) rfl
theorem q1864 : (Jvm.Cond.codeWith ({ cls := "CoinTaxesLaw", name := "drop", desc := "(LCoinTaxes;I[J)I" } : Jvm.MethodName) method_4_code (4 : Nat) (Option.some Jvm.ClassFile.FieldType.int) [((0 : Nat), (9 : Nat), (12 : Nat), (13 : Nat))]) ∈ lw_all := lw_g (lw_at lw_m8 94 rfl) rfl
theorem q1865 : (Jvm.Cond.methodLink "CoinTaxesLaw" (15 : Nat) ({ cls := "CoinTaxes", name := "drop", desc := "(I)I" } : Jvm.MethodName)) ∈ lw_all := lw_g (lw_at lw_m8 95 rfl) rfl
theorem q1870 : (Jvm.Cond.methodLink "CoinTaxesLaw" (152 : Nat) ({ cls := "CoinTaxesLaw", name := "rate", desc := "(LCoinTaxes;II[J)I" } : Jvm.MethodName)) ∈ lw_all := lw_g (lw_at lw_m8 100 rfl) rfl
theorem q1871 : (Jvm.Cond.static ({ cls := "CoinTaxesLaw", name := "rate", desc := "(LCoinTaxes;II[J)I" } : Jvm.MethodName)) ∈ lw_all := lw_g (lw_at lw_m8 101 rfl) rfl
theorem q1872 : (Jvm.Cond.codeWith ({ cls := "CoinTaxesLaw", name := "rate", desc := "(LCoinTaxes;II[J)I" } : Jvm.MethodName) method_5_code (5 : Nat) (Option.some Jvm.ClassFile.FieldType.int) [((0 : Nat), (10 : Nat), (13 : Nat), (13 : Nat))]) ∈ lw_all := lw_g (lw_at lw_m8 102 rfl) rfl
theorem q1873 : (Jvm.Cond.methodLink "CoinTaxesLaw" (19 : Nat) ({ cls := "CoinTaxes", name := "rate", desc := "(II)I" } : Jvm.MethodName)) ∈ lw_all := lw_g (lw_at lw_m8 103 rfl) rfl
theorem q1878 : (Jvm.Cond.methodLink "CoinTaxesLaw" (155 : Nat) ({ cls := "CoinTaxesLaw", name := "credit", desc := "(LCoinTaxes;III[J)I" } : Jvm.MethodName)) ∈ lw_all := lw_g (lw_at lw_m8 108 rfl) rfl
theorem q1879 : (Jvm.Cond.static ({ cls := "CoinTaxesLaw", name := "credit", desc := "(LCoinTaxes;III[J)I" } : Jvm.MethodName)) ∈ lw_all := lw_g (lw_at lw_m8 109 rfl) rfl
theorem q1880 : (Jvm.Cond.codeWith ({ cls := "CoinTaxesLaw", name := "credit", desc := "(LCoinTaxes;III[J)I" } : Jvm.MethodName) method_6_code (6 : Nat) (Option.some Jvm.ClassFile.FieldType.int) [((0 : Nat), (12 : Nat), (15 : Nat), (13 : Nat))]) ∈ lw_all := lw_g (lw_at lw_m8 110 rfl) rfl
theorem q1881 : (Jvm.Cond.methodLink "CoinTaxesLaw" (22 : Nat) ({ cls := "CoinTaxes", name := "credit", desc := "(III)I" } : Jvm.MethodName)) ∈ lw_all := lw_g (lw_at lw_m8 111 rfl) rfl
theorem q1886 : (Jvm.Cond.methodLink "CoinTaxesLaw" (159 : Nat) ({ cls := "CoinTaxesLaw", name := "cap", desc := "(LCoinTaxes;II[J)I" } : Jvm.MethodName)) ∈ lw_all := lw_g (lw_at lw_m8 116 rfl) rfl
theorem q1887 : (Jvm.Cond.static ({ cls := "CoinTaxesLaw", name := "cap", desc := "(LCoinTaxes;II[J)I" } : Jvm.MethodName)) ∈ lw_all := lw_g (lw_at lw_m8 117 rfl) rfl
theorem q1888 : (Jvm.Cond.codeWith ({ cls := "CoinTaxesLaw", name := "cap", desc := "(LCoinTaxes;II[J)I" } : Jvm.MethodName) method_7_code (5 : Nat) (Option.some Jvm.ClassFile.FieldType.int) [((0 : Nat), (10 : Nat), (13 : Nat), (13 : Nat))]) ∈ lw_all := lw_g (lw_at lw_m8 118 rfl) rfl
theorem q1889 : (Jvm.Cond.methodLink "CoinTaxesLaw" (26 : Nat) ({ cls := "CoinTaxes", name := "cap", desc := "(II)I" } : Jvm.MethodName)) ∈ lw_all := lw_g (lw_at lw_m8 119 rfl) rfl
theorem q1894 : (Jvm.Cond.methodLink "CoinTaxesLaw" (162 : Nat) ({ cls := "CoinTaxesLaw", name := "citizen", desc := "(LCoinTaxes;[J)I" } : Jvm.MethodName)) ∈ lw_all := lw_g (lw_at lw_m8 124 rfl) rfl
theorem q1895 : (Jvm.Cond.static ({ cls := "CoinTaxesLaw", name := "citizen", desc := "(LCoinTaxes;[J)I" } : Jvm.MethodName)) ∈ lw_all := lw_g (lw_at lw_m8 125 rfl) rfl
theorem q1896 : (Jvm.Cond.codeWith ({ cls := "CoinTaxesLaw", name := "citizen", desc := "(LCoinTaxes;[J)I" } : Jvm.MethodName) method_8_code (3 : Nat) (Option.some Jvm.ClassFile.FieldType.int) [((0 : Nat), (8 : Nat), (11 : Nat), (13 : Nat))]) ∈ lw_all := lw_g (lw_at lw_m8 126 rfl) rfl
theorem q1897 : (Jvm.Cond.methodLink "CoinTaxesLaw" (29 : Nat) ({ cls := "CoinTaxes", name := "citizen", desc := "()I" } : Jvm.MethodName)) ∈ lw_all := lw_g (lw_at lw_m8 127 rfl) rfl
theorem q1902 : (Jvm.Cond.methodLink "CoinTaxesLaw" (166 : Nat) ({ cls := "CoinTaxesLaw", name := "earn", desc := "(LCoinTaxes;II[J)I" } : Jvm.MethodName)) ∈ lw_all := lw_g (lw_at lw_m8 132 rfl) rfl
theorem q1903 : (Jvm.Cond.static ({ cls := "CoinTaxesLaw", name := "earn", desc := "(LCoinTaxes;II[J)I" } : Jvm.MethodName)) ∈ lw_all := lw_g (lw_at lw_m8 133 rfl) rfl
theorem q1904 : (Jvm.Cond.codeWith ({ cls := "CoinTaxesLaw", name := "earn", desc := "(LCoinTaxes;II[J)I" } : Jvm.MethodName) method_9_code (5 : Nat) (Option.some Jvm.ClassFile.FieldType.int) [((0 : Nat), (10 : Nat), (13 : Nat), (13 : Nat))]) ∈ lw_all := lw_g (lw_at lw_m8 134 rfl) rfl
theorem q1905 : (Jvm.Cond.methodLink "CoinTaxesLaw" (33 : Nat) ({ cls := "CoinTaxes", name := "earn", desc := "(II)I" } : Jvm.MethodName)) ∈ lw_all := lw_g (lw_at lw_m8 135 rfl) rfl
theorem q1910 : (Jvm.Cond.methodLink "CoinTaxesLaw" (169 : Nat) ({ cls := "CoinTaxesLaw", name := "claim", desc := "(LCoinTaxes;IIIZ[J)I" } : Jvm.MethodName)) ∈ lw_all := lw_g (lw_at lw_m8 140 rfl) rfl
theorem q1911 : (Jvm.Cond.static ({ cls := "CoinTaxesLaw", name := "claim", desc := "(LCoinTaxes;IIIZ[J)I" } : Jvm.MethodName)) ∈ lw_all := lw_g (lw_at lw_m8 141 rfl) rfl
theorem q1912 : (Jvm.Cond.codeWith ({ cls := "CoinTaxesLaw", name := "claim", desc := "(LCoinTaxes;IIIZ[J)I" } : Jvm.MethodName) method_10_code (7 : Nat) (Option.some Jvm.ClassFile.FieldType.int) [((0 : Nat), (14 : Nat), (17 : Nat), (13 : Nat))]) ∈ lw_all := lw_g (lw_at lw_m8 142 rfl) rfl
theorem q1913 : (Jvm.Cond.methodLink "CoinTaxesLaw" (36 : Nat) ({ cls := "CoinTaxes", name := "claim", desc := "(IIIZ)I" } : Jvm.MethodName)) ∈ lw_all := lw_g (lw_at lw_m8 143 rfl) rfl
theorem q1919 : (Jvm.Cond.methodLink "CoinTaxesLaw" (173 : Nat) ({ cls := "CoinTaxesLaw", name := "prove", desc := "(LCoinTaxes;II[J)I" } : Jvm.MethodName)) ∈ lw_all := lw_g (lw_at lw_m8 149 rfl) rfl
theorem q1920 : (Jvm.Cond.static ({ cls := "CoinTaxesLaw", name := "prove", desc := "(LCoinTaxes;II[J)I" } : Jvm.MethodName)) ∈ lw_all := lw_g (lw_at lw_m8 150 rfl) rfl
theorem q1921 : (Jvm.Cond.codeWith ({ cls := "CoinTaxesLaw", name := "prove", desc := "(LCoinTaxes;II[J)I" } : Jvm.MethodName) method_11_code (5 : Nat) (Option.some Jvm.ClassFile.FieldType.int) [((0 : Nat), (10 : Nat), (13 : Nat), (13 : Nat))]) ∈ lw_all := lw_g (lw_at lw_m8 151 rfl) rfl
theorem q1922 : (Jvm.Cond.methodLink "CoinTaxesLaw" (40 : Nat) ({ cls := "CoinTaxes", name := "prove", desc := "(II)I" } : Jvm.MethodName)) ∈ lw_all := lw_g (lw_at lw_m8 152 rfl) rfl
theorem q1927 : (Jvm.Cond.methodLink "CoinTaxesLaw" (180 : Nat) ({ cls := "CoinTaxesLaw", name := "bracketOf", desc := "(LCoinTaxes;II[J)I" } : Jvm.MethodName)) ∈ lw_all := lw_g (lw_at lw_m8 157 rfl) rfl
theorem q1928 : (Jvm.Cond.static ({ cls := "CoinTaxesLaw", name := "bracketOf", desc := "(LCoinTaxes;II[J)I" } : Jvm.MethodName)) ∈ lw_all := lw_g (lw_at lw_m8 158 rfl) rfl
theorem q1929 : (Jvm.Cond.codeWith ({ cls := "CoinTaxesLaw", name := "bracketOf", desc := "(LCoinTaxes;II[J)I" } : Jvm.MethodName) method_12_code (5 : Nat) (Option.some Jvm.ClassFile.FieldType.int) [((0 : Nat), (10 : Nat), (13 : Nat), (46 : Nat)), ((0 : Nat), (10 : Nat), (17 : Nat), (48 : Nat))]) ∈ lw_all := lw_g (lw_at lw_m8 159 rfl) rfl
theorem q1930 : (Jvm.Cond.classLink "CoinTaxesLaw" (46 : Nat) "java/lang/IndexOutOfBoundsException") ∈ lw_all := lw_g (lw_at lw_m8 160 rfl) rfl
theorem q1946 : (Jvm.Cond.classLink "CoinTaxesLaw" (48 : Nat) "java/lang/IllegalArgumentException") ∈ lw_all := lw_g (lw_at lw_m8 176 rfl) rfl
theorem q1947 : (Jvm.Cond.methodLink "CoinTaxesLaw" (43 : Nat) ({ cls := "CoinTaxes", name := "bracketOf", desc := "(II)I" } : Jvm.MethodName)) ∈ lw_all := lw_g (lw_at lw_m8 177 rfl) rfl
theorem q1970 : (Jvm.Cond.methodLink "CoinTaxesLaw" (183 : Nat) ({ cls := "CoinTaxesLaw", name := "bracketAt", desc := "(LCoinTaxes;I[J)I" } : Jvm.MethodName)) ∈ lw_all := lw_g (lw_at lw_m8 200 rfl) rfl
theorem q1971 : (Jvm.Cond.static ({ cls := "CoinTaxesLaw", name := "bracketAt", desc := "(LCoinTaxes;I[J)I" } : Jvm.MethodName)) ∈ lw_all := lw_g (lw_at lw_m8 201 rfl) rfl
theorem q1972 : (Jvm.Cond.codeWith ({ cls := "CoinTaxesLaw", name := "bracketAt", desc := "(LCoinTaxes;I[J)I" } : Jvm.MethodName) method_13_code (4 : Nat) (Option.some Jvm.ClassFile.FieldType.int) [((0 : Nat), (9 : Nat), (12 : Nat), (48 : Nat))]) ∈ lw_all := lw_g (lw_at lw_m8 202 rfl) rfl
theorem q1973 : (Jvm.Cond.methodLink "CoinTaxesLaw" (50 : Nat) ({ cls := "CoinTaxes", name := "bracketAt", desc := "(I)I" } : Jvm.MethodName)) ∈ lw_all := lw_g (lw_at lw_m8 203 rfl) rfl
theorem q1982 : (Jvm.Cond.methodLink "CoinTaxesLaw" (186 : Nat) ({ cls := "CoinTaxesLaw", name := "citizenOf", desc := "(LCoinTaxes;II[J)I" } : Jvm.MethodName)) ∈ lw_all := lw_g (lw_at lw_m8 212 rfl) rfl
theorem q1983 : (Jvm.Cond.static ({ cls := "CoinTaxesLaw", name := "citizenOf", desc := "(LCoinTaxes;II[J)I" } : Jvm.MethodName)) ∈ lw_all := lw_g (lw_at lw_m8 213 rfl) rfl
theorem q1984 : (Jvm.Cond.codeWith ({ cls := "CoinTaxesLaw", name := "citizenOf", desc := "(LCoinTaxes;II[J)I" } : Jvm.MethodName) method_14_code (5 : Nat) (Option.some Jvm.ClassFile.FieldType.int) [((0 : Nat), (10 : Nat), (13 : Nat), (46 : Nat)), ((0 : Nat), (10 : Nat), (17 : Nat), (48 : Nat))]) ∈ lw_all := lw_g (lw_at lw_m8 214 rfl) rfl
theorem q1985 : (Jvm.Cond.methodLink "CoinTaxesLaw" (53 : Nat) ({ cls := "CoinTaxes", name := "citizenOf", desc := "(II)I" } : Jvm.MethodName)) ∈ lw_all := lw_g (lw_at lw_m8 215 rfl) rfl
theorem q2011 : (Jvm.Cond.methodLink "CoinTaxesLaw" (189 : Nat) ({ cls := "CoinTaxesLaw", name := "claimOf", desc := "(LCoinTaxes;IIZ[J)I" } : Jvm.MethodName)) ∈ lw_all := lw_g (lw_at lw_m9 1 rfl) rfl
theorem q2012 : (Jvm.Cond.static ({ cls := "CoinTaxesLaw", name := "claimOf", desc := "(LCoinTaxes;IIZ[J)I" } : Jvm.MethodName)) ∈ lw_all := lw_g (lw_at lw_m9 2 rfl) rfl
theorem q2013 : (Jvm.Cond.codeWith ({ cls := "CoinTaxesLaw", name := "claimOf", desc := "(LCoinTaxes;IIZ[J)I" } : Jvm.MethodName) method_15_code (6 : Nat) (Option.some Jvm.ClassFile.FieldType.int) [((0 : Nat), (12 : Nat), (15 : Nat), (46 : Nat))]) ∈ lw_all := lw_g (lw_at lw_m9 3 rfl) rfl
theorem q2014 : (Jvm.Cond.methodLink "CoinTaxesLaw" (56 : Nat) ({ cls := "CoinTaxes", name := "claimOf", desc := "(IIZ)I" } : Jvm.MethodName)) ∈ lw_all := lw_g (lw_at lw_m9 4 rfl) rfl
theorem q2018 : (Jvm.Cond.methodLink "CoinTaxesLaw" (193 : Nat) ({ cls := "CoinTaxesLaw", name := "carriedOf", desc := "(LCoinTaxes;III[J)I" } : Jvm.MethodName)) ∈ lw_all := lw_g (lw_at lw_m9 8 rfl) rfl
theorem q2019 : (Jvm.Cond.static ({ cls := "CoinTaxesLaw", name := "carriedOf", desc := "(LCoinTaxes;III[J)I" } : Jvm.MethodName)) ∈ lw_all := lw_g (lw_at lw_m9 9 rfl) rfl
theorem q2020 : (Jvm.Cond.codeWith ({ cls := "CoinTaxesLaw", name := "carriedOf", desc := "(LCoinTaxes;III[J)I" } : Jvm.MethodName) method_16_code (6 : Nat) (Option.some Jvm.ClassFile.FieldType.int) [((0 : Nat), (12 : Nat), (15 : Nat), (46 : Nat)), ((0 : Nat), (12 : Nat), (19 : Nat), (63 : Nat)), ((0 : Nat), (12 : Nat), (23 : Nat), (48 : Nat))]) ∈ lw_all := lw_g (lw_at lw_m9 10 rfl) rfl
theorem q2021 : (Jvm.Cond.classLink "CoinTaxesLaw" (63 : Nat) "java/util/NoSuchElementException") ∈ lw_all := lw_g (lw_at lw_m9 11 rfl) rfl
theorem q2022 : (Jvm.Cond.methodLink "CoinTaxesLaw" (60 : Nat) ({ cls := "CoinTaxes", name := "carriedOf", desc := "(III)I" } : Jvm.MethodName)) ∈ lw_all := lw_g (lw_at lw_m9 12 rfl) rfl
theorem q2080 : (Jvm.Cond.methodLink "CoinTaxesLaw" (196 : Nat) ({ cls := "CoinTaxesLaw", name := "creditFor", desc := "(LCoinTaxes;I[J)I" } : Jvm.MethodName)) ∈ lw_all := lw_g (lw_at lw_m9 70 rfl) rfl
theorem q2081 : (Jvm.Cond.static ({ cls := "CoinTaxesLaw", name := "creditFor", desc := "(LCoinTaxes;I[J)I" } : Jvm.MethodName)) ∈ lw_all := lw_g (lw_at lw_m9 71 rfl) rfl
theorem q2082 : (Jvm.Cond.codeWith ({ cls := "CoinTaxesLaw", name := "creditFor", desc := "(LCoinTaxes;I[J)I" } : Jvm.MethodName) method_17_code (4 : Nat) (Option.some Jvm.ClassFile.FieldType.int) [((0 : Nat), (9 : Nat), (12 : Nat), (48 : Nat))]) ∈ lw_all := lw_g (lw_at lw_m9 72 rfl) rfl
theorem q2083 : (Jvm.Cond.methodLink "CoinTaxesLaw" (65 : Nat) ({ cls := "CoinTaxes", name := "creditFor", desc := "(I)I" } : Jvm.MethodName)) ∈ lw_all := lw_g (lw_at lw_m9 73 rfl) rfl
theorem q2088 : (Jvm.Cond.methodLink "CoinTaxesLaw" (199 : Nat) ({ cls := "CoinTaxesLaw", name := "taxNow", desc := "(LCoinTaxes;I[J)I" } : Jvm.MethodName)) ∈ lw_all := lw_g (lw_at lw_m9 78 rfl) rfl
theorem q2089 : (Jvm.Cond.static ({ cls := "CoinTaxesLaw", name := "taxNow", desc := "(LCoinTaxes;I[J)I" } : Jvm.MethodName)) ∈ lw_all := lw_g (lw_at lw_m9 79 rfl) rfl
theorem q2090 : (Jvm.Cond.codeWith ({ cls := "CoinTaxesLaw", name := "taxNow", desc := "(LCoinTaxes;I[J)I" } : Jvm.MethodName) method_18_code (4 : Nat) (Option.some Jvm.ClassFile.FieldType.int) [((0 : Nat), (9 : Nat), (12 : Nat), (46 : Nat))]) ∈ lw_all := lw_g (lw_at lw_m9 80 rfl) rfl
theorem q2091 : (Jvm.Cond.methodLink "CoinTaxesLaw" (68 : Nat) ({ cls := "CoinTaxes", name := "taxNow", desc := "(I)I" } : Jvm.MethodName)) ∈ lw_all := lw_g (lw_at lw_m9 81 rfl) rfl
theorem q2099 : (Jvm.Cond.methodLink "CoinTaxesLaw" (202 : Nat) ({ cls := "CoinTaxesLaw", name := "taxAgain", desc := "(LCoinTaxes;I[J)I" } : Jvm.MethodName)) ∈ lw_all := lw_g (lw_at lw_m9 89 rfl) rfl
theorem q2100 : (Jvm.Cond.static ({ cls := "CoinTaxesLaw", name := "taxAgain", desc := "(LCoinTaxes;I[J)I" } : Jvm.MethodName)) ∈ lw_all := lw_g (lw_at lw_m9 90 rfl) rfl
theorem q2101 : (Jvm.Cond.codeWith ({ cls := "CoinTaxesLaw", name := "taxAgain", desc := "(LCoinTaxes;I[J)I" } : Jvm.MethodName) method_19_code (4 : Nat) (Option.some Jvm.ClassFile.FieldType.int) [((0 : Nat), (9 : Nat), (12 : Nat), (46 : Nat))]) ∈ lw_all := lw_g (lw_at lw_m9 91 rfl) rfl
theorem q2102 : (Jvm.Cond.methodLink "CoinTaxesLaw" (71 : Nat) ({ cls := "CoinTaxes", name := "taxAgain", desc := "(I)I" } : Jvm.MethodName)) ∈ lw_all := lw_g (lw_at lw_m9 92 rfl) rfl
theorem q2108 : (Jvm.Cond.methodLink "CoinTaxesLaw" (205 : Nat) ({ cls := "CoinTaxesLaw", name := "auditCosts", desc := "(LCoinTaxes;I[J)I" } : Jvm.MethodName)) ∈ lw_all := lw_g (lw_at lw_m9 98 rfl) rfl
theorem q2109 : (Jvm.Cond.static ({ cls := "CoinTaxesLaw", name := "auditCosts", desc := "(LCoinTaxes;I[J)I" } : Jvm.MethodName)) ∈ lw_all := lw_g (lw_at lw_m9 99 rfl) rfl
theorem q2110 : (Jvm.Cond.codeWith ({ cls := "CoinTaxesLaw", name := "auditCosts", desc := "(LCoinTaxes;I[J)I" } : Jvm.MethodName) method_20_code (4 : Nat) (Option.some Jvm.ClassFile.FieldType.int) [((0 : Nat), (9 : Nat), (12 : Nat), (46 : Nat))]) ∈ lw_all := lw_g (lw_at lw_m9 100 rfl) rfl
theorem q2111 : (Jvm.Cond.methodLink "CoinTaxesLaw" (74 : Nat) ({ cls := "CoinTaxes", name := "auditCosts", desc := "(I)I" } : Jvm.MethodName)) ∈ lw_all := lw_g (lw_at lw_m9 101 rfl) rfl
theorem q2121 : (Jvm.Cond.methodLink "CoinTaxesLaw" (208 : Nat) ({ cls := "CoinTaxesLaw", name := "left", desc := "(LCoinTaxes;II[J)I" } : Jvm.MethodName)) ∈ lw_all := lw_g (lw_at lw_m9 111 rfl) rfl
theorem q2122 : (Jvm.Cond.static ({ cls := "CoinTaxesLaw", name := "left", desc := "(LCoinTaxes;II[J)I" } : Jvm.MethodName)) ∈ lw_all := lw_g (lw_at lw_m9 112 rfl) rfl
theorem q2123 : (Jvm.Cond.codeWith ({ cls := "CoinTaxesLaw", name := "left", desc := "(LCoinTaxes;II[J)I" } : Jvm.MethodName) method_21_code (5 : Nat) (Option.some Jvm.ClassFile.FieldType.int) [((0 : Nat), (10 : Nat), (13 : Nat), (46 : Nat)), ((0 : Nat), (10 : Nat), (17 : Nat), (48 : Nat))]) ∈ lw_all := lw_g (lw_at lw_m9 113 rfl) rfl
theorem q2124 : (Jvm.Cond.methodLink "CoinTaxesLaw" (77 : Nat) ({ cls := "CoinTaxes", name := "left", desc := "(II)I" } : Jvm.MethodName)) ∈ lw_all := lw_g (lw_at lw_m9 114 rfl) rfl
theorem q2132 : (Jvm.Cond.methodLink "CoinTaxesLaw" (211 : Nat) ({ cls := "CoinTaxesLaw", name := "margin", desc := "(LCoinTaxes;I[J)I" } : Jvm.MethodName)) ∈ lw_all := lw_g (lw_at lw_m9 122 rfl) rfl
theorem q2133 : (Jvm.Cond.static ({ cls := "CoinTaxesLaw", name := "margin", desc := "(LCoinTaxes;I[J)I" } : Jvm.MethodName)) ∈ lw_all := lw_g (lw_at lw_m9 123 rfl) rfl
theorem q2134 : (Jvm.Cond.codeWith ({ cls := "CoinTaxesLaw", name := "margin", desc := "(LCoinTaxes;I[J)I" } : Jvm.MethodName) method_22_code (4 : Nat) (Option.some Jvm.ClassFile.FieldType.int) [((0 : Nat), (9 : Nat), (12 : Nat), (46 : Nat))]) ∈ lw_all := lw_g (lw_at lw_m9 124 rfl) rfl
theorem q2135 : (Jvm.Cond.methodLink "CoinTaxesLaw" (80 : Nat) ({ cls := "CoinTaxes", name := "margin", desc := "(I)I" } : Jvm.MethodName)) ∈ lw_all := lw_g (lw_at lw_m9 125 rfl) rfl
theorem q2140 : (Jvm.Cond.methodLink "CoinTaxesLaw" (214 : Nat) ({ cls := "CoinTaxesLaw", name := "isNoLoss", desc := "(LCoinTaxes;I[J)I" } : Jvm.MethodName)) ∈ lw_all := lw_g (lw_at lw_m9 130 rfl) rfl
theorem q2141 : (Jvm.Cond.static ({ cls := "CoinTaxesLaw", name := "isNoLoss", desc := "(LCoinTaxes;I[J)I" } : Jvm.MethodName)) ∈ lw_all := lw_g (lw_at lw_m9 131 rfl) rfl
theorem q2142 : (Jvm.Cond.codeWith ({ cls := "CoinTaxesLaw", name := "isNoLoss", desc := "(LCoinTaxes;I[J)I" } : Jvm.MethodName) method_23_code (4 : Nat) (Option.some Jvm.ClassFile.FieldType.int) [((0 : Nat), (16 : Nat), (19 : Nat), (46 : Nat))]) ∈ lw_all := lw_g (lw_at lw_m9 132 rfl) rfl
theorem q2143 : (Jvm.Cond.methodLink "CoinTaxesLaw" (83 : Nat) ({ cls := "CoinTaxes", name := "isNoLoss", desc := "(I)Z" } : Jvm.MethodName)) ∈ lw_all := lw_g (lw_at lw_m9 133 rfl) rfl
theorem q2151 : (Jvm.Cond.methodLink "CoinTaxesLaw" (217 : Nat) ({ cls := "CoinTaxesLaw", name := "auditIn", desc := "(LCoinTaxes;I[J)I" } : Jvm.MethodName)) ∈ lw_all := lw_g (lw_at lw_m9 141 rfl) rfl
theorem q2152 : (Jvm.Cond.static ({ cls := "CoinTaxesLaw", name := "auditIn", desc := "(LCoinTaxes;I[J)I" } : Jvm.MethodName)) ∈ lw_all := lw_g (lw_at lw_m9 142 rfl) rfl
theorem q2153 : (Jvm.Cond.codeWith ({ cls := "CoinTaxesLaw", name := "auditIn", desc := "(LCoinTaxes;I[J)I" } : Jvm.MethodName) method_24_code (4 : Nat) (Option.some Jvm.ClassFile.FieldType.int) [((0 : Nat), (9 : Nat), (12 : Nat), (48 : Nat)), ((0 : Nat), (9 : Nat), (15 : Nat), (63 : Nat))]) ∈ lw_all := lw_g (lw_at lw_m9 143 rfl) rfl
theorem q2154 : (Jvm.Cond.methodLink "CoinTaxesLaw" (87 : Nat) ({ cls := "CoinTaxes", name := "auditIn", desc := "(I)I" } : Jvm.MethodName)) ∈ lw_all := lw_g (lw_at lw_m9 144 rfl) rfl
theorem q2167 : (Jvm.Cond.methodLink "CoinTaxesLaw" (220 : Nat) ({ cls := "CoinTaxesLaw", name := "ranked", desc := "(LCoinTaxes;I[J)I" } : Jvm.MethodName)) ∈ lw_all := lw_g (lw_at lw_m9 157 rfl) rfl
theorem q2168 : (Jvm.Cond.static ({ cls := "CoinTaxesLaw", name := "ranked", desc := "(LCoinTaxes;I[J)I" } : Jvm.MethodName)) ∈ lw_all := lw_g (lw_at lw_m9 158 rfl) rfl
theorem q2169 : (Jvm.Cond.codeWith ({ cls := "CoinTaxesLaw", name := "ranked", desc := "(LCoinTaxes;I[J)I" } : Jvm.MethodName) method_25_code (4 : Nat) (Option.some Jvm.ClassFile.FieldType.int) [((0 : Nat), (9 : Nat), (12 : Nat), (63 : Nat))]) ∈ lw_all := lw_g (lw_at lw_m9 159 rfl) rfl
theorem q2170 : (Jvm.Cond.methodLink "CoinTaxesLaw" (90 : Nat) ({ cls := "CoinTaxes", name := "ranked", desc := "(I)I" } : Jvm.MethodName)) ∈ lw_all := lw_g (lw_at lw_m9 160 rfl) rfl
theorem q2181 : (Jvm.Cond.methodLink "CoinTaxesLaw" (223 : Nat) ({ cls := "CoinTaxesLaw", name := "feed", desc := "(LCoinTaxes;C[J)I" } : Jvm.MethodName)) ∈ lw_all := lw_g (lw_at lw_m9 171 rfl) rfl
theorem q2182 : (Jvm.Cond.static ({ cls := "CoinTaxesLaw", name := "feed", desc := "(LCoinTaxes;C[J)I" } : Jvm.MethodName)) ∈ lw_all := lw_g (lw_at lw_m9 172 rfl) rfl
theorem q2183 : (Jvm.Cond.codeWith ({ cls := "CoinTaxesLaw", name := "feed", desc := "(LCoinTaxes;C[J)I" } : Jvm.MethodName) method_26_code (4 : Nat) (Option.some Jvm.ClassFile.FieldType.int) [((0 : Nat), (9 : Nat), (12 : Nat), (97 : Nat))]) ∈ lw_all := lw_g (lw_at lw_m9 173 rfl) rfl
theorem q2184 : (Jvm.Cond.classLink "CoinTaxesLaw" (97 : Nat) "java/lang/IllegalStateException") ∈ lw_all := lw_g (lw_at lw_m9 174 rfl) rfl
theorem q2185 : (Jvm.Cond.methodLink "CoinTaxesLaw" (93 : Nat) ({ cls := "CoinTaxes", name := "feed", desc := "(C)I" } : Jvm.MethodName)) ∈ lw_all := lw_g (lw_at lw_m9 175 rfl) rfl
theorem q2199 : (Jvm.Cond.methodLink "CoinTaxesLaw" (227 : Nat) ({ cls := "CoinTaxesLaw", name := "run", desc := "(LCoinTaxes;[J)I" } : Jvm.MethodName)) ∈ lw_all := lw_g (lw_at lw_m9 189 rfl) rfl
theorem q2200 : (Jvm.Cond.static ({ cls := "CoinTaxesLaw", name := "run", desc := "(LCoinTaxes;[J)I" } : Jvm.MethodName)) ∈ lw_all := lw_g (lw_at lw_m9 190 rfl) rfl
theorem q2201 : (Jvm.Cond.codeWith ({ cls := "CoinTaxesLaw", name := "run", desc := "(LCoinTaxes;[J)I" } : Jvm.MethodName) method_27_code (3 : Nat) (Option.some Jvm.ClassFile.FieldType.int) [((0 : Nat), (8 : Nat), (11 : Nat), (48 : Nat)), ((0 : Nat), (8 : Nat), (14 : Nat), (13 : Nat))]) ∈ lw_all := lw_g (lw_at lw_m9 191 rfl) rfl
theorem q2202 : (Jvm.Cond.methodLink "CoinTaxesLaw" (99 : Nat) ({ cls := "CoinTaxes", name := "run", desc := "()I" } : Jvm.MethodName)) ∈ lw_all := lw_g (lw_at lw_m9 192 rfl) rfl
theorem q2393 : (Jvm.Cond.methodLink "CoinTaxesLaw" (230 : Nat) ({ cls := "CoinTaxesLaw", name := "faultPosition", desc := "(LCoinTaxes;[J)I" } : Jvm.MethodName)) ∈ lw_all := lw_g (lw_at lw_m10 143 rfl) rfl
theorem q2394 : (Jvm.Cond.static ({ cls := "CoinTaxesLaw", name := "faultPosition", desc := "(LCoinTaxes;[J)I" } : Jvm.MethodName)) ∈ lw_all := lw_g (lw_at lw_m10 144 rfl) rfl
theorem q2395 : (Jvm.Cond.codeWith ({ cls := "CoinTaxesLaw", name := "faultPosition", desc := "(LCoinTaxes;[J)I" } : Jvm.MethodName) method_28_code (3 : Nat) (Option.some Jvm.ClassFile.FieldType.int) [((0 : Nat), (8 : Nat), (11 : Nat), (63 : Nat))]) ∈ lw_all := lw_g (lw_at lw_m10 145 rfl) rfl
theorem q2396 : (Jvm.Cond.methodLink "CoinTaxesLaw" (102 : Nat) ({ cls := "CoinTaxes", name := "faultPosition", desc := "()I" } : Jvm.MethodName)) ∈ lw_all := lw_g (lw_at lw_m10 146 rfl) rfl
theorem q2400 : (Jvm.Cond.methodLink "CoinTaxesLaw" (233 : Nat) ({ cls := "CoinTaxesLaw", name := "reason", desc := "(LCoinTaxes;ZZ[J)I" } : Jvm.MethodName)) ∈ lw_all := lw_g (lw_at lw_m10 150 rfl) rfl
theorem q2401 : (Jvm.Cond.static ({ cls := "CoinTaxesLaw", name := "reason", desc := "(LCoinTaxes;ZZ[J)I" } : Jvm.MethodName)) ∈ lw_all := lw_g (lw_at lw_m10 151 rfl) rfl
theorem q2402 : (Jvm.Cond.codeWith ({ cls := "CoinTaxesLaw", name := "reason", desc := "(LCoinTaxes;ZZ[J)I" } : Jvm.MethodName) method_29_code (5 : Nat) (Option.some Jvm.ClassFile.FieldType.int) [((0 : Nat), (10 : Nat), (13 : Nat), (63 : Nat))]) ∈ lw_all := lw_g (lw_at lw_m10 152 rfl) rfl
theorem q2403 : (Jvm.Cond.methodLink "CoinTaxesLaw" (105 : Nat) ({ cls := "CoinTaxes", name := "reason", desc := "(ZZ)I" } : Jvm.MethodName)) ∈ lw_all := lw_g (lw_at lw_m10 153 rfl) rfl
theorem q2407 : (Jvm.Cond.methodLink "CoinTaxesLaw" (237 : Nat) ({ cls := "CoinTaxesLaw", name := "line", desc := "(LCoinTaxes;I[J)I" } : Jvm.MethodName)) ∈ lw_all := lw_g (lw_at lw_m10 157 rfl) rfl
theorem q2408 : (Jvm.Cond.static ({ cls := "CoinTaxesLaw", name := "line", desc := "(LCoinTaxes;I[J)I" } : Jvm.MethodName)) ∈ lw_all := lw_g (lw_at lw_m10 158 rfl) rfl
theorem q2409 : (Jvm.Cond.codeWith ({ cls := "CoinTaxesLaw", name := "line", desc := "(LCoinTaxes;I[J)I" } : Jvm.MethodName) method_30_code (4 : Nat) (Option.some Jvm.ClassFile.FieldType.int) [((0 : Nat), (9 : Nat), (12 : Nat), (46 : Nat))]) ∈ lw_all := lw_g (lw_at lw_m10 159 rfl) rfl
theorem q2410 : (Jvm.Cond.methodLink "CoinTaxesLaw" (109 : Nat) ({ cls := "CoinTaxes", name := "line", desc := "(I)I" } : Jvm.MethodName)) ∈ lw_all := lw_g (lw_at lw_m10 160 rfl) rfl
theorem q2429 : (Jvm.Cond.methodLink "CoinTaxesLaw" (244 : Nat) ({ cls := "CoinTaxesLaw", name := "character", desc := "(LCoinTaxes;I[J)I" } : Jvm.MethodName)) ∈ lw_all := lw_g (lw_at lw_m10 179 rfl) rfl
theorem q2430 : (Jvm.Cond.static ({ cls := "CoinTaxesLaw", name := "character", desc := "(LCoinTaxes;I[J)I" } : Jvm.MethodName)) ∈ lw_all := lw_g (lw_at lw_m10 180 rfl) rfl
theorem q2431 : (Jvm.Cond.codeWith ({ cls := "CoinTaxesLaw", name := "character", desc := "(LCoinTaxes;I[J)I" } : Jvm.MethodName) method_31_code (4 : Nat) (Option.some Jvm.ClassFile.FieldType.int) [((0 : Nat), (9 : Nat), (12 : Nat), (46 : Nat))]) ∈ lw_all := lw_g (lw_at lw_m10 181 rfl) rfl
theorem q2432 : (Jvm.Cond.methodLink "CoinTaxesLaw" (112 : Nat) ({ cls := "CoinTaxes", name := "character", desc := "(I)C" } : Jvm.MethodName)) ∈ lw_all := lw_g (lw_at lw_m10 182 rfl) rfl
theorem q2437 : (Jvm.Cond.methodLink "CoinTaxesLaw" (247 : Nat) ({ cls := "CoinTaxesLaw", name := "share", desc := "(LCoinTaxes;I[D)I" } : Jvm.MethodName)) ∈ lw_all := lw_g (lw_at lw_m10 187 rfl) rfl
theorem q2438 : (Jvm.Cond.static ({ cls := "CoinTaxesLaw", name := "share", desc := "(LCoinTaxes;I[D)I" } : Jvm.MethodName)) ∈ lw_all := lw_g (lw_at lw_m10 188 rfl) rfl
theorem q2439 : (Jvm.Cond.codeWith ({ cls := "CoinTaxesLaw", name := "share", desc := "(LCoinTaxes;I[D)I" } : Jvm.MethodName) method_32_code (4 : Nat) (Option.some Jvm.ClassFile.FieldType.int) [((0 : Nat), (9 : Nat), (12 : Nat), (46 : Nat)), ((0 : Nat), (9 : Nat), (15 : Nat), (120 : Nat))]) ∈ lw_all := lw_g (lw_at lw_m10 189 rfl) rfl
theorem q2440 : (Jvm.Cond.classLink "CoinTaxesLaw" (120 : Nat) "java/lang/ArithmeticException") ∈ lw_all := lw_g (lw_at lw_m10 190 rfl) rfl
theorem q2454 : (Jvm.Cond.methodLink "CoinTaxesLaw" (116 : Nat) ({ cls := "CoinTaxes", name := "share", desc := "(I)F" } : Jvm.MethodName)) ∈ lw_all := lw_g (lw_at lw_m10 204 rfl) rfl
theorem q2466 : (Jvm.Cond.methodLink "CoinTaxesLaw" (251 : Nat) ({ cls := "CoinTaxesLaw", name := "meanIncome", desc := "(LCoinTaxes;[D)I" } : Jvm.MethodName)) ∈ lw_all := lw_g (lw_at lw_m10 216 rfl) rfl
theorem q2467 : (Jvm.Cond.static ({ cls := "CoinTaxesLaw", name := "meanIncome", desc := "(LCoinTaxes;[D)I" } : Jvm.MethodName)) ∈ lw_all := lw_g (lw_at lw_m10 217 rfl) rfl
theorem q2468 : (Jvm.Cond.codeWith ({ cls := "CoinTaxesLaw", name := "meanIncome", desc := "(LCoinTaxes;[D)I" } : Jvm.MethodName) method_33_code (3 : Nat) (Option.some Jvm.ClassFile.FieldType.int) [((0 : Nat), (7 : Nat), (10 : Nat), (120 : Nat))]) ∈ lw_all := lw_g (lw_at lw_m10 218 rfl) rfl
theorem q2469 : (Jvm.Cond.methodLink "CoinTaxesLaw" (122 : Nat) ({ cls := "CoinTaxes", name := "meanIncome", desc := "()D" } : Jvm.MethodName)) ∈ lw_all := lw_g (lw_at lw_m10 219 rfl) rfl
theorem q2477 : (Jvm.Cond.methodLink "CoinTaxesLaw" (255 : Nat) ({ cls := "CoinTaxesLaw", name := "account", desc := "(LCoinTaxes;I[J)I" } : Jvm.MethodName)) ∈ lw_all := lw_g (lw_at lw_m10 227 rfl) rfl
theorem q2478 : (Jvm.Cond.static ({ cls := "CoinTaxesLaw", name := "account", desc := "(LCoinTaxes;I[J)I" } : Jvm.MethodName)) ∈ lw_all := lw_g (lw_at lw_m10 228 rfl) rfl
theorem q2479 : (Jvm.Cond.codeWith ({ cls := "CoinTaxesLaw", name := "account", desc := "(LCoinTaxes;I[J)I" } : Jvm.MethodName) method_34_code (4 : Nat) (Option.some Jvm.ClassFile.FieldType.int) [((0 : Nat), (9 : Nat), (12 : Nat), (48 : Nat))]) ∈ lw_all := lw_g (lw_at lw_m10 229 rfl) rfl
theorem q2480 : (Jvm.Cond.methodLink "CoinTaxesLaw" (126 : Nat) ({ cls := "CoinTaxes", name := "account", desc := "(I)I" } : Jvm.MethodName)) ∈ lw_all := lw_g (lw_at lw_m10 230 rfl) rfl
theorem q2492 : (Jvm.Cond.methodLink "CoinTaxesLaw" (263 : Nat) ({ cls := "CoinTaxesLaw", name := "undo", desc := "(LCoinTaxes;[J)I" } : Jvm.MethodName)) ∈ lw_all := lw_g (lw_at lw_m11 2 rfl) rfl
theorem q2493 : (Jvm.Cond.static ({ cls := "CoinTaxesLaw", name := "undo", desc := "(LCoinTaxes;[J)I" } : Jvm.MethodName)) ∈ lw_all := lw_g (lw_at lw_m11 3 rfl) rfl
theorem q2494 : (Jvm.Cond.codeWith ({ cls := "CoinTaxesLaw", name := "undo", desc := "(LCoinTaxes;[J)I" } : Jvm.MethodName) method_35_code (3 : Nat) (Option.some Jvm.ClassFile.FieldType.int) [((0 : Nat), (8 : Nat), (11 : Nat), (97 : Nat))]) ∈ lw_all := lw_g (lw_at lw_m11 4 rfl) rfl
theorem q2495 : (Jvm.Cond.methodLink "CoinTaxesLaw" (129 : Nat) ({ cls := "CoinTaxes", name := "undo", desc := "()I" } : Jvm.MethodName)) ∈ lw_all := lw_g (lw_at lw_m11 5 rfl) rfl
theorem q2525 : (Jvm.Cond.methodLink "CoinTaxesLaw" (270 : Nat) ({ cls := "CoinTaxesLaw", name := "restore", desc := "(LCoinTaxes;[J)I" } : Jvm.MethodName)) ∈ lw_all := lw_g (lw_at lw_m11 35 rfl) rfl
theorem q2526 : (Jvm.Cond.static ({ cls := "CoinTaxesLaw", name := "restore", desc := "(LCoinTaxes;[J)I" } : Jvm.MethodName)) ∈ lw_all := lw_g (lw_at lw_m11 36 rfl) rfl
theorem q2527 : (Jvm.Cond.codeWith ({ cls := "CoinTaxesLaw", name := "restore", desc := "(LCoinTaxes;[J)I" } : Jvm.MethodName) method_36_code (3 : Nat) (Option.some Jvm.ClassFile.FieldType.int) [((0 : Nat), (8 : Nat), (11 : Nat), (97 : Nat))]) ∈ lw_all := lw_g (lw_at lw_m11 37 rfl) rfl
theorem q2528 : (Jvm.Cond.methodLink "CoinTaxesLaw" (132 : Nat) ({ cls := "CoinTaxes", name := "restore", desc := "()I" } : Jvm.MethodName)) ∈ lw_all := lw_g (lw_at lw_m11 38 rfl) rfl
theorem q2548 : (Jvm.Cond.classLink "CoinTaxesLaw" (136 : Nat) "CoinTaxesModel") ∈ lw_all := lw_g (lw_at lw_m11 58 rfl) rfl
theorem q2550 : (Jvm.Cond.methodLink "CoinTaxesLaw" (138 : Nat) ({ cls := "CoinTaxesModel", name := "<init>", desc := "()V" } : Jvm.MethodName)) ∈ lw_all := lw_g (lw_at lw_m11 60 rfl) rfl
theorem q2627 : (Jvm.Cond.methodLink "CoinTaxesLaw" (145 : Nat) ({ cls := "CoinTaxesModel", name := "thrown", desc := "()I" } : Jvm.MethodName)) ∈ lw_all := lw_g (lw_at lw_m11 137 rfl) rfl
theorem q2631 : (Jvm.Cond.methodLink "CoinTaxesLaw" (236 : Nat) ({ cls := "CoinTaxesModel", name := "reason", desc := "(ZZ)I" } : Jvm.MethodName)) ∈ lw_all := lw_g (lw_at lw_m11 141 rfl) rfl
theorem q2635 : (Jvm.Cond.methodLink "CoinTaxesLaw" (265 : Nat) ({ cls := "CoinTaxesModel", name := "undo", desc := "()I" } : Jvm.MethodName)) ∈ lw_all := lw_g (lw_at lw_m11 145 rfl) rfl
theorem q2642 : (Jvm.Cond.methodLink "CoinTaxesLaw" (269 : Nat) ({ cls := "CoinTaxesModel", name := "save", desc := "()I" } : Jvm.MethodName)) ∈ lw_all := lw_g (lw_at lw_m11 152 rfl) rfl
theorem q2646 : (Jvm.Cond.methodLink "CoinTaxesLaw" (272 : Nat) ({ cls := "CoinTaxesModel", name := "restore", desc := "()I" } : Jvm.MethodName)) ∈ lw_all := lw_g (lw_at lw_m11 156 rfl) rfl
theorem q2650 : (Jvm.Cond.methodLink "CoinTaxesLaw" (144 : Nat) ({ cls := "CoinTaxesModel", name := "bracket", desc := "(II)I" } : Jvm.MethodName)) ∈ lw_all := lw_g (lw_at lw_m11 160 rfl) rfl
theorem q2685 : (Jvm.Cond.methodLink "CoinTaxesLaw" (151 : Nat) ({ cls := "CoinTaxesModel", name := "drop", desc := "(I)I" } : Jvm.MethodName)) ∈ lw_all := lw_g (lw_at lw_m11 195 rfl) rfl
theorem q2701 : (Jvm.Cond.methodLink "CoinTaxesLaw" (154 : Nat) ({ cls := "CoinTaxesModel", name := "rate", desc := "(II)I" } : Jvm.MethodName)) ∈ lw_all := lw_g (lw_at lw_m11 211 rfl) rfl
theorem q2709 : (Jvm.Cond.methodLink "CoinTaxesLaw" (158 : Nat) ({ cls := "CoinTaxesModel", name := "credit", desc := "(III)I" } : Jvm.MethodName)) ∈ lw_all := lw_g (lw_at lw_m11 219 rfl) rfl
theorem q2713 : (Jvm.Cond.methodLink "CoinTaxesLaw" (161 : Nat) ({ cls := "CoinTaxesModel", name := "cap", desc := "(II)I" } : Jvm.MethodName)) ∈ lw_all := lw_g (lw_at lw_m11 223 rfl) rfl
theorem q2724 : (Jvm.Cond.methodLink "CoinTaxesLaw" (165 : Nat) ({ cls := "CoinTaxesModel", name := "citizen", desc := "()I" } : Jvm.MethodName)) ∈ lw_all := lw_g (lw_at lw_m11 234 rfl) rfl
theorem q2728 : (Jvm.Cond.methodLink "CoinTaxesLaw" (168 : Nat) ({ cls := "CoinTaxesModel", name := "earn", desc := "(II)I" } : Jvm.MethodName)) ∈ lw_all := lw_g (lw_at lw_m11 238 rfl) rfl
theorem q2752 : (Jvm.Cond.methodLink "CoinTaxesLaw" (172 : Nat) ({ cls := "CoinTaxesModel", name := "claim", desc := "(IIIZ)I" } : Jvm.MethodName)) ∈ lw_all := lw_g (lw_at lw_m12 22 rfl) rfl
theorem q2773 : (Jvm.Cond.methodLink "CoinTaxesLaw" (175 : Nat) ({ cls := "CoinTaxesModel", name := "prove", desc := "(II)I" } : Jvm.MethodName)) ∈ lw_all := lw_g (lw_at lw_m12 43 rfl) rfl
theorem q2781 : (Jvm.Cond.methodLink "CoinTaxesLaw" (179 : Nat) ({ cls := "CoinTaxesModel", name := "endYear", desc := "()I" } : Jvm.MethodName)) ∈ lw_all := lw_g (lw_at lw_m12 51 rfl) rfl
theorem q2821 : (Jvm.Cond.methodLink "CoinTaxesLaw" (182 : Nat) ({ cls := "CoinTaxesModel", name := "bracketOf", desc := "(II)I" } : Jvm.MethodName)) ∈ lw_all := lw_g (lw_at lw_m12 91 rfl) rfl
theorem q2829 : (Jvm.Cond.methodLink "CoinTaxesLaw" (185 : Nat) ({ cls := "CoinTaxesModel", name := "bracketAt", desc := "(I)I" } : Jvm.MethodName)) ∈ lw_all := lw_g (lw_at lw_m12 99 rfl) rfl
theorem q2833 : (Jvm.Cond.methodLink "CoinTaxesLaw" (188 : Nat) ({ cls := "CoinTaxesModel", name := "citizenOf", desc := "(II)I" } : Jvm.MethodName)) ∈ lw_all := lw_g (lw_at lw_m12 103 rfl) rfl
theorem q2841 : (Jvm.Cond.methodLink "CoinTaxesLaw" (192 : Nat) ({ cls := "CoinTaxesModel", name := "claimOf", desc := "(IIZ)I" } : Jvm.MethodName)) ∈ lw_all := lw_g (lw_at lw_m12 111 rfl) rfl
theorem q2845 : (Jvm.Cond.methodLink "CoinTaxesLaw" (195 : Nat) ({ cls := "CoinTaxesModel", name := "carriedOf", desc := "(III)I" } : Jvm.MethodName)) ∈ lw_all := lw_g (lw_at lw_m12 115 rfl) rfl
theorem q2849 : (Jvm.Cond.methodLink "CoinTaxesLaw" (198 : Nat) ({ cls := "CoinTaxesModel", name := "creditFor", desc := "(I)I" } : Jvm.MethodName)) ∈ lw_all := lw_g (lw_at lw_m12 119 rfl) rfl
theorem q2857 : (Jvm.Cond.methodLink "CoinTaxesLaw" (201 : Nat) ({ cls := "CoinTaxesModel", name := "taxNow", desc := "(I)I" } : Jvm.MethodName)) ∈ lw_all := lw_g (lw_at lw_m12 127 rfl) rfl
theorem q2865 : (Jvm.Cond.methodLink "CoinTaxesLaw" (204 : Nat) ({ cls := "CoinTaxesModel", name := "taxAgain", desc := "(I)I" } : Jvm.MethodName)) ∈ lw_all := lw_g (lw_at lw_m12 135 rfl) rfl
theorem q2870 : (Jvm.Cond.methodLink "CoinTaxesLaw" (207 : Nat) ({ cls := "CoinTaxesModel", name := "auditCosts", desc := "(I)I" } : Jvm.MethodName)) ∈ lw_all := lw_g (lw_at lw_m12 140 rfl) rfl
theorem q2874 : (Jvm.Cond.methodLink "CoinTaxesLaw" (210 : Nat) ({ cls := "CoinTaxesModel", name := "left", desc := "(II)I" } : Jvm.MethodName)) ∈ lw_all := lw_g (lw_at lw_m12 144 rfl) rfl
theorem q2878 : (Jvm.Cond.methodLink "CoinTaxesLaw" (213 : Nat) ({ cls := "CoinTaxesModel", name := "margin", desc := "(I)I" } : Jvm.MethodName)) ∈ lw_all := lw_g (lw_at lw_m12 148 rfl) rfl
theorem q2882 : (Jvm.Cond.methodLink "CoinTaxesLaw" (216 : Nat) ({ cls := "CoinTaxesModel", name := "isNoLoss", desc := "(I)Z" } : Jvm.MethodName)) ∈ lw_all := lw_g (lw_at lw_m12 152 rfl) rfl
theorem q2886 : (Jvm.Cond.methodLink "CoinTaxesLaw" (219 : Nat) ({ cls := "CoinTaxesModel", name := "auditIn", desc := "(I)I" } : Jvm.MethodName)) ∈ lw_all := lw_g (lw_at lw_m12 156 rfl) rfl
theorem q2890 : (Jvm.Cond.methodLink "CoinTaxesLaw" (222 : Nat) ({ cls := "CoinTaxesModel", name := "ranked", desc := "(I)I" } : Jvm.MethodName)) ∈ lw_all := lw_g (lw_at lw_m12 160 rfl) rfl
theorem q2898 : (Jvm.Cond.methodLink "CoinTaxesLaw" (250 : Nat) ({ cls := "CoinTaxesModel", name := "share", desc := "(I)F" } : Jvm.MethodName)) ∈ lw_all := lw_g (lw_at lw_m12 168 rfl) rfl
theorem q2902 : (Jvm.Cond.methodLink "CoinTaxesLaw" (254 : Nat) ({ cls := "CoinTaxesModel", name := "meanIncome", desc := "()D" } : Jvm.MethodName)) ∈ lw_all := lw_g (lw_at lw_m12 172 rfl) rfl
theorem q2910 : (Jvm.Cond.methodLink "CoinTaxesLaw" (257 : Nat) ({ cls := "CoinTaxesModel", name := "account", desc := "(I)I" } : Jvm.MethodName)) ∈ lw_all := lw_g (lw_at lw_m12 180 rfl) rfl
theorem q2914 : (Jvm.Cond.methodLink "CoinTaxesLaw" (262 : Nat) ({ cls := "CoinTaxesModel", name := "isBalanced", desc := "()Z" } : Jvm.MethodName)) ∈ lw_all := lw_g (lw_at lw_m12 184 rfl) rfl
theorem q2918 : (Jvm.Cond.methodLink "CoinTaxesLaw" (239 : Nat) ({ cls := "CoinTaxesModel", name := "line", desc := "(I)I" } : Jvm.MethodName)) ∈ lw_all := lw_g (lw_at lw_m12 188 rfl) rfl
theorem q2930 : (Jvm.Cond.methodLink "CoinTaxesLaw" (243 : Nat) ({ cls := "CoinTaxesModel", name := "bracketLine", desc := "()I" } : Jvm.MethodName)) ∈ lw_all := lw_g (lw_at lw_m12 200 rfl) rfl
theorem q2934 : (Jvm.Cond.methodLink "CoinTaxesLaw" (246 : Nat) ({ cls := "CoinTaxesModel", name := "character", desc := "(I)C" } : Jvm.MethodName)) ∈ lw_all := lw_g (lw_at lw_m12 204 rfl) rfl
theorem q2938 : (Jvm.Cond.methodLink "CoinTaxesLaw" (226 : Nat) ({ cls := "CoinTaxesModel", name := "feed", desc := "(C)I" } : Jvm.MethodName)) ∈ lw_all := lw_g (lw_at lw_m12 208 rfl) rfl
theorem q2942 : (Jvm.Cond.methodLink "CoinTaxesLaw" (229 : Nat) ({ cls := "CoinTaxesModel", name := "run", desc := "()I" } : Jvm.MethodName)) ∈ lw_all := lw_g (lw_at lw_m12 212 rfl) rfl
theorem q2979 : (Jvm.Cond.methodLink "CoinTaxesLaw" (232 : Nat) ({ cls := "CoinTaxesModel", name := "faultPosition", desc := "()I" } : Jvm.MethodName)) ∈ lw_all := lw_g (lw_at lw_m13 9 rfl) rfl

/-! CoinTaxes -/
set_option maxRecDepth 100000
def RX1 : String := "CoinTaxes"
def TX1 : u_T := fun k => match k with
  | 0 => ("CoinTaxes", "now", "LCoinTaxes$Office;", false)
  | 1 => ("CoinTaxes", "saved", "LCoinTaxes$Office;", false)
  | 2 => ("CoinTaxes", "earlier", "Ljava/util/Deque;", true)
  | 3 => ("CoinTaxes", "tape", "Ljava/lang/StringBuilder;", true)
  | 4 => ("CoinTaxes", "line", "Ljava/lang/String;", false)
  | 5 => ("CoinTaxes", "faultPosition", "I", false)
  | _ => ("CoinTaxes", "latest", "LCoinTaxes$Refused;", false)
def tyX1 : Nat → FieldType := fun k => match k with
  | 0 => .object "CoinTaxes$Office"
  | 1 => .object "CoinTaxes$Office"
  | 2 => .object "java/util/Deque"
  | 3 => .object "java/lang/StringBuilder"
  | 4 => .object "java/lang/String"
  | 5 => .int
  | _ => .object "CoinTaxes$Refused"
abbrev wsX10 : List Cond := u_ws RX1 TX1 7
theorem nmX1 : ∀ a, a < 7 → ∀ b, b < 7 → a ≠ b → (TX1 a).2.1 ≠ (TX1 b).2.1 := by decide +kernel
theorem tyX1_ok : ∀ k, k < 7 → parseFieldDescriptor (TX1 k).2.2.1 = some (tyX1 k) := by decide +kernel
abbrev cX1_init : ByteArray := prog_1_method_12_code
def yX1_init : MethodName := ⟨RX1, "<init>", "()V"⟩
def dkwX1_init_2 : List UInt8 := [181, 0, 68, 177]
abbrev dktX1_init_2 : List UInt8 := dkwX1_init_2 ++ []
def dkwX1_init_1 : List UInt8 := [181, 0, 51, 42, 187, 0, 55, 89, 183, 0, 57, 181, 0, 58, 42, 18, 62, 181, 0, 64, 42, 2]
abbrev dktX1_init_1 : List UInt8 := dkwX1_init_1 ++ dktX1_init_2
def dkwX1_init_0 : List UInt8 := [42, 183, 0, 38, 42, 187, 0, 41, 89, 183, 0, 43, 181, 0, 44, 42, 187, 0, 48, 89, 183, 0, 50]
abbrev dktX1_init_0 : List UInt8 := dkwX1_init_0 ++ dktX1_init_1
theorem dksX1_init_0 : cX1_init.data.toList.drop 0 = dktX1_init_0 := by decide +kernel
theorem dksX1_init_1 : cX1_init.data.toList.drop 23 = dktX1_init_1 := dk_seg dksX1_init_0 23 rfl rfl
theorem dksX1_init_2 : cX1_init.data.toList.drop 45 = dktX1_init_2 := dk_seg dksX1_init_1 22 rfl rfl
theorem dX1_init_0 : decode cX1_init 0 = .ok (.aload_n 0, 1) := dk_42 (dk_at dksX1_init_0 0 rfl rfl)
theorem dX1_init_1 : decode cX1_init 1 = .ok (.invokespecial 38, 3) := dk_183 0 38 (dk_at dksX1_init_0 1 rfl rfl)
theorem dX1_init_4 : decode cX1_init 4 = .ok (.aload_n 0, 1) := dk_42 (dk_at dksX1_init_0 4 rfl rfl)
theorem dX1_init_5 : decode cX1_init 5 = .ok (.new 41, 3) := dk_187 0 41 (dk_at dksX1_init_0 5 rfl rfl)
theorem dX1_init_8 : decode cX1_init 8 = .ok (.dup, 1) := dk_89 (dk_at dksX1_init_0 8 rfl rfl)
theorem dX1_init_9 : decode cX1_init 9 = .ok (.invokespecial 43, 3) := dk_183 0 43 (dk_at dksX1_init_0 9 rfl rfl)
theorem dX1_init_12 : decode cX1_init 12 = .ok (.putfield 44, 3) := dk_181 0 44 (dk_at dksX1_init_0 12 rfl rfl)
theorem dX1_init_15 : decode cX1_init 15 = .ok (.aload_n 0, 1) := dk_42 (dk_at dksX1_init_0 15 rfl rfl)
theorem dX1_init_16 : decode cX1_init 16 = .ok (.new 48, 3) := dk_187 0 48 (dk_at dksX1_init_0 16 rfl rfl)
theorem dX1_init_19 : decode cX1_init 19 = .ok (.dup, 1) := dk_89 (dk_at dksX1_init_0 19 rfl rfl)
theorem dX1_init_20 : decode cX1_init 20 = .ok (.invokespecial 50, 3) := dk_183 0 50 (dk_at dksX1_init_0 20 rfl rfl)
theorem dX1_init_23 : decode cX1_init 23 = .ok (.putfield 51, 3) := dk_181 0 51 (dk_at dksX1_init_1 0 rfl rfl)
theorem dX1_init_26 : decode cX1_init 26 = .ok (.aload_n 0, 1) := dk_42 (dk_at dksX1_init_1 3 rfl rfl)
theorem dX1_init_27 : decode cX1_init 27 = .ok (.new 55, 3) := dk_187 0 55 (dk_at dksX1_init_1 4 rfl rfl)
theorem dX1_init_30 : decode cX1_init 30 = .ok (.dup, 1) := dk_89 (dk_at dksX1_init_1 7 rfl rfl)
theorem dX1_init_31 : decode cX1_init 31 = .ok (.invokespecial 57, 3) := dk_183 0 57 (dk_at dksX1_init_1 8 rfl rfl)
theorem dX1_init_34 : decode cX1_init 34 = .ok (.putfield 58, 3) := dk_181 0 58 (dk_at dksX1_init_1 11 rfl rfl)
theorem dX1_init_37 : decode cX1_init 37 = .ok (.aload_n 0, 1) := dk_42 (dk_at dksX1_init_1 14 rfl rfl)
theorem dX1_init_38 : decode cX1_init 38 = .ok (.ldc 62, 2) := dk_18 62 (dk_at dksX1_init_1 15 rfl rfl)
theorem dX1_init_40 : decode cX1_init 40 = .ok (.putfield 64, 3) := dk_181 0 64 (dk_at dksX1_init_1 17 rfl rfl)
theorem dX1_init_43 : decode cX1_init 43 = .ok (.aload_n 0, 1) := dk_42 (dk_at dksX1_init_1 20 rfl rfl)
theorem dX1_init_44 : decode cX1_init 44 = .ok (.iconst (-1), 1) := dk_2 (dk_at dksX1_init_1 21 rfl rfl)
theorem dX1_init_45 : decode cX1_init 45 = .ok (.putfield 68, 3) := dk_181 0 68 (dk_at dksX1_init_2 0 rfl rfl)
theorem dX1_init_48 : decode cX1_init 48 = .ok (.return_, 1) := dk_177 (dk_at dksX1_init_2 3 rfl rfl)
abbrev cX1_endYear : ByteArray := prog_1_method_24_code
def yX1_endYear : MethodName := ⟨RX1, "endYear", "()I"⟩
def dkwX1_endYear_0 : List UInt8 := [42, 187, 0, 90, 89, 18, 133, 3, 3, 3, 183, 0, 107, 182, 0, 110, 172]
abbrev dktX1_endYear_0 : List UInt8 := dkwX1_endYear_0 ++ []
theorem dksX1_endYear_0 : cX1_endYear.data.toList.drop 0 = dktX1_endYear_0 := by decide +kernel
theorem dX1_endYear_0 : decode cX1_endYear 0 = .ok (.aload_n 0, 1) := dk_42 (dk_at dksX1_endYear_0 0 rfl rfl)
theorem dX1_endYear_1 : decode cX1_endYear 1 = .ok (.new 90, 3) := dk_187 0 90 (dk_at dksX1_endYear_0 1 rfl rfl)
theorem dX1_endYear_4 : decode cX1_endYear 4 = .ok (.dup, 1) := dk_89 (dk_at dksX1_endYear_0 4 rfl rfl)
theorem dX1_endYear_5 : decode cX1_endYear 5 = .ok (.ldc 133, 2) := dk_18 133 (dk_at dksX1_endYear_0 5 rfl rfl)
theorem dX1_endYear_7 : decode cX1_endYear 7 = .ok (.iconst 0, 1) := dk_3 (dk_at dksX1_endYear_0 7 rfl rfl)
theorem dX1_endYear_8 : decode cX1_endYear 8 = .ok (.iconst 0, 1) := dk_3 (dk_at dksX1_endYear_0 8 rfl rfl)
theorem dX1_endYear_9 : decode cX1_endYear 9 = .ok (.iconst 0, 1) := dk_3 (dk_at dksX1_endYear_0 9 rfl rfl)
theorem dX1_endYear_10 : decode cX1_endYear 10 = .ok (.invokespecial 107, 3) := dk_183 0 107 (dk_at dksX1_endYear_0 10 rfl rfl)
theorem dX1_endYear_13 : decode cX1_endYear 13 = .ok (.invokevirtual 110, 3) := dk_182 0 110 (dk_at dksX1_endYear_0 13 rfl rfl)
theorem dX1_endYear_16 : decode cX1_endYear 16 = .ok (.ireturn, 1) := dk_172 (dk_at dksX1_endYear_0 16 rfl rfl)
abbrev cX1_done : ByteArray := prog_1_method_14_code
def yX1_done : MethodName := ⟨RX1, "done", "(LCoinTaxes$Order;)I"⟩
def dkwX1_done_1 : List UInt8 := [172, 78, 42, 45, 181, 0, 98, 187, 0, 102, 89, 183, 0, 104, 191]
abbrev dktX1_done_1 : List UInt8 := dkwX1_done_1 ++ []
def dkwX1_done_0 : List UInt8 := [187, 0, 41, 89, 42, 180, 0, 44, 183, 0, 86, 77, 43, 44, 182, 0, 89, 62, 42, 44, 182, 0, 95, 29]
abbrev dktX1_done_0 : List UInt8 := dkwX1_done_0 ++ dktX1_done_1
theorem dksX1_done_0 : cX1_done.data.toList.drop 0 = dktX1_done_0 := by decide +kernel
theorem dksX1_done_1 : cX1_done.data.toList.drop 24 = dktX1_done_1 := dk_seg dksX1_done_0 24 rfl rfl
theorem dX1_done_0 : decode cX1_done 0 = .ok (.new 41, 3) := dk_187 0 41 (dk_at dksX1_done_0 0 rfl rfl)
theorem dX1_done_3 : decode cX1_done 3 = .ok (.dup, 1) := dk_89 (dk_at dksX1_done_0 3 rfl rfl)
theorem dX1_done_4 : decode cX1_done 4 = .ok (.aload_n 0, 1) := dk_42 (dk_at dksX1_done_0 4 rfl rfl)
theorem dX1_done_5 : decode cX1_done 5 = .ok (.getfield 44, 3) := dk_180 0 44 (dk_at dksX1_done_0 5 rfl rfl)
theorem dX1_done_8 : decode cX1_done 8 = .ok (.invokespecial 86, 3) := dk_183 0 86 (dk_at dksX1_done_0 8 rfl rfl)
theorem dX1_done_11 : decode cX1_done 11 = .ok (.astore_n 2, 1) := dk_77 (dk_at dksX1_done_0 11 rfl rfl)
theorem dX1_done_12 : decode cX1_done 12 = .ok (.aload_n 1, 1) := dk_43 (dk_at dksX1_done_0 12 rfl rfl)
theorem dX1_done_13 : decode cX1_done 13 = .ok (.aload_n 2, 1) := dk_44 (dk_at dksX1_done_0 13 rfl rfl)
theorem dX1_done_14 : decode cX1_done 14 = .ok (.invokevirtual 89, 3) := dk_182 0 89 (dk_at dksX1_done_0 14 rfl rfl)
theorem dX1_done_17 : decode cX1_done 17 = .ok (.istore_n 3, 1) := dk_62 (dk_at dksX1_done_0 17 rfl rfl)
theorem dX1_done_18 : decode cX1_done 18 = .ok (.aload_n 0, 1) := dk_42 (dk_at dksX1_done_0 18 rfl rfl)
theorem dX1_done_19 : decode cX1_done 19 = .ok (.aload_n 2, 1) := dk_44 (dk_at dksX1_done_0 19 rfl rfl)
theorem dX1_done_20 : decode cX1_done 20 = .ok (.invokevirtual 95, 3) := dk_182 0 95 (dk_at dksX1_done_0 20 rfl rfl)
theorem dX1_done_23 : decode cX1_done 23 = .ok (.iload_n 3, 1) := dk_29 (dk_at dksX1_done_0 23 rfl rfl)
theorem dX1_done_24 : decode cX1_done 24 = .ok (.ireturn, 1) := dk_172 (dk_at dksX1_done_1 0 rfl rfl)
theorem dX1_done_25 : decode cX1_done 25 = .ok (.astore_n 3, 1) := dk_78 (dk_at dksX1_done_1 1 rfl rfl)
theorem dX1_done_26 : decode cX1_done 26 = .ok (.aload_n 0, 1) := dk_42 (dk_at dksX1_done_1 2 rfl rfl)
theorem dX1_done_27 : decode cX1_done 27 = .ok (.aload_n 3, 1) := dk_45 (dk_at dksX1_done_1 3 rfl rfl)
theorem dX1_done_28 : decode cX1_done 28 = .ok (.putfield 98, 3) := dk_181 0 98 (dk_at dksX1_done_1 4 rfl rfl)
theorem dX1_done_31 : decode cX1_done 31 = .ok (.new 102, 3) := dk_187 0 102 (dk_at dksX1_done_1 7 rfl rfl)
theorem dX1_done_34 : decode cX1_done 34 = .ok (.dup, 1) := dk_89 (dk_at dksX1_done_1 10 rfl rfl)
theorem dX1_done_35 : decode cX1_done 35 = .ok (.invokespecial 104, 3) := dk_183 0 104 (dk_at dksX1_done_1 11 rfl rfl)
theorem dX1_done_38 : decode cX1_done 38 = .ok (.athrow, 1) := dk_191 (dk_at dksX1_done_1 14 rfl rfl)
abbrev cX1_checkRange : ByteArray := prog_1_method_10_code
def yX1_checkRange : MethodName := ⟨RX1, "checkRange", "(III)V"⟩
def dkwX1_checkRange_0 : List UInt8 := [26, 27, 28, 184, 0, 30, 6, 26, 184, 0, 34, 177]
abbrev dktX1_checkRange_0 : List UInt8 := dkwX1_checkRange_0 ++ []
theorem dksX1_checkRange_0 : cX1_checkRange.data.toList.drop 0 = dktX1_checkRange_0 := by decide +kernel
theorem dX1_checkRange_0 : decode cX1_checkRange 0 = .ok (.iload_n 0, 1) := dk_26 (dk_at dksX1_checkRange_0 0 rfl rfl)
theorem dX1_checkRange_1 : decode cX1_checkRange 1 = .ok (.iload_n 1, 1) := dk_27 (dk_at dksX1_checkRange_0 1 rfl rfl)
theorem dX1_checkRange_2 : decode cX1_checkRange 2 = .ok (.iload_n 2, 1) := dk_28 (dk_at dksX1_checkRange_0 2 rfl rfl)
theorem dX1_checkRange_3 : decode cX1_checkRange 3 = .ok (.invokestatic 30, 3) := dk_184 0 30 (dk_at dksX1_checkRange_0 3 rfl rfl)
theorem dX1_checkRange_6 : decode cX1_checkRange 6 = .ok (.iconst 3, 1) := dk_6 (dk_at dksX1_checkRange_0 6 rfl rfl)
theorem dX1_checkRange_7 : decode cX1_checkRange 7 = .ok (.iload_n 0, 1) := dk_26 (dk_at dksX1_checkRange_0 7 rfl rfl)
theorem dX1_checkRange_8 : decode cX1_checkRange 8 = .ok (.invokestatic 34, 3) := dk_184 0 34 (dk_at dksX1_checkRange_0 8 rfl rfl)
theorem dX1_checkRange_11 : decode cX1_checkRange 11 = .ok (.return_, 1) := dk_177 (dk_at dksX1_checkRange_0 11 rfl rfl)
abbrev cX1_isBetween : ByteArray := prog_1_method_1_code
def yX1_isBetween : MethodName := ⟨RX1, "isBetween", "(III)Z"⟩
def dkwX1_isBetween_0 : List UInt8 := [27, 26, 163, 0, 12, 26, 28, 163, 0, 7, 4, 167, 0, 4, 3, 172]
abbrev dktX1_isBetween_0 : List UInt8 := dkwX1_isBetween_0 ++ []
theorem dksX1_isBetween_0 : cX1_isBetween.data.toList.drop 0 = dktX1_isBetween_0 := by decide +kernel
theorem dX1_isBetween_0 : decode cX1_isBetween 0 = .ok (.iload_n 1, 1) := dk_27 (dk_at dksX1_isBetween_0 0 rfl rfl)
theorem dX1_isBetween_1 : decode cX1_isBetween 1 = .ok (.iload_n 0, 1) := dk_26 (dk_at dksX1_isBetween_0 1 rfl rfl)
theorem dX1_isBetween_2 : decode cX1_isBetween 2 = .ok (.if_icmp .gt 12, 3) := dk_163 0 12 (dk_at dksX1_isBetween_0 2 rfl rfl)
theorem dX1_isBetween_5 : decode cX1_isBetween 5 = .ok (.iload_n 0, 1) := dk_26 (dk_at dksX1_isBetween_0 5 rfl rfl)
theorem dX1_isBetween_6 : decode cX1_isBetween 6 = .ok (.iload_n 2, 1) := dk_28 (dk_at dksX1_isBetween_0 6 rfl rfl)
theorem dX1_isBetween_7 : decode cX1_isBetween 7 = .ok (.if_icmp .gt 7, 3) := dk_163 0 7 (dk_at dksX1_isBetween_0 7 rfl rfl)
theorem dX1_isBetween_10 : decode cX1_isBetween 10 = .ok (.iconst 1, 1) := dk_4 (dk_at dksX1_isBetween_0 10 rfl rfl)
theorem dX1_isBetween_11 : decode cX1_isBetween 11 = .ok (.goto 4, 3) := dk_167 0 4 (dk_at dksX1_isBetween_0 11 rfl rfl)
theorem dX1_isBetween_14 : decode cX1_isBetween 14 = .ok (.iconst 0, 1) := dk_3 (dk_at dksX1_isBetween_0 14 rfl rfl)
theorem dX1_isBetween_15 : decode cX1_isBetween 15 = .ok (.ireturn, 1) := dk_172 (dk_at dksX1_isBetween_0 15 rfl rfl)
abbrev cX1_check : ByteArray := prog_1_method_8_code
def yX1_check : MethodName := ⟨RX1, "check", "(ZII)V"⟩
def dkwX1_check_0 : List UInt8 := [26, 154, 0, 13, 187, 0, 25, 89, 27, 28, 183, 0, 27, 191, 177]
abbrev dktX1_check_0 : List UInt8 := dkwX1_check_0 ++ []
theorem dksX1_check_0 : cX1_check.data.toList.drop 0 = dktX1_check_0 := by decide +kernel
theorem dX1_check_0 : decode cX1_check 0 = .ok (.iload_n 0, 1) := dk_26 (dk_at dksX1_check_0 0 rfl rfl)
theorem dX1_check_1 : decode cX1_check 1 = .ok (.ifCond .ne 13, 3) := dk_154 0 13 (dk_at dksX1_check_0 1 rfl rfl)
theorem dX1_check_4 : decode cX1_check 4 = .ok (.new 25, 3) := dk_187 0 25 (dk_at dksX1_check_0 4 rfl rfl)
theorem dX1_check_7 : decode cX1_check 7 = .ok (.dup, 1) := dk_89 (dk_at dksX1_check_0 7 rfl rfl)
theorem dX1_check_8 : decode cX1_check 8 = .ok (.iload_n 1, 1) := dk_27 (dk_at dksX1_check_0 8 rfl rfl)
theorem dX1_check_9 : decode cX1_check 9 = .ok (.iload_n 2, 1) := dk_28 (dk_at dksX1_check_0 9 rfl rfl)
theorem dX1_check_10 : decode cX1_check 10 = .ok (.invokespecial 27, 3) := dk_183 0 27 (dk_at dksX1_check_0 10 rfl rfl)
theorem dX1_check_13 : decode cX1_check 13 = .ok (.athrow, 1) := dk_191 (dk_at dksX1_check_0 13 rfl rfl)
theorem dX1_check_14 : decode cX1_check 14 = .ok (.return_, 1) := dk_177 (dk_at dksX1_check_0 14 rfl rfl)
abbrev cX1_checkThere : ByteArray := prog_1_method_9_code
def yX1_checkThere : MethodName := ⟨RX1, "checkThere", "(II)V"⟩
def dkwX1_checkThere_0 : List UInt8 := [26, 3, 27, 4, 100, 184, 0, 30, 5, 26, 184, 0, 34, 177]
abbrev dktX1_checkThere_0 : List UInt8 := dkwX1_checkThere_0 ++ []
theorem dksX1_checkThere_0 : cX1_checkThere.data.toList.drop 0 = dktX1_checkThere_0 := by decide +kernel
theorem dX1_checkThere_0 : decode cX1_checkThere 0 = .ok (.iload_n 0, 1) := dk_26 (dk_at dksX1_checkThere_0 0 rfl rfl)
theorem dX1_checkThere_1 : decode cX1_checkThere 1 = .ok (.iconst 0, 1) := dk_3 (dk_at dksX1_checkThere_0 1 rfl rfl)
theorem dX1_checkThere_2 : decode cX1_checkThere 2 = .ok (.iload_n 1, 1) := dk_27 (dk_at dksX1_checkThere_0 2 rfl rfl)
theorem dX1_checkThere_3 : decode cX1_checkThere 3 = .ok (.iconst 1, 1) := dk_4 (dk_at dksX1_checkThere_0 3 rfl rfl)
theorem dX1_checkThere_4 : decode cX1_checkThere 4 = .ok (.isub, 1) := dk_100 (dk_at dksX1_checkThere_0 4 rfl rfl)
theorem dX1_checkThere_5 : decode cX1_checkThere 5 = .ok (.invokestatic 30, 3) := dk_184 0 30 (dk_at dksX1_checkThere_0 5 rfl rfl)
theorem dX1_checkThere_8 : decode cX1_checkThere 8 = .ok (.iconst 2, 1) := dk_5 (dk_at dksX1_checkThere_0 8 rfl rfl)
theorem dX1_checkThere_9 : decode cX1_checkThere 9 = .ok (.iload_n 0, 1) := dk_26 (dk_at dksX1_checkThere_0 9 rfl rfl)
theorem dX1_checkThere_10 : decode cX1_checkThere 10 = .ok (.invokestatic 34, 3) := dk_184 0 34 (dk_at dksX1_checkThere_0 10 rfl rfl)
theorem dX1_checkThere_13 : decode cX1_checkThere 13 = .ok (.return_, 1) := dk_177 (dk_at dksX1_checkThere_0 13 rfl rfl)
abbrev cX1_nextLot : ByteArray := prog_1_method_11_code
def yX1_nextLot : MethodName := ⟨RX1, "nextLot", "(I)I"⟩
def dkwX1_nextLot_0 : List UInt8 := [16, 41, 26, 104, 16, 17, 96, 17, 39, 16, 112, 172]
abbrev dktX1_nextLot_0 : List UInt8 := dkwX1_nextLot_0 ++ []
theorem dksX1_nextLot_0 : cX1_nextLot.data.toList.drop 0 = dktX1_nextLot_0 := by decide +kernel
theorem dX1_nextLot_0 : decode cX1_nextLot 0 = .ok (.bipush 41, 2) := dk_16 41 (dk_at dksX1_nextLot_0 0 rfl rfl)
theorem dX1_nextLot_2 : decode cX1_nextLot 2 = .ok (.iload_n 0, 1) := dk_26 (dk_at dksX1_nextLot_0 2 rfl rfl)
theorem dX1_nextLot_3 : decode cX1_nextLot 3 = .ok (.imul, 1) := dk_104 (dk_at dksX1_nextLot_0 3 rfl rfl)
theorem dX1_nextLot_4 : decode cX1_nextLot 4 = .ok (.bipush 17, 2) := dk_16 17 (dk_at dksX1_nextLot_0 4 rfl rfl)
theorem dX1_nextLot_6 : decode cX1_nextLot 6 = .ok (.iadd, 1) := dk_96 (dk_at dksX1_nextLot_0 6 rfl rfl)
theorem dX1_nextLot_7 : decode cX1_nextLot 7 = .ok (.sipush 10000, 3) := dk_17 39 16 (dk_at dksX1_nextLot_0 7 rfl rfl)
theorem dX1_nextLot_10 : decode cX1_nextLot 10 = .ok (.irem, 1) := dk_112 (dk_at dksX1_nextLot_0 10 rfl rfl)
theorem dX1_nextLot_11 : decode cX1_nextLot 11 = .ok (.ireturn, 1) := dk_172 (dk_at dksX1_nextLot_0 11 rfl rfl)
abbrev cX1_remember : ByteArray := prog_1_method_13_code
def yX1_remember : MethodName := ⟨RX1, "remember", "(LCoinTaxes$Office;)V"⟩
def dkwX1_remember_1 : List UInt8 := [42, 180, 0, 51, 42, 180, 0, 44, 185, 0, 82, 2, 0, 42, 43, 181, 0, 44, 177]
abbrev dktX1_remember_1 : List UInt8 := dkwX1_remember_1 ++ []
def dkwX1_remember_0 : List UInt8 := [42, 180, 0, 51, 185, 0, 72, 1, 0, 16, 8, 160, 0, 13, 42, 180, 0, 51, 185, 0, 78, 1, 0, 87]
abbrev dktX1_remember_0 : List UInt8 := dkwX1_remember_0 ++ dktX1_remember_1
theorem dksX1_remember_0 : cX1_remember.data.toList.drop 0 = dktX1_remember_0 := by decide +kernel
theorem dksX1_remember_1 : cX1_remember.data.toList.drop 24 = dktX1_remember_1 := dk_seg dksX1_remember_0 24 rfl rfl
theorem dX1_remember_0 : decode cX1_remember 0 = .ok (.aload_n 0, 1) := dk_42 (dk_at dksX1_remember_0 0 rfl rfl)
theorem dX1_remember_1 : decode cX1_remember 1 = .ok (.getfield 51, 3) := dk_180 0 51 (dk_at dksX1_remember_0 1 rfl rfl)
theorem dX1_remember_4 : decode cX1_remember 4 = .ok (.invokeinterface 72 1, 5) := by decide +kernel
theorem dX1_remember_9 : decode cX1_remember 9 = .ok (.bipush 8, 2) := dk_16 8 (dk_at dksX1_remember_0 9 rfl rfl)
theorem dX1_remember_11 : decode cX1_remember 11 = .ok (.if_icmp .ne 13, 3) := dk_160 0 13 (dk_at dksX1_remember_0 11 rfl rfl)
theorem dX1_remember_14 : decode cX1_remember 14 = .ok (.aload_n 0, 1) := dk_42 (dk_at dksX1_remember_0 14 rfl rfl)
theorem dX1_remember_15 : decode cX1_remember 15 = .ok (.getfield 51, 3) := dk_180 0 51 (dk_at dksX1_remember_0 15 rfl rfl)
theorem dX1_remember_18 : decode cX1_remember 18 = .ok (.invokeinterface 78 1, 5) := by decide +kernel
theorem dX1_remember_23 : decode cX1_remember 23 = .ok (.pop, 1) := dk_87 (dk_at dksX1_remember_0 23 rfl rfl)
theorem dX1_remember_24 : decode cX1_remember 24 = .ok (.aload_n 0, 1) := dk_42 (dk_at dksX1_remember_1 0 rfl rfl)
theorem dX1_remember_25 : decode cX1_remember 25 = .ok (.getfield 51, 3) := dk_180 0 51 (dk_at dksX1_remember_1 1 rfl rfl)
theorem dX1_remember_28 : decode cX1_remember 28 = .ok (.aload_n 0, 1) := dk_42 (dk_at dksX1_remember_1 4 rfl rfl)
theorem dX1_remember_29 : decode cX1_remember 29 = .ok (.getfield 44, 3) := dk_180 0 44 (dk_at dksX1_remember_1 5 rfl rfl)
theorem dX1_remember_32 : decode cX1_remember 32 = .ok (.invokeinterface 82 2, 5) := by decide +kernel
theorem dX1_remember_37 : decode cX1_remember 37 = .ok (.aload_n 0, 1) := dk_42 (dk_at dksX1_remember_1 13 rfl rfl)
theorem dX1_remember_38 : decode cX1_remember 38 = .ok (.aload_n 1, 1) := dk_43 (dk_at dksX1_remember_1 14 rfl rfl)
theorem dX1_remember_39 : decode cX1_remember 39 = .ok (.putfield 44, 3) := dk_181 0 44 (dk_at dksX1_remember_1 15 rfl rfl)
theorem dX1_remember_42 : decode cX1_remember 42 = .ok (.return_, 1) := dk_177 (dk_at dksX1_remember_1 18 rfl rfl)
abbrev cX1_bracketLine : ByteArray := prog_1_method_47_code
def yX1_bracketLine : MethodName := ⟨RX1, "bracketLine", "()I"⟩
def dkwX1_bracketLine_0 : List UInt8 := [42, 42, 180, 0, 44, 180, 0, 151, 182, 1, 75, 182, 1, 71, 172]
abbrev dktX1_bracketLine_0 : List UInt8 := dkwX1_bracketLine_0 ++ []
theorem dksX1_bracketLine_0 : cX1_bracketLine.data.toList.drop 0 = dktX1_bracketLine_0 := by decide +kernel
theorem dX1_bracketLine_0 : decode cX1_bracketLine 0 = .ok (.aload_n 0, 1) := dk_42 (dk_at dksX1_bracketLine_0 0 rfl rfl)
theorem dX1_bracketLine_1 : decode cX1_bracketLine 1 = .ok (.aload_n 0, 1) := dk_42 (dk_at dksX1_bracketLine_0 1 rfl rfl)
theorem dX1_bracketLine_2 : decode cX1_bracketLine 2 = .ok (.getfield 44, 3) := dk_180 0 44 (dk_at dksX1_bracketLine_0 2 rfl rfl)
theorem dX1_bracketLine_5 : decode cX1_bracketLine 5 = .ok (.getfield 151, 3) := dk_180 0 151 (dk_at dksX1_bracketLine_0 5 rfl rfl)
theorem dX1_bracketLine_8 : decode cX1_bracketLine 8 = .ok (.invokevirtual 331, 3) := dk_182 1 75 (dk_at dksX1_bracketLine_0 8 rfl rfl)
theorem dX1_bracketLine_11 : decode cX1_bracketLine 11 = .ok (.invokevirtual 327, 3) := dk_182 1 71 (dk_at dksX1_bracketLine_0 11 rfl rfl)
theorem dX1_bracketLine_14 : decode cX1_bracketLine 14 = .ok (.ireturn, 1) := dk_172 (dk_at dksX1_bracketLine_0 14 rfl rfl)
abbrev cX1_writes : ByteArray := prog_1_method_45_code
def yX1_writes : MethodName := ⟨RX1, "writes", "(Ljava/lang/String;)I"⟩
def dkwX1_writes_0 : List UInt8 := [42, 43, 181, 0, 64, 42, 180, 0, 64, 182, 1, 66, 172]
abbrev dktX1_writes_0 : List UInt8 := dkwX1_writes_0 ++ []
theorem dksX1_writes_0 : cX1_writes.data.toList.drop 0 = dktX1_writes_0 := by decide +kernel
theorem dX1_writes_0 : decode cX1_writes 0 = .ok (.aload_n 0, 1) := dk_42 (dk_at dksX1_writes_0 0 rfl rfl)
theorem dX1_writes_1 : decode cX1_writes 1 = .ok (.aload_n 1, 1) := dk_43 (dk_at dksX1_writes_0 1 rfl rfl)
theorem dX1_writes_2 : decode cX1_writes 2 = .ok (.putfield 64, 3) := dk_181 0 64 (dk_at dksX1_writes_0 2 rfl rfl)
theorem dX1_writes_5 : decode cX1_writes 5 = .ok (.aload_n 0, 1) := dk_42 (dk_at dksX1_writes_0 5 rfl rfl)
theorem dX1_writes_6 : decode cX1_writes 6 = .ok (.getfield 64, 3) := dk_180 0 64 (dk_at dksX1_writes_0 6 rfl rfl)
theorem dX1_writes_9 : decode cX1_writes 9 = .ok (.invokevirtual 322, 3) := dk_182 1 66 (dk_at dksX1_writes_0 9 rfl rfl)
theorem dX1_writes_12 : decode cX1_writes 12 = .ok (.ireturn, 1) := dk_172 (dk_at dksX1_writes_0 12 rfl rfl)
abbrev cX1_isBalanced : ByteArray := prog_1_method_52_code
def yX1_isBalanced : MethodName := ⟨RX1, "isBalanced", "()Z"⟩
def dkwX1_isBalanced_0 : List UInt8 := [42, 180, 0, 44, 182, 1, 118, 172]
abbrev dktX1_isBalanced_0 : List UInt8 := dkwX1_isBalanced_0 ++ []
theorem dksX1_isBalanced_0 : cX1_isBalanced.data.toList.drop 0 = dktX1_isBalanced_0 := by decide +kernel
theorem dX1_isBalanced_0 : decode cX1_isBalanced 0 = .ok (.aload_n 0, 1) := dk_42 (dk_at dksX1_isBalanced_0 0 rfl rfl)
theorem dX1_isBalanced_1 : decode cX1_isBalanced 1 = .ok (.getfield 44, 3) := dk_180 0 44 (dk_at dksX1_isBalanced_0 1 rfl rfl)
theorem dX1_isBalanced_4 : decode cX1_isBalanced 4 = .ok (.invokevirtual 374, 3) := dk_182 1 118 (dk_at dksX1_isBalanced_0 4 rfl rfl)
theorem dX1_isBalanced_7 : decode cX1_isBalanced 7 = .ok (.ireturn, 1) := dk_172 (dk_at dksX1_isBalanced_0 7 rfl rfl)
abbrev cX1_save : ByteArray := prog_1_method_54_code
def yX1_save : MethodName := ⟨RX1, "save", "()I"⟩
def dkwX1_save_0 : List UInt8 := [42, 42, 180, 0, 44, 181, 1, 128, 42, 180, 0, 44, 180, 1, 86, 172]
abbrev dktX1_save_0 : List UInt8 := dkwX1_save_0 ++ []
theorem dksX1_save_0 : cX1_save.data.toList.drop 0 = dktX1_save_0 := by decide +kernel
theorem dX1_save_0 : decode cX1_save 0 = .ok (.aload_n 0, 1) := dk_42 (dk_at dksX1_save_0 0 rfl rfl)
theorem dX1_save_1 : decode cX1_save 1 = .ok (.aload_n 0, 1) := dk_42 (dk_at dksX1_save_0 1 rfl rfl)
theorem dX1_save_2 : decode cX1_save 2 = .ok (.getfield 44, 3) := dk_180 0 44 (dk_at dksX1_save_0 2 rfl rfl)
theorem dX1_save_5 : decode cX1_save 5 = .ok (.putfield 384, 3) := dk_181 1 128 (dk_at dksX1_save_0 5 rfl rfl)
theorem dX1_save_8 : decode cX1_save 8 = .ok (.aload_n 0, 1) := dk_42 (dk_at dksX1_save_0 8 rfl rfl)
theorem dX1_save_9 : decode cX1_save 9 = .ok (.getfield 44, 3) := dk_180 0 44 (dk_at dksX1_save_0 9 rfl rfl)
theorem dX1_save_12 : decode cX1_save 12 = .ok (.getfield 342, 3) := dk_180 1 86 (dk_at dksX1_save_0 12 rfl rfl)
theorem dX1_save_15 : decode cX1_save 15 = .ok (.ireturn, 1) := dk_172 (dk_at dksX1_save_0 15 rfl rfl)
abbrev cX1_bracket : ByteArray := prog_1_method_15_code
def yX1_bracket : MethodName := ⟨RX1, "bracket", "(II)I"⟩
def dkwX1_bracket_0 : List UInt8 := [42, 187, 0, 90, 89, 18, 105, 27, 28, 3, 183, 0, 107, 182, 0, 110, 172]
abbrev dktX1_bracket_0 : List UInt8 := dkwX1_bracket_0 ++ []
theorem dksX1_bracket_0 : cX1_bracket.data.toList.drop 0 = dktX1_bracket_0 := by decide +kernel
theorem dX1_bracket_0 : decode cX1_bracket 0 = .ok (.aload_n 0, 1) := dk_42 (dk_at dksX1_bracket_0 0 rfl rfl)
theorem dX1_bracket_1 : decode cX1_bracket 1 = .ok (.new 90, 3) := dk_187 0 90 (dk_at dksX1_bracket_0 1 rfl rfl)
theorem dX1_bracket_4 : decode cX1_bracket 4 = .ok (.dup, 1) := dk_89 (dk_at dksX1_bracket_0 4 rfl rfl)
theorem dX1_bracket_5 : decode cX1_bracket 5 = .ok (.ldc 105, 2) := dk_18 105 (dk_at dksX1_bracket_0 5 rfl rfl)
theorem dX1_bracket_7 : decode cX1_bracket 7 = .ok (.iload_n 1, 1) := dk_27 (dk_at dksX1_bracket_0 7 rfl rfl)
theorem dX1_bracket_8 : decode cX1_bracket 8 = .ok (.iload_n 2, 1) := dk_28 (dk_at dksX1_bracket_0 8 rfl rfl)
theorem dX1_bracket_9 : decode cX1_bracket 9 = .ok (.iconst 0, 1) := dk_3 (dk_at dksX1_bracket_0 9 rfl rfl)
theorem dX1_bracket_10 : decode cX1_bracket 10 = .ok (.invokespecial 107, 3) := dk_183 0 107 (dk_at dksX1_bracket_0 10 rfl rfl)
theorem dX1_bracket_13 : decode cX1_bracket 13 = .ok (.invokevirtual 110, 3) := dk_182 0 110 (dk_at dksX1_bracket_0 13 rfl rfl)
theorem dX1_bracket_16 : decode cX1_bracket 16 = .ok (.ireturn, 1) := dk_172 (dk_at dksX1_bracket_0 16 rfl rfl)
abbrev cX1_drop : ByteArray := prog_1_method_16_code
def yX1_drop : MethodName := ⟨RX1, "drop", "(I)I"⟩
def dkwX1_drop_0 : List UInt8 := [42, 187, 0, 90, 89, 18, 114, 27, 3, 3, 183, 0, 107, 182, 0, 110, 172]
abbrev dktX1_drop_0 : List UInt8 := dkwX1_drop_0 ++ []
theorem dksX1_drop_0 : cX1_drop.data.toList.drop 0 = dktX1_drop_0 := by decide +kernel
theorem dX1_drop_0 : decode cX1_drop 0 = .ok (.aload_n 0, 1) := dk_42 (dk_at dksX1_drop_0 0 rfl rfl)
theorem dX1_drop_1 : decode cX1_drop 1 = .ok (.new 90, 3) := dk_187 0 90 (dk_at dksX1_drop_0 1 rfl rfl)
theorem dX1_drop_4 : decode cX1_drop 4 = .ok (.dup, 1) := dk_89 (dk_at dksX1_drop_0 4 rfl rfl)
theorem dX1_drop_5 : decode cX1_drop 5 = .ok (.ldc 114, 2) := dk_18 114 (dk_at dksX1_drop_0 5 rfl rfl)
theorem dX1_drop_7 : decode cX1_drop 7 = .ok (.iload_n 1, 1) := dk_27 (dk_at dksX1_drop_0 7 rfl rfl)
theorem dX1_drop_8 : decode cX1_drop 8 = .ok (.iconst 0, 1) := dk_3 (dk_at dksX1_drop_0 8 rfl rfl)
theorem dX1_drop_9 : decode cX1_drop 9 = .ok (.iconst 0, 1) := dk_3 (dk_at dksX1_drop_0 9 rfl rfl)
theorem dX1_drop_10 : decode cX1_drop 10 = .ok (.invokespecial 107, 3) := dk_183 0 107 (dk_at dksX1_drop_0 10 rfl rfl)
theorem dX1_drop_13 : decode cX1_drop 13 = .ok (.invokevirtual 110, 3) := dk_182 0 110 (dk_at dksX1_drop_0 13 rfl rfl)
theorem dX1_drop_16 : decode cX1_drop 16 = .ok (.ireturn, 1) := dk_172 (dk_at dksX1_drop_0 16 rfl rfl)
abbrev cX1_rate : ByteArray := prog_1_method_17_code
def yX1_rate : MethodName := ⟨RX1, "rate", "(II)I"⟩
def dkwX1_rate_0 : List UInt8 := [42, 187, 0, 90, 89, 18, 116, 27, 28, 3, 183, 0, 107, 182, 0, 110, 172]
abbrev dktX1_rate_0 : List UInt8 := dkwX1_rate_0 ++ []
theorem dksX1_rate_0 : cX1_rate.data.toList.drop 0 = dktX1_rate_0 := by decide +kernel
theorem dX1_rate_0 : decode cX1_rate 0 = .ok (.aload_n 0, 1) := dk_42 (dk_at dksX1_rate_0 0 rfl rfl)
theorem dX1_rate_1 : decode cX1_rate 1 = .ok (.new 90, 3) := dk_187 0 90 (dk_at dksX1_rate_0 1 rfl rfl)
theorem dX1_rate_4 : decode cX1_rate 4 = .ok (.dup, 1) := dk_89 (dk_at dksX1_rate_0 4 rfl rfl)
theorem dX1_rate_5 : decode cX1_rate 5 = .ok (.ldc 116, 2) := dk_18 116 (dk_at dksX1_rate_0 5 rfl rfl)
theorem dX1_rate_7 : decode cX1_rate 7 = .ok (.iload_n 1, 1) := dk_27 (dk_at dksX1_rate_0 7 rfl rfl)
theorem dX1_rate_8 : decode cX1_rate 8 = .ok (.iload_n 2, 1) := dk_28 (dk_at dksX1_rate_0 8 rfl rfl)
theorem dX1_rate_9 : decode cX1_rate 9 = .ok (.iconst 0, 1) := dk_3 (dk_at dksX1_rate_0 9 rfl rfl)
theorem dX1_rate_10 : decode cX1_rate 10 = .ok (.invokespecial 107, 3) := dk_183 0 107 (dk_at dksX1_rate_0 10 rfl rfl)
theorem dX1_rate_13 : decode cX1_rate 13 = .ok (.invokevirtual 110, 3) := dk_182 0 110 (dk_at dksX1_rate_0 13 rfl rfl)
theorem dX1_rate_16 : decode cX1_rate 16 = .ok (.ireturn, 1) := dk_172 (dk_at dksX1_rate_0 16 rfl rfl)
abbrev cX1_credit : ByteArray := prog_1_method_18_code
def yX1_credit : MethodName := ⟨RX1, "credit", "(III)I"⟩
def dkwX1_credit_0 : List UInt8 := [42, 187, 0, 90, 89, 18, 118, 27, 28, 29, 183, 0, 107, 182, 0, 110, 172]
abbrev dktX1_credit_0 : List UInt8 := dkwX1_credit_0 ++ []
theorem dksX1_credit_0 : cX1_credit.data.toList.drop 0 = dktX1_credit_0 := by decide +kernel
theorem dX1_credit_0 : decode cX1_credit 0 = .ok (.aload_n 0, 1) := dk_42 (dk_at dksX1_credit_0 0 rfl rfl)
theorem dX1_credit_1 : decode cX1_credit 1 = .ok (.new 90, 3) := dk_187 0 90 (dk_at dksX1_credit_0 1 rfl rfl)
theorem dX1_credit_4 : decode cX1_credit 4 = .ok (.dup, 1) := dk_89 (dk_at dksX1_credit_0 4 rfl rfl)
theorem dX1_credit_5 : decode cX1_credit 5 = .ok (.ldc 118, 2) := dk_18 118 (dk_at dksX1_credit_0 5 rfl rfl)
theorem dX1_credit_7 : decode cX1_credit 7 = .ok (.iload_n 1, 1) := dk_27 (dk_at dksX1_credit_0 7 rfl rfl)
theorem dX1_credit_8 : decode cX1_credit 8 = .ok (.iload_n 2, 1) := dk_28 (dk_at dksX1_credit_0 8 rfl rfl)
theorem dX1_credit_9 : decode cX1_credit 9 = .ok (.iload_n 3, 1) := dk_29 (dk_at dksX1_credit_0 9 rfl rfl)
theorem dX1_credit_10 : decode cX1_credit 10 = .ok (.invokespecial 107, 3) := dk_183 0 107 (dk_at dksX1_credit_0 10 rfl rfl)
theorem dX1_credit_13 : decode cX1_credit 13 = .ok (.invokevirtual 110, 3) := dk_182 0 110 (dk_at dksX1_credit_0 13 rfl rfl)
theorem dX1_credit_16 : decode cX1_credit 16 = .ok (.ireturn, 1) := dk_172 (dk_at dksX1_credit_0 16 rfl rfl)
abbrev cX1_cap : ByteArray := prog_1_method_19_code
def yX1_cap : MethodName := ⟨RX1, "cap", "(II)I"⟩
def dkwX1_cap_0 : List UInt8 := [42, 187, 0, 90, 89, 18, 120, 27, 28, 3, 183, 0, 107, 182, 0, 110, 172]
abbrev dktX1_cap_0 : List UInt8 := dkwX1_cap_0 ++ []
theorem dksX1_cap_0 : cX1_cap.data.toList.drop 0 = dktX1_cap_0 := by decide +kernel
theorem dX1_cap_0 : decode cX1_cap 0 = .ok (.aload_n 0, 1) := dk_42 (dk_at dksX1_cap_0 0 rfl rfl)
theorem dX1_cap_1 : decode cX1_cap 1 = .ok (.new 90, 3) := dk_187 0 90 (dk_at dksX1_cap_0 1 rfl rfl)
theorem dX1_cap_4 : decode cX1_cap 4 = .ok (.dup, 1) := dk_89 (dk_at dksX1_cap_0 4 rfl rfl)
theorem dX1_cap_5 : decode cX1_cap 5 = .ok (.ldc 120, 2) := dk_18 120 (dk_at dksX1_cap_0 5 rfl rfl)
theorem dX1_cap_7 : decode cX1_cap 7 = .ok (.iload_n 1, 1) := dk_27 (dk_at dksX1_cap_0 7 rfl rfl)
theorem dX1_cap_8 : decode cX1_cap 8 = .ok (.iload_n 2, 1) := dk_28 (dk_at dksX1_cap_0 8 rfl rfl)
theorem dX1_cap_9 : decode cX1_cap 9 = .ok (.iconst 0, 1) := dk_3 (dk_at dksX1_cap_0 9 rfl rfl)
theorem dX1_cap_10 : decode cX1_cap 10 = .ok (.invokespecial 107, 3) := dk_183 0 107 (dk_at dksX1_cap_0 10 rfl rfl)
theorem dX1_cap_13 : decode cX1_cap 13 = .ok (.invokevirtual 110, 3) := dk_182 0 110 (dk_at dksX1_cap_0 13 rfl rfl)
theorem dX1_cap_16 : decode cX1_cap 16 = .ok (.ireturn, 1) := dk_172 (dk_at dksX1_cap_0 16 rfl rfl)
abbrev cX1_citizen : ByteArray := prog_1_method_20_code
def yX1_citizen : MethodName := ⟨RX1, "citizen", "()I"⟩
def dkwX1_citizen_0 : List UInt8 := [42, 187, 0, 90, 89, 18, 122, 3, 3, 3, 183, 0, 107, 182, 0, 110, 172]
abbrev dktX1_citizen_0 : List UInt8 := dkwX1_citizen_0 ++ []
theorem dksX1_citizen_0 : cX1_citizen.data.toList.drop 0 = dktX1_citizen_0 := by decide +kernel
theorem dX1_citizen_0 : decode cX1_citizen 0 = .ok (.aload_n 0, 1) := dk_42 (dk_at dksX1_citizen_0 0 rfl rfl)
theorem dX1_citizen_1 : decode cX1_citizen 1 = .ok (.new 90, 3) := dk_187 0 90 (dk_at dksX1_citizen_0 1 rfl rfl)
theorem dX1_citizen_4 : decode cX1_citizen 4 = .ok (.dup, 1) := dk_89 (dk_at dksX1_citizen_0 4 rfl rfl)
theorem dX1_citizen_5 : decode cX1_citizen 5 = .ok (.ldc 122, 2) := dk_18 122 (dk_at dksX1_citizen_0 5 rfl rfl)
theorem dX1_citizen_7 : decode cX1_citizen 7 = .ok (.iconst 0, 1) := dk_3 (dk_at dksX1_citizen_0 7 rfl rfl)
theorem dX1_citizen_8 : decode cX1_citizen 8 = .ok (.iconst 0, 1) := dk_3 (dk_at dksX1_citizen_0 8 rfl rfl)
theorem dX1_citizen_9 : decode cX1_citizen 9 = .ok (.iconst 0, 1) := dk_3 (dk_at dksX1_citizen_0 9 rfl rfl)
theorem dX1_citizen_10 : decode cX1_citizen 10 = .ok (.invokespecial 107, 3) := dk_183 0 107 (dk_at dksX1_citizen_0 10 rfl rfl)
theorem dX1_citizen_13 : decode cX1_citizen 13 = .ok (.invokevirtual 110, 3) := dk_182 0 110 (dk_at dksX1_citizen_0 13 rfl rfl)
theorem dX1_citizen_16 : decode cX1_citizen 16 = .ok (.ireturn, 1) := dk_172 (dk_at dksX1_citizen_0 16 rfl rfl)
abbrev cX1_earn : ByteArray := prog_1_method_21_code
def yX1_earn : MethodName := ⟨RX1, "earn", "(II)I"⟩
def dkwX1_earn_0 : List UInt8 := [42, 187, 0, 90, 89, 18, 124, 27, 28, 3, 183, 0, 107, 182, 0, 110, 172]
abbrev dktX1_earn_0 : List UInt8 := dkwX1_earn_0 ++ []
theorem dksX1_earn_0 : cX1_earn.data.toList.drop 0 = dktX1_earn_0 := by decide +kernel
theorem dX1_earn_0 : decode cX1_earn 0 = .ok (.aload_n 0, 1) := dk_42 (dk_at dksX1_earn_0 0 rfl rfl)
theorem dX1_earn_1 : decode cX1_earn 1 = .ok (.new 90, 3) := dk_187 0 90 (dk_at dksX1_earn_0 1 rfl rfl)
theorem dX1_earn_4 : decode cX1_earn 4 = .ok (.dup, 1) := dk_89 (dk_at dksX1_earn_0 4 rfl rfl)
theorem dX1_earn_5 : decode cX1_earn 5 = .ok (.ldc 124, 2) := dk_18 124 (dk_at dksX1_earn_0 5 rfl rfl)
theorem dX1_earn_7 : decode cX1_earn 7 = .ok (.iload_n 1, 1) := dk_27 (dk_at dksX1_earn_0 7 rfl rfl)
theorem dX1_earn_8 : decode cX1_earn 8 = .ok (.iload_n 2, 1) := dk_28 (dk_at dksX1_earn_0 8 rfl rfl)
theorem dX1_earn_9 : decode cX1_earn 9 = .ok (.iconst 0, 1) := dk_3 (dk_at dksX1_earn_0 9 rfl rfl)
theorem dX1_earn_10 : decode cX1_earn 10 = .ok (.invokespecial 107, 3) := dk_183 0 107 (dk_at dksX1_earn_0 10 rfl rfl)
theorem dX1_earn_13 : decode cX1_earn 13 = .ok (.invokevirtual 110, 3) := dk_182 0 110 (dk_at dksX1_earn_0 13 rfl rfl)
theorem dX1_earn_16 : decode cX1_earn 16 = .ok (.ireturn, 1) := dk_172 (dk_at dksX1_earn_0 16 rfl rfl)
abbrev cX1_claim : ByteArray := prog_1_method_22_code
def yX1_claim : MethodName := ⟨RX1, "claim", "(IIIZ)I"⟩
def dkwX1_claim_0 : List UInt8 := [42, 187, 0, 90, 89, 18, 126, 27, 28, 29, 21, 4, 183, 0, 128, 182, 0, 110, 172]
abbrev dktX1_claim_0 : List UInt8 := dkwX1_claim_0 ++ []
theorem dksX1_claim_0 : cX1_claim.data.toList.drop 0 = dktX1_claim_0 := by decide +kernel
theorem dX1_claim_0 : decode cX1_claim 0 = .ok (.aload_n 0, 1) := dk_42 (dk_at dksX1_claim_0 0 rfl rfl)
theorem dX1_claim_1 : decode cX1_claim 1 = .ok (.new 90, 3) := dk_187 0 90 (dk_at dksX1_claim_0 1 rfl rfl)
theorem dX1_claim_4 : decode cX1_claim 4 = .ok (.dup, 1) := dk_89 (dk_at dksX1_claim_0 4 rfl rfl)
theorem dX1_claim_5 : decode cX1_claim 5 = .ok (.ldc 126, 2) := dk_18 126 (dk_at dksX1_claim_0 5 rfl rfl)
theorem dX1_claim_7 : decode cX1_claim 7 = .ok (.iload_n 1, 1) := dk_27 (dk_at dksX1_claim_0 7 rfl rfl)
theorem dX1_claim_8 : decode cX1_claim 8 = .ok (.iload_n 2, 1) := dk_28 (dk_at dksX1_claim_0 8 rfl rfl)
theorem dX1_claim_9 : decode cX1_claim 9 = .ok (.iload_n 3, 1) := dk_29 (dk_at dksX1_claim_0 9 rfl rfl)
theorem dX1_claim_10 : decode cX1_claim 10 = .ok (.iload 4, 2) := dk_21 4 (dk_at dksX1_claim_0 10 rfl rfl)
theorem dX1_claim_12 : decode cX1_claim 12 = .ok (.invokespecial 128, 3) := dk_183 0 128 (dk_at dksX1_claim_0 12 rfl rfl)
theorem dX1_claim_15 : decode cX1_claim 15 = .ok (.invokevirtual 110, 3) := dk_182 0 110 (dk_at dksX1_claim_0 15 rfl rfl)
theorem dX1_claim_18 : decode cX1_claim 18 = .ok (.ireturn, 1) := dk_172 (dk_at dksX1_claim_0 18 rfl rfl)
abbrev cX1_prove : ByteArray := prog_1_method_23_code
def yX1_prove : MethodName := ⟨RX1, "prove", "(II)I"⟩
def dkwX1_prove_0 : List UInt8 := [42, 187, 0, 90, 89, 18, 131, 27, 28, 3, 183, 0, 107, 182, 0, 110, 172]
abbrev dktX1_prove_0 : List UInt8 := dkwX1_prove_0 ++ []
theorem dksX1_prove_0 : cX1_prove.data.toList.drop 0 = dktX1_prove_0 := by decide +kernel
theorem dX1_prove_0 : decode cX1_prove 0 = .ok (.aload_n 0, 1) := dk_42 (dk_at dksX1_prove_0 0 rfl rfl)
theorem dX1_prove_1 : decode cX1_prove 1 = .ok (.new 90, 3) := dk_187 0 90 (dk_at dksX1_prove_0 1 rfl rfl)
theorem dX1_prove_4 : decode cX1_prove 4 = .ok (.dup, 1) := dk_89 (dk_at dksX1_prove_0 4 rfl rfl)
theorem dX1_prove_5 : decode cX1_prove 5 = .ok (.ldc 131, 2) := dk_18 131 (dk_at dksX1_prove_0 5 rfl rfl)
theorem dX1_prove_7 : decode cX1_prove 7 = .ok (.iload_n 1, 1) := dk_27 (dk_at dksX1_prove_0 7 rfl rfl)
theorem dX1_prove_8 : decode cX1_prove 8 = .ok (.iload_n 2, 1) := dk_28 (dk_at dksX1_prove_0 8 rfl rfl)
theorem dX1_prove_9 : decode cX1_prove 9 = .ok (.iconst 0, 1) := dk_3 (dk_at dksX1_prove_0 9 rfl rfl)
theorem dX1_prove_10 : decode cX1_prove 10 = .ok (.invokespecial 107, 3) := dk_183 0 107 (dk_at dksX1_prove_0 10 rfl rfl)
theorem dX1_prove_13 : decode cX1_prove 13 = .ok (.invokevirtual 110, 3) := dk_182 0 110 (dk_at dksX1_prove_0 13 rfl rfl)
theorem dX1_prove_16 : decode cX1_prove 16 = .ok (.ireturn, 1) := dk_172 (dk_at dksX1_prove_0 16 rfl rfl)
abbrev cX1_bracketOf : ByteArray := prog_1_method_26_code
def yX1_bracketOf : MethodName := ⟨RX1, "bracketOf", "(II)I"⟩
def dkwX1_bracketOf_2 : List UInt8 := [192, 0, 168, 78, 28, 154, 0, 10, 45, 180, 0, 170, 167, 0, 7, 45, 180, 0, 173, 172]
abbrev dktX1_bracketOf_2 : List UInt8 := dkwX1_bracketOf_2 ++ []
def dkwX1_bracketOf_1 : List UInt8 := [3, 4, 184, 0, 30, 184, 0, 164, 42, 180, 0, 44, 180, 0, 151, 180, 0, 155, 27, 182, 0, 167]
abbrev dktX1_bracketOf_1 : List UInt8 := dkwX1_bracketOf_1 ++ dktX1_bracketOf_2
def dkwX1_bracketOf_0 : List UInt8 := [27, 3, 42, 180, 0, 44, 180, 0, 151, 180, 0, 155, 182, 0, 161, 4, 100, 184, 0, 30, 184, 0, 142, 28]
abbrev dktX1_bracketOf_0 : List UInt8 := dkwX1_bracketOf_0 ++ dktX1_bracketOf_1
theorem dksX1_bracketOf_0 : cX1_bracketOf.data.toList.drop 0 = dktX1_bracketOf_0 := by decide +kernel
theorem dksX1_bracketOf_1 : cX1_bracketOf.data.toList.drop 24 = dktX1_bracketOf_1 := dk_seg dksX1_bracketOf_0 24 rfl rfl
theorem dksX1_bracketOf_2 : cX1_bracketOf.data.toList.drop 46 = dktX1_bracketOf_2 := dk_seg dksX1_bracketOf_1 22 rfl rfl
theorem dX1_bracketOf_0 : decode cX1_bracketOf 0 = .ok (.iload_n 1, 1) := dk_27 (dk_at dksX1_bracketOf_0 0 rfl rfl)
theorem dX1_bracketOf_1 : decode cX1_bracketOf 1 = .ok (.iconst 0, 1) := dk_3 (dk_at dksX1_bracketOf_0 1 rfl rfl)
theorem dX1_bracketOf_2 : decode cX1_bracketOf 2 = .ok (.aload_n 0, 1) := dk_42 (dk_at dksX1_bracketOf_0 2 rfl rfl)
theorem dX1_bracketOf_3 : decode cX1_bracketOf 3 = .ok (.getfield 44, 3) := dk_180 0 44 (dk_at dksX1_bracketOf_0 3 rfl rfl)
theorem dX1_bracketOf_6 : decode cX1_bracketOf 6 = .ok (.getfield 151, 3) := dk_180 0 151 (dk_at dksX1_bracketOf_0 6 rfl rfl)
theorem dX1_bracketOf_9 : decode cX1_bracketOf 9 = .ok (.getfield 155, 3) := dk_180 0 155 (dk_at dksX1_bracketOf_0 9 rfl rfl)
theorem dX1_bracketOf_12 : decode cX1_bracketOf 12 = .ok (.invokevirtual 161, 3) := dk_182 0 161 (dk_at dksX1_bracketOf_0 12 rfl rfl)
theorem dX1_bracketOf_15 : decode cX1_bracketOf 15 = .ok (.iconst 1, 1) := dk_4 (dk_at dksX1_bracketOf_0 15 rfl rfl)
theorem dX1_bracketOf_16 : decode cX1_bracketOf 16 = .ok (.isub, 1) := dk_100 (dk_at dksX1_bracketOf_0 16 rfl rfl)
theorem dX1_bracketOf_17 : decode cX1_bracketOf 17 = .ok (.invokestatic 30, 3) := dk_184 0 30 (dk_at dksX1_bracketOf_0 17 rfl rfl)
theorem dX1_bracketOf_20 : decode cX1_bracketOf 20 = .ok (.invokestatic 142, 3) := dk_184 0 142 (dk_at dksX1_bracketOf_0 20 rfl rfl)
theorem dX1_bracketOf_23 : decode cX1_bracketOf 23 = .ok (.iload_n 2, 1) := dk_28 (dk_at dksX1_bracketOf_0 23 rfl rfl)
theorem dX1_bracketOf_24 : decode cX1_bracketOf 24 = .ok (.iconst 0, 1) := dk_3 (dk_at dksX1_bracketOf_1 0 rfl rfl)
theorem dX1_bracketOf_25 : decode cX1_bracketOf 25 = .ok (.iconst 1, 1) := dk_4 (dk_at dksX1_bracketOf_1 1 rfl rfl)
theorem dX1_bracketOf_26 : decode cX1_bracketOf 26 = .ok (.invokestatic 30, 3) := dk_184 0 30 (dk_at dksX1_bracketOf_1 2 rfl rfl)
theorem dX1_bracketOf_29 : decode cX1_bracketOf 29 = .ok (.invokestatic 164, 3) := dk_184 0 164 (dk_at dksX1_bracketOf_1 5 rfl rfl)
theorem dX1_bracketOf_32 : decode cX1_bracketOf 32 = .ok (.aload_n 0, 1) := dk_42 (dk_at dksX1_bracketOf_1 8 rfl rfl)
theorem dX1_bracketOf_33 : decode cX1_bracketOf 33 = .ok (.getfield 44, 3) := dk_180 0 44 (dk_at dksX1_bracketOf_1 9 rfl rfl)
theorem dX1_bracketOf_36 : decode cX1_bracketOf 36 = .ok (.getfield 151, 3) := dk_180 0 151 (dk_at dksX1_bracketOf_1 12 rfl rfl)
theorem dX1_bracketOf_39 : decode cX1_bracketOf 39 = .ok (.getfield 155, 3) := dk_180 0 155 (dk_at dksX1_bracketOf_1 15 rfl rfl)
theorem dX1_bracketOf_42 : decode cX1_bracketOf 42 = .ok (.iload_n 1, 1) := dk_27 (dk_at dksX1_bracketOf_1 18 rfl rfl)
theorem dX1_bracketOf_43 : decode cX1_bracketOf 43 = .ok (.invokevirtual 167, 3) := dk_182 0 167 (dk_at dksX1_bracketOf_1 19 rfl rfl)
theorem dX1_bracketOf_46 : decode cX1_bracketOf 46 = .ok (.checkcast 168, 3) := dk_192 0 168 (dk_at dksX1_bracketOf_2 0 rfl rfl)
theorem dX1_bracketOf_49 : decode cX1_bracketOf 49 = .ok (.astore_n 3, 1) := dk_78 (dk_at dksX1_bracketOf_2 3 rfl rfl)
theorem dX1_bracketOf_50 : decode cX1_bracketOf 50 = .ok (.iload_n 2, 1) := dk_28 (dk_at dksX1_bracketOf_2 4 rfl rfl)
theorem dX1_bracketOf_51 : decode cX1_bracketOf 51 = .ok (.ifCond .ne 10, 3) := dk_154 0 10 (dk_at dksX1_bracketOf_2 5 rfl rfl)
theorem dX1_bracketOf_54 : decode cX1_bracketOf 54 = .ok (.aload_n 3, 1) := dk_45 (dk_at dksX1_bracketOf_2 8 rfl rfl)
theorem dX1_bracketOf_55 : decode cX1_bracketOf 55 = .ok (.getfield 170, 3) := dk_180 0 170 (dk_at dksX1_bracketOf_2 9 rfl rfl)
theorem dX1_bracketOf_58 : decode cX1_bracketOf 58 = .ok (.goto 7, 3) := dk_167 0 7 (dk_at dksX1_bracketOf_2 12 rfl rfl)
theorem dX1_bracketOf_61 : decode cX1_bracketOf 61 = .ok (.aload_n 3, 1) := dk_45 (dk_at dksX1_bracketOf_2 15 rfl rfl)
theorem dX1_bracketOf_62 : decode cX1_bracketOf 62 = .ok (.getfield 173, 3) := dk_180 0 173 (dk_at dksX1_bracketOf_2 16 rfl rfl)
theorem dX1_bracketOf_65 : decode cX1_bracketOf 65 = .ok (.ireturn, 1) := dk_172 (dk_at dksX1_bracketOf_2 19 rfl rfl)
abbrev cX1_requireIndex : ByteArray := prog_1_method_2_code
def yX1_requireIndex : MethodName := ⟨RX1, "requireIndex", "(Z)V"⟩
def dkwX1_requireIndex_0 : List UInt8 := [26, 154, 0, 11, 187, 0, 1, 89, 183, 0, 3, 191, 177]
abbrev dktX1_requireIndex_0 : List UInt8 := dkwX1_requireIndex_0 ++ []
theorem dksX1_requireIndex_0 : cX1_requireIndex.data.toList.drop 0 = dktX1_requireIndex_0 := by decide +kernel
theorem dX1_requireIndex_0 : decode cX1_requireIndex 0 = .ok (.iload_n 0, 1) := dk_26 (dk_at dksX1_requireIndex_0 0 rfl rfl)
theorem dX1_requireIndex_1 : decode cX1_requireIndex 1 = .ok (.ifCond .ne 11, 3) := dk_154 0 11 (dk_at dksX1_requireIndex_0 1 rfl rfl)
theorem dX1_requireIndex_4 : decode cX1_requireIndex 4 = .ok (.new 1, 3) := dk_187 0 1 (dk_at dksX1_requireIndex_0 4 rfl rfl)
theorem dX1_requireIndex_7 : decode cX1_requireIndex 7 = .ok (.dup, 1) := dk_89 (dk_at dksX1_requireIndex_0 7 rfl rfl)
theorem dX1_requireIndex_8 : decode cX1_requireIndex 8 = .ok (.invokespecial 3, 3) := dk_183 0 3 (dk_at dksX1_requireIndex_0 8 rfl rfl)
theorem dX1_requireIndex_11 : decode cX1_requireIndex 11 = .ok (.athrow, 1) := dk_191 (dk_at dksX1_requireIndex_0 11 rfl rfl)
theorem dX1_requireIndex_12 : decode cX1_requireIndex 12 = .ok (.return_, 1) := dk_177 (dk_at dksX1_requireIndex_0 12 rfl rfl)
abbrev cX1_require : ByteArray := prog_1_method_3_code
def yX1_require : MethodName := ⟨RX1, "require", "(Z)V"⟩
def dkwX1_require_0 : List UInt8 := [26, 154, 0, 11, 187, 0, 7, 89, 183, 0, 9, 191, 177]
abbrev dktX1_require_0 : List UInt8 := dkwX1_require_0 ++ []
theorem dksX1_require_0 : cX1_require.data.toList.drop 0 = dktX1_require_0 := by decide +kernel
theorem dX1_require_0 : decode cX1_require 0 = .ok (.iload_n 0, 1) := dk_26 (dk_at dksX1_require_0 0 rfl rfl)
theorem dX1_require_1 : decode cX1_require 1 = .ok (.ifCond .ne 11, 3) := dk_154 0 11 (dk_at dksX1_require_0 1 rfl rfl)
theorem dX1_require_4 : decode cX1_require 4 = .ok (.new 7, 3) := dk_187 0 7 (dk_at dksX1_require_0 4 rfl rfl)
theorem dX1_require_7 : decode cX1_require 7 = .ok (.dup, 1) := dk_89 (dk_at dksX1_require_0 7 rfl rfl)
theorem dX1_require_8 : decode cX1_require 8 = .ok (.invokespecial 9, 3) := dk_183 0 9 (dk_at dksX1_require_0 8 rfl rfl)
theorem dX1_require_11 : decode cX1_require 11 = .ok (.athrow, 1) := dk_191 (dk_at dksX1_require_0 11 rfl rfl)
theorem dX1_require_12 : decode cX1_require 12 = .ok (.return_, 1) := dk_177 (dk_at dksX1_require_0 12 rfl rfl)
abbrev cX1_bracketAt : ByteArray := prog_1_method_27_code
def yX1_bracketAt : MethodName := ⟨RX1, "bracketAt", "(I)I"⟩
def dkwX1_bracketAt_0 : List UInt8 := [27, 4, 17, 39, 15, 184, 0, 30, 184, 0, 164, 42, 180, 0, 44, 180, 0, 151, 27, 182, 0, 175, 172]
abbrev dktX1_bracketAt_0 : List UInt8 := dkwX1_bracketAt_0 ++ []
theorem dksX1_bracketAt_0 : cX1_bracketAt.data.toList.drop 0 = dktX1_bracketAt_0 := by decide +kernel
theorem dX1_bracketAt_0 : decode cX1_bracketAt 0 = .ok (.iload_n 1, 1) := dk_27 (dk_at dksX1_bracketAt_0 0 rfl rfl)
theorem dX1_bracketAt_1 : decode cX1_bracketAt 1 = .ok (.iconst 1, 1) := dk_4 (dk_at dksX1_bracketAt_0 1 rfl rfl)
theorem dX1_bracketAt_2 : decode cX1_bracketAt 2 = .ok (.sipush 9999, 3) := dk_17 39 15 (dk_at dksX1_bracketAt_0 2 rfl rfl)
theorem dX1_bracketAt_5 : decode cX1_bracketAt 5 = .ok (.invokestatic 30, 3) := dk_184 0 30 (dk_at dksX1_bracketAt_0 5 rfl rfl)
theorem dX1_bracketAt_8 : decode cX1_bracketAt 8 = .ok (.invokestatic 164, 3) := dk_184 0 164 (dk_at dksX1_bracketAt_0 8 rfl rfl)
theorem dX1_bracketAt_11 : decode cX1_bracketAt 11 = .ok (.aload_n 0, 1) := dk_42 (dk_at dksX1_bracketAt_0 11 rfl rfl)
theorem dX1_bracketAt_12 : decode cX1_bracketAt 12 = .ok (.getfield 44, 3) := dk_180 0 44 (dk_at dksX1_bracketAt_0 12 rfl rfl)
theorem dX1_bracketAt_15 : decode cX1_bracketAt 15 = .ok (.getfield 151, 3) := dk_180 0 151 (dk_at dksX1_bracketAt_0 15 rfl rfl)
theorem dX1_bracketAt_18 : decode cX1_bracketAt 18 = .ok (.iload_n 1, 1) := dk_27 (dk_at dksX1_bracketAt_0 18 rfl rfl)
theorem dX1_bracketAt_19 : decode cX1_bracketAt 19 = .ok (.invokevirtual 175, 3) := dk_182 0 175 (dk_at dksX1_bracketAt_0 19 rfl rfl)
theorem dX1_bracketAt_22 : decode cX1_bracketAt 22 = .ok (.ireturn, 1) := dk_172 (dk_at dksX1_bracketAt_0 22 rfl rfl)
abbrev cX1_citizenOf : ByteArray := prog_1_method_28_code
def yX1_citizenOf : MethodName := ⟨RX1, "citizenOf", "(II)I"⟩
def dkwX1_citizenOf_4 : List UInt8 := [45, 180, 0, 208, 182, 0, 212, 172, 187, 0, 7, 89, 183, 0, 9, 191]
abbrev dktX1_citizenOf_4 : List UInt8 := dkwX1_citizenOf_4 ++ []
def dkwX1_citizenOf_3 : List UInt8 := [182, 0, 192, 172, 45, 182, 0, 196, 172, 45, 182, 0, 199, 172, 45, 180, 0, 202, 172, 45, 180, 0, 205, 172]
abbrev dktX1_citizenOf_3 : List UInt8 := dkwX1_citizenOf_3 ++ dktX1_citizenOf_4
def dkwX1_citizenOf_2 : List UInt8 := [45, 180, 0, 183, 172, 45, 180, 0, 186, 172, 45, 180, 0, 189, 172, 45, 42, 180, 0, 44, 180, 0, 151]
abbrev dktX1_citizenOf_2 : List UInt8 := dkwX1_citizenOf_2 ++ dktX1_citizenOf_3
def dkwX1_citizenOf_1 : List UInt8 := [170, 0, 0, 0, 104, 0, 0, 0, 0, 0, 0, 0, 8, 0, 0, 0, 49, 0, 0, 0, 54, 0, 0, 0, 59, 0, 0, 0, 64, 0, 0, 0, 76, 0, 0, 0, 81, 0, 0, 0, 86, 0, 0, 0, 91, 0, 0, 0, 96]
abbrev dktX1_citizenOf_1 : List UInt8 := dkwX1_citizenOf_1 ++ dktX1_citizenOf_2
def dkwX1_citizenOf_0 : List UInt8 := [42, 27, 182, 0, 179, 78, 28]
abbrev dktX1_citizenOf_0 : List UInt8 := dkwX1_citizenOf_0 ++ dktX1_citizenOf_1
theorem dksX1_citizenOf_0 : cX1_citizenOf.data.toList.drop 0 = dktX1_citizenOf_0 := by decide +kernel
theorem dksX1_citizenOf_1 : cX1_citizenOf.data.toList.drop 7 = dktX1_citizenOf_1 := dk_seg dksX1_citizenOf_0 7 rfl rfl
theorem dksX1_citizenOf_2 : cX1_citizenOf.data.toList.drop 56 = dktX1_citizenOf_2 := dk_seg dksX1_citizenOf_1 49 rfl rfl
theorem dksX1_citizenOf_3 : cX1_citizenOf.data.toList.drop 79 = dktX1_citizenOf_3 := dk_seg dksX1_citizenOf_2 23 rfl rfl
theorem dksX1_citizenOf_4 : cX1_citizenOf.data.toList.drop 103 = dktX1_citizenOf_4 := dk_seg dksX1_citizenOf_3 24 rfl rfl
theorem dX1_citizenOf_0 : decode cX1_citizenOf 0 = .ok (.aload_n 0, 1) := dk_42 (dk_at dksX1_citizenOf_0 0 rfl rfl)
theorem dX1_citizenOf_1 : decode cX1_citizenOf 1 = .ok (.iload_n 1, 1) := dk_27 (dk_at dksX1_citizenOf_0 1 rfl rfl)
theorem dX1_citizenOf_2 : decode cX1_citizenOf 2 = .ok (.invokevirtual 179, 3) := dk_182 0 179 (dk_at dksX1_citizenOf_0 2 rfl rfl)
theorem dX1_citizenOf_5 : decode cX1_citizenOf 5 = .ok (.astore_n 3, 1) := dk_78 (dk_at dksX1_citizenOf_0 5 rfl rfl)
theorem dX1_citizenOf_6 : decode cX1_citizenOf 6 = .ok (.iload_n 2, 1) := dk_28 (dk_at dksX1_citizenOf_0 6 rfl rfl)
theorem dX1_citizenOf_7 : decode cX1_citizenOf 7 = .ok (.tableswitch 104 0 8 #[49, 54, 59, 64, 76, 81, 86, 91, 96], 49) := by decide +kernel
theorem dX1_citizenOf_56 : decode cX1_citizenOf 56 = .ok (.aload_n 3, 1) := dk_45 (dk_at dksX1_citizenOf_2 0 rfl rfl)
theorem dX1_citizenOf_57 : decode cX1_citizenOf 57 = .ok (.getfield 183, 3) := dk_180 0 183 (dk_at dksX1_citizenOf_2 1 rfl rfl)
theorem dX1_citizenOf_60 : decode cX1_citizenOf 60 = .ok (.ireturn, 1) := dk_172 (dk_at dksX1_citizenOf_2 4 rfl rfl)
theorem dX1_citizenOf_61 : decode cX1_citizenOf 61 = .ok (.aload_n 3, 1) := dk_45 (dk_at dksX1_citizenOf_2 5 rfl rfl)
theorem dX1_citizenOf_62 : decode cX1_citizenOf 62 = .ok (.getfield 186, 3) := dk_180 0 186 (dk_at dksX1_citizenOf_2 6 rfl rfl)
theorem dX1_citizenOf_65 : decode cX1_citizenOf 65 = .ok (.ireturn, 1) := dk_172 (dk_at dksX1_citizenOf_2 9 rfl rfl)
theorem dX1_citizenOf_66 : decode cX1_citizenOf 66 = .ok (.aload_n 3, 1) := dk_45 (dk_at dksX1_citizenOf_2 10 rfl rfl)
theorem dX1_citizenOf_67 : decode cX1_citizenOf 67 = .ok (.getfield 189, 3) := dk_180 0 189 (dk_at dksX1_citizenOf_2 11 rfl rfl)
theorem dX1_citizenOf_70 : decode cX1_citizenOf 70 = .ok (.ireturn, 1) := dk_172 (dk_at dksX1_citizenOf_2 14 rfl rfl)
theorem dX1_citizenOf_71 : decode cX1_citizenOf 71 = .ok (.aload_n 3, 1) := dk_45 (dk_at dksX1_citizenOf_2 15 rfl rfl)
theorem dX1_citizenOf_72 : decode cX1_citizenOf 72 = .ok (.aload_n 0, 1) := dk_42 (dk_at dksX1_citizenOf_2 16 rfl rfl)
theorem dX1_citizenOf_73 : decode cX1_citizenOf 73 = .ok (.getfield 44, 3) := dk_180 0 44 (dk_at dksX1_citizenOf_2 17 rfl rfl)
theorem dX1_citizenOf_76 : decode cX1_citizenOf 76 = .ok (.getfield 151, 3) := dk_180 0 151 (dk_at dksX1_citizenOf_2 20 rfl rfl)
theorem dX1_citizenOf_79 : decode cX1_citizenOf 79 = .ok (.invokevirtual 192, 3) := dk_182 0 192 (dk_at dksX1_citizenOf_3 0 rfl rfl)
theorem dX1_citizenOf_82 : decode cX1_citizenOf 82 = .ok (.ireturn, 1) := dk_172 (dk_at dksX1_citizenOf_3 3 rfl rfl)
theorem dX1_citizenOf_83 : decode cX1_citizenOf 83 = .ok (.aload_n 3, 1) := dk_45 (dk_at dksX1_citizenOf_3 4 rfl rfl)
theorem dX1_citizenOf_84 : decode cX1_citizenOf 84 = .ok (.invokevirtual 196, 3) := dk_182 0 196 (dk_at dksX1_citizenOf_3 5 rfl rfl)
theorem dX1_citizenOf_87 : decode cX1_citizenOf 87 = .ok (.ireturn, 1) := dk_172 (dk_at dksX1_citizenOf_3 8 rfl rfl)
theorem dX1_citizenOf_88 : decode cX1_citizenOf 88 = .ok (.aload_n 3, 1) := dk_45 (dk_at dksX1_citizenOf_3 9 rfl rfl)
theorem dX1_citizenOf_89 : decode cX1_citizenOf 89 = .ok (.invokevirtual 199, 3) := dk_182 0 199 (dk_at dksX1_citizenOf_3 10 rfl rfl)
theorem dX1_citizenOf_92 : decode cX1_citizenOf 92 = .ok (.ireturn, 1) := dk_172 (dk_at dksX1_citizenOf_3 13 rfl rfl)
theorem dX1_citizenOf_93 : decode cX1_citizenOf 93 = .ok (.aload_n 3, 1) := dk_45 (dk_at dksX1_citizenOf_3 14 rfl rfl)
theorem dX1_citizenOf_94 : decode cX1_citizenOf 94 = .ok (.getfield 202, 3) := dk_180 0 202 (dk_at dksX1_citizenOf_3 15 rfl rfl)
theorem dX1_citizenOf_97 : decode cX1_citizenOf 97 = .ok (.ireturn, 1) := dk_172 (dk_at dksX1_citizenOf_3 18 rfl rfl)
theorem dX1_citizenOf_98 : decode cX1_citizenOf 98 = .ok (.aload_n 3, 1) := dk_45 (dk_at dksX1_citizenOf_3 19 rfl rfl)
theorem dX1_citizenOf_99 : decode cX1_citizenOf 99 = .ok (.getfield 205, 3) := dk_180 0 205 (dk_at dksX1_citizenOf_3 20 rfl rfl)
theorem dX1_citizenOf_102 : decode cX1_citizenOf 102 = .ok (.ireturn, 1) := dk_172 (dk_at dksX1_citizenOf_3 23 rfl rfl)
theorem dX1_citizenOf_103 : decode cX1_citizenOf 103 = .ok (.aload_n 3, 1) := dk_45 (dk_at dksX1_citizenOf_4 0 rfl rfl)
theorem dX1_citizenOf_104 : decode cX1_citizenOf 104 = .ok (.getfield 208, 3) := dk_180 0 208 (dk_at dksX1_citizenOf_4 1 rfl rfl)
theorem dX1_citizenOf_107 : decode cX1_citizenOf 107 = .ok (.invokevirtual 212, 3) := dk_182 0 212 (dk_at dksX1_citizenOf_4 4 rfl rfl)
theorem dX1_citizenOf_110 : decode cX1_citizenOf 110 = .ok (.ireturn, 1) := dk_172 (dk_at dksX1_citizenOf_4 7 rfl rfl)
theorem dX1_citizenOf_111 : decode cX1_citizenOf 111 = .ok (.new 7, 3) := dk_187 0 7 (dk_at dksX1_citizenOf_4 8 rfl rfl)
theorem dX1_citizenOf_114 : decode cX1_citizenOf 114 = .ok (.dup, 1) := dk_89 (dk_at dksX1_citizenOf_4 11 rfl rfl)
theorem dX1_citizenOf_115 : decode cX1_citizenOf 115 = .ok (.invokespecial 9, 3) := dk_183 0 9 (dk_at dksX1_citizenOf_4 12 rfl rfl)
theorem dX1_citizenOf_118 : decode cX1_citizenOf 118 = .ok (.athrow, 1) := dk_191 (dk_at dksX1_citizenOf_4 15 rfl rfl)
abbrev cX1_requiredCitizen : ByteArray := prog_1_method_25_code
def yX1_requiredCitizen : MethodName := ⟨RX1, "requiredCitizen", "(I)LCoinTaxes$Citizen;"⟩
def dkwX1_requiredCitizen_1 : List UInt8 := [180, 0, 44, 180, 0, 135, 27, 185, 0, 145, 2, 0, 192, 0, 149, 176]
abbrev dktX1_requiredCitizen_1 : List UInt8 := dkwX1_requiredCitizen_1 ++ []
def dkwX1_requiredCitizen_0 : List UInt8 := [27, 3, 42, 180, 0, 44, 180, 0, 135, 185, 0, 139, 1, 0, 4, 100, 184, 0, 30, 184, 0, 142, 42]
abbrev dktX1_requiredCitizen_0 : List UInt8 := dkwX1_requiredCitizen_0 ++ dktX1_requiredCitizen_1
theorem dksX1_requiredCitizen_0 : cX1_requiredCitizen.data.toList.drop 0 = dktX1_requiredCitizen_0 := by decide +kernel
theorem dksX1_requiredCitizen_1 : cX1_requiredCitizen.data.toList.drop 23 = dktX1_requiredCitizen_1 := dk_seg dksX1_requiredCitizen_0 23 rfl rfl
theorem dX1_requiredCitizen_0 : decode cX1_requiredCitizen 0 = .ok (.iload_n 1, 1) := dk_27 (dk_at dksX1_requiredCitizen_0 0 rfl rfl)
theorem dX1_requiredCitizen_1 : decode cX1_requiredCitizen 1 = .ok (.iconst 0, 1) := dk_3 (dk_at dksX1_requiredCitizen_0 1 rfl rfl)
theorem dX1_requiredCitizen_2 : decode cX1_requiredCitizen 2 = .ok (.aload_n 0, 1) := dk_42 (dk_at dksX1_requiredCitizen_0 2 rfl rfl)
theorem dX1_requiredCitizen_3 : decode cX1_requiredCitizen 3 = .ok (.getfield 44, 3) := dk_180 0 44 (dk_at dksX1_requiredCitizen_0 3 rfl rfl)
theorem dX1_requiredCitizen_6 : decode cX1_requiredCitizen 6 = .ok (.getfield 135, 3) := dk_180 0 135 (dk_at dksX1_requiredCitizen_0 6 rfl rfl)
theorem dX1_requiredCitizen_9 : decode cX1_requiredCitizen 9 = .ok (.invokeinterface 139 1, 5) := by decide +kernel
theorem dX1_requiredCitizen_14 : decode cX1_requiredCitizen 14 = .ok (.iconst 1, 1) := dk_4 (dk_at dksX1_requiredCitizen_0 14 rfl rfl)
theorem dX1_requiredCitizen_15 : decode cX1_requiredCitizen 15 = .ok (.isub, 1) := dk_100 (dk_at dksX1_requiredCitizen_0 15 rfl rfl)
theorem dX1_requiredCitizen_16 : decode cX1_requiredCitizen 16 = .ok (.invokestatic 30, 3) := dk_184 0 30 (dk_at dksX1_requiredCitizen_0 16 rfl rfl)
theorem dX1_requiredCitizen_19 : decode cX1_requiredCitizen 19 = .ok (.invokestatic 142, 3) := dk_184 0 142 (dk_at dksX1_requiredCitizen_0 19 rfl rfl)
theorem dX1_requiredCitizen_22 : decode cX1_requiredCitizen 22 = .ok (.aload_n 0, 1) := dk_42 (dk_at dksX1_requiredCitizen_0 22 rfl rfl)
theorem dX1_requiredCitizen_23 : decode cX1_requiredCitizen 23 = .ok (.getfield 44, 3) := dk_180 0 44 (dk_at dksX1_requiredCitizen_1 0 rfl rfl)
theorem dX1_requiredCitizen_26 : decode cX1_requiredCitizen 26 = .ok (.getfield 135, 3) := dk_180 0 135 (dk_at dksX1_requiredCitizen_1 3 rfl rfl)
theorem dX1_requiredCitizen_29 : decode cX1_requiredCitizen 29 = .ok (.iload_n 1, 1) := dk_27 (dk_at dksX1_requiredCitizen_1 6 rfl rfl)
theorem dX1_requiredCitizen_30 : decode cX1_requiredCitizen 30 = .ok (.invokeinterface 145 2, 5) := by decide +kernel
theorem dX1_requiredCitizen_35 : decode cX1_requiredCitizen 35 = .ok (.checkcast 149, 3) := dk_192 0 149 (dk_at dksX1_requiredCitizen_1 12 rfl rfl)
theorem dX1_requiredCitizen_38 : decode cX1_requiredCitizen 38 = .ok (.areturn, 1) := dk_176 (dk_at dksX1_requiredCitizen_1 15 rfl rfl)
abbrev cX1_claimOf : ByteArray := prog_1_method_29_code
def yX1_claimOf : MethodName := ⟨RX1, "claimOf", "(IIZ)I"⟩
def dkwX1_claimOf_1 : List UInt8 := [180, 0, 217, 28, 46, 167, 0, 10, 25, 4, 180, 0, 221, 28, 46, 172]
abbrev dktX1_claimOf_1 : List UInt8 := dkwX1_claimOf_1 ++ []
def dkwX1_claimOf_0 : List UInt8 := [42, 27, 182, 0, 179, 58, 4, 28, 3, 5, 184, 0, 30, 184, 0, 142, 29, 153, 0, 13, 25, 4]
abbrev dktX1_claimOf_0 : List UInt8 := dkwX1_claimOf_0 ++ dktX1_claimOf_1
theorem dksX1_claimOf_0 : cX1_claimOf.data.toList.drop 0 = dktX1_claimOf_0 := by decide +kernel
theorem dksX1_claimOf_1 : cX1_claimOf.data.toList.drop 22 = dktX1_claimOf_1 := dk_seg dksX1_claimOf_0 22 rfl rfl
theorem dX1_claimOf_0 : decode cX1_claimOf 0 = .ok (.aload_n 0, 1) := dk_42 (dk_at dksX1_claimOf_0 0 rfl rfl)
theorem dX1_claimOf_1 : decode cX1_claimOf 1 = .ok (.iload_n 1, 1) := dk_27 (dk_at dksX1_claimOf_0 1 rfl rfl)
theorem dX1_claimOf_2 : decode cX1_claimOf 2 = .ok (.invokevirtual 179, 3) := dk_182 0 179 (dk_at dksX1_claimOf_0 2 rfl rfl)
theorem dX1_claimOf_5 : decode cX1_claimOf 5 = .ok (.astore 4, 2) := dk_58 4 (dk_at dksX1_claimOf_0 5 rfl rfl)
theorem dX1_claimOf_7 : decode cX1_claimOf 7 = .ok (.iload_n 2, 1) := dk_28 (dk_at dksX1_claimOf_0 7 rfl rfl)
theorem dX1_claimOf_8 : decode cX1_claimOf 8 = .ok (.iconst 0, 1) := dk_3 (dk_at dksX1_claimOf_0 8 rfl rfl)
theorem dX1_claimOf_9 : decode cX1_claimOf 9 = .ok (.iconst 2, 1) := dk_5 (dk_at dksX1_claimOf_0 9 rfl rfl)
theorem dX1_claimOf_10 : decode cX1_claimOf 10 = .ok (.invokestatic 30, 3) := dk_184 0 30 (dk_at dksX1_claimOf_0 10 rfl rfl)
theorem dX1_claimOf_13 : decode cX1_claimOf 13 = .ok (.invokestatic 142, 3) := dk_184 0 142 (dk_at dksX1_claimOf_0 13 rfl rfl)
theorem dX1_claimOf_16 : decode cX1_claimOf 16 = .ok (.iload_n 3, 1) := dk_29 (dk_at dksX1_claimOf_0 16 rfl rfl)
theorem dX1_claimOf_17 : decode cX1_claimOf 17 = .ok (.ifCond .eq 13, 3) := dk_153 0 13 (dk_at dksX1_claimOf_0 17 rfl rfl)
theorem dX1_claimOf_20 : decode cX1_claimOf 20 = .ok (.aload 4, 2) := dk_25 4 (dk_at dksX1_claimOf_0 20 rfl rfl)
theorem dX1_claimOf_22 : decode cX1_claimOf 22 = .ok (.getfield 217, 3) := dk_180 0 217 (dk_at dksX1_claimOf_1 0 rfl rfl)
theorem dX1_claimOf_25 : decode cX1_claimOf 25 = .ok (.iload_n 2, 1) := dk_28 (dk_at dksX1_claimOf_1 3 rfl rfl)
theorem dX1_claimOf_26 : decode cX1_claimOf 26 = .ok (.iaload, 1) := dk_46 (dk_at dksX1_claimOf_1 4 rfl rfl)
theorem dX1_claimOf_27 : decode cX1_claimOf 27 = .ok (.goto 10, 3) := dk_167 0 10 (dk_at dksX1_claimOf_1 5 rfl rfl)
theorem dX1_claimOf_30 : decode cX1_claimOf 30 = .ok (.aload 4, 2) := dk_25 4 (dk_at dksX1_claimOf_1 8 rfl rfl)
theorem dX1_claimOf_32 : decode cX1_claimOf 32 = .ok (.getfield 221, 3) := dk_180 0 221 (dk_at dksX1_claimOf_1 10 rfl rfl)
theorem dX1_claimOf_35 : decode cX1_claimOf 35 = .ok (.iload_n 2, 1) := dk_28 (dk_at dksX1_claimOf_1 13 rfl rfl)
theorem dX1_claimOf_36 : decode cX1_claimOf 36 = .ok (.iaload, 1) := dk_46 (dk_at dksX1_claimOf_1 14 rfl rfl)
theorem dX1_claimOf_37 : decode cX1_claimOf 37 = .ok (.ireturn, 1) := dk_172 (dk_at dksX1_claimOf_1 15 rfl rfl)
abbrev cX1_carriedOf : ByteArray := prog_1_method_30_code
def yX1_carriedOf : MethodName := ⟨RX1, "carriedOf", "(III)I"⟩
def dkwX1_carriedOf_3 : List UInt8 := [25, 5, 28, 185, 0, 145, 2, 0, 192, 0, 232, 180, 0, 235, 172]
abbrev dktX1_carriedOf_3 : List UInt8 := dkwX1_carriedOf_3 ++ []
def dkwX1_carriedOf_2 : List UInt8 := [58, 5, 29, 154, 0, 20, 25, 5, 28, 185, 0, 145, 2, 0, 192, 0, 232, 180, 0, 234, 167, 0, 17]
abbrev dktX1_carriedOf_2 : List UInt8 := dkwX1_carriedOf_2 ++ dktX1_carriedOf_3
def dkwX1_carriedOf_1 : List UInt8 := [184, 0, 21, 29, 3, 4, 184, 0, 30, 184, 0, 164, 187, 0, 227, 89, 25, 4, 180, 0, 224, 183, 0, 229]
abbrev dktX1_carriedOf_1 : List UInt8 := dkwX1_carriedOf_1 ++ dktX1_carriedOf_2
def dkwX1_carriedOf_0 : List UInt8 := [42, 27, 182, 0, 179, 58, 4, 28, 3, 25, 4, 180, 0, 224, 185, 0, 72, 1, 0, 4, 100, 184, 0, 30]
abbrev dktX1_carriedOf_0 : List UInt8 := dkwX1_carriedOf_0 ++ dktX1_carriedOf_1
theorem dksX1_carriedOf_0 : cX1_carriedOf.data.toList.drop 0 = dktX1_carriedOf_0 := by decide +kernel
theorem dksX1_carriedOf_1 : cX1_carriedOf.data.toList.drop 24 = dktX1_carriedOf_1 := dk_seg dksX1_carriedOf_0 24 rfl rfl
theorem dksX1_carriedOf_2 : cX1_carriedOf.data.toList.drop 48 = dktX1_carriedOf_2 := dk_seg dksX1_carriedOf_1 24 rfl rfl
theorem dksX1_carriedOf_3 : cX1_carriedOf.data.toList.drop 71 = dktX1_carriedOf_3 := dk_seg dksX1_carriedOf_2 23 rfl rfl
theorem dX1_carriedOf_0 : decode cX1_carriedOf 0 = .ok (.aload_n 0, 1) := dk_42 (dk_at dksX1_carriedOf_0 0 rfl rfl)
theorem dX1_carriedOf_1 : decode cX1_carriedOf 1 = .ok (.iload_n 1, 1) := dk_27 (dk_at dksX1_carriedOf_0 1 rfl rfl)
theorem dX1_carriedOf_2 : decode cX1_carriedOf 2 = .ok (.invokevirtual 179, 3) := dk_182 0 179 (dk_at dksX1_carriedOf_0 2 rfl rfl)
theorem dX1_carriedOf_5 : decode cX1_carriedOf 5 = .ok (.astore 4, 2) := dk_58 4 (dk_at dksX1_carriedOf_0 5 rfl rfl)
theorem dX1_carriedOf_7 : decode cX1_carriedOf 7 = .ok (.iload_n 2, 1) := dk_28 (dk_at dksX1_carriedOf_0 7 rfl rfl)
theorem dX1_carriedOf_8 : decode cX1_carriedOf 8 = .ok (.iconst 0, 1) := dk_3 (dk_at dksX1_carriedOf_0 8 rfl rfl)
theorem dX1_carriedOf_9 : decode cX1_carriedOf 9 = .ok (.aload 4, 2) := dk_25 4 (dk_at dksX1_carriedOf_0 9 rfl rfl)
theorem dX1_carriedOf_11 : decode cX1_carriedOf 11 = .ok (.getfield 224, 3) := dk_180 0 224 (dk_at dksX1_carriedOf_0 11 rfl rfl)
theorem dX1_carriedOf_14 : decode cX1_carriedOf 14 = .ok (.invokeinterface 72 1, 5) := by decide +kernel
theorem dX1_carriedOf_19 : decode cX1_carriedOf 19 = .ok (.iconst 1, 1) := dk_4 (dk_at dksX1_carriedOf_0 19 rfl rfl)
theorem dX1_carriedOf_20 : decode cX1_carriedOf 20 = .ok (.isub, 1) := dk_100 (dk_at dksX1_carriedOf_0 20 rfl rfl)
theorem dX1_carriedOf_21 : decode cX1_carriedOf 21 = .ok (.invokestatic 30, 3) := dk_184 0 30 (dk_at dksX1_carriedOf_0 21 rfl rfl)
theorem dX1_carriedOf_24 : decode cX1_carriedOf 24 = .ok (.invokestatic 21, 3) := dk_184 0 21 (dk_at dksX1_carriedOf_1 0 rfl rfl)
theorem dX1_carriedOf_27 : decode cX1_carriedOf 27 = .ok (.iload_n 3, 1) := dk_29 (dk_at dksX1_carriedOf_1 3 rfl rfl)
theorem dX1_carriedOf_28 : decode cX1_carriedOf 28 = .ok (.iconst 0, 1) := dk_3 (dk_at dksX1_carriedOf_1 4 rfl rfl)
theorem dX1_carriedOf_29 : decode cX1_carriedOf 29 = .ok (.iconst 1, 1) := dk_4 (dk_at dksX1_carriedOf_1 5 rfl rfl)
theorem dX1_carriedOf_30 : decode cX1_carriedOf 30 = .ok (.invokestatic 30, 3) := dk_184 0 30 (dk_at dksX1_carriedOf_1 6 rfl rfl)
theorem dX1_carriedOf_33 : decode cX1_carriedOf 33 = .ok (.invokestatic 164, 3) := dk_184 0 164 (dk_at dksX1_carriedOf_1 9 rfl rfl)
theorem dX1_carriedOf_36 : decode cX1_carriedOf 36 = .ok (.new 227, 3) := dk_187 0 227 (dk_at dksX1_carriedOf_1 12 rfl rfl)
theorem dX1_carriedOf_39 : decode cX1_carriedOf 39 = .ok (.dup, 1) := dk_89 (dk_at dksX1_carriedOf_1 15 rfl rfl)
theorem dX1_carriedOf_40 : decode cX1_carriedOf 40 = .ok (.aload 4, 2) := dk_25 4 (dk_at dksX1_carriedOf_1 16 rfl rfl)
theorem dX1_carriedOf_42 : decode cX1_carriedOf 42 = .ok (.getfield 224, 3) := dk_180 0 224 (dk_at dksX1_carriedOf_1 18 rfl rfl)
theorem dX1_carriedOf_45 : decode cX1_carriedOf 45 = .ok (.invokespecial 229, 3) := dk_183 0 229 (dk_at dksX1_carriedOf_1 21 rfl rfl)
theorem dX1_carriedOf_48 : decode cX1_carriedOf 48 = .ok (.astore 5, 2) := dk_58 5 (dk_at dksX1_carriedOf_2 0 rfl rfl)
theorem dX1_carriedOf_50 : decode cX1_carriedOf 50 = .ok (.iload_n 3, 1) := dk_29 (dk_at dksX1_carriedOf_2 2 rfl rfl)
theorem dX1_carriedOf_51 : decode cX1_carriedOf 51 = .ok (.ifCond .ne 20, 3) := dk_154 0 20 (dk_at dksX1_carriedOf_2 3 rfl rfl)
theorem dX1_carriedOf_54 : decode cX1_carriedOf 54 = .ok (.aload 5, 2) := dk_25 5 (dk_at dksX1_carriedOf_2 6 rfl rfl)
theorem dX1_carriedOf_56 : decode cX1_carriedOf 56 = .ok (.iload_n 2, 1) := dk_28 (dk_at dksX1_carriedOf_2 8 rfl rfl)
theorem dX1_carriedOf_57 : decode cX1_carriedOf 57 = .ok (.invokeinterface 145 2, 5) := by decide +kernel
theorem dX1_carriedOf_62 : decode cX1_carriedOf 62 = .ok (.checkcast 232, 3) := dk_192 0 232 (dk_at dksX1_carriedOf_2 14 rfl rfl)
theorem dX1_carriedOf_65 : decode cX1_carriedOf 65 = .ok (.getfield 234, 3) := dk_180 0 234 (dk_at dksX1_carriedOf_2 17 rfl rfl)
theorem dX1_carriedOf_68 : decode cX1_carriedOf 68 = .ok (.goto 17, 3) := dk_167 0 17 (dk_at dksX1_carriedOf_2 20 rfl rfl)
theorem dX1_carriedOf_71 : decode cX1_carriedOf 71 = .ok (.aload 5, 2) := dk_25 5 (dk_at dksX1_carriedOf_3 0 rfl rfl)
theorem dX1_carriedOf_73 : decode cX1_carriedOf 73 = .ok (.iload_n 2, 1) := dk_28 (dk_at dksX1_carriedOf_3 2 rfl rfl)
theorem dX1_carriedOf_74 : decode cX1_carriedOf 74 = .ok (.invokeinterface 145 2, 5) := by decide +kernel
theorem dX1_carriedOf_79 : decode cX1_carriedOf 79 = .ok (.checkcast 232, 3) := dk_192 0 232 (dk_at dksX1_carriedOf_3 8 rfl rfl)
theorem dX1_carriedOf_82 : decode cX1_carriedOf 82 = .ok (.getfield 235, 3) := dk_180 0 235 (dk_at dksX1_carriedOf_3 11 rfl rfl)
theorem dX1_carriedOf_85 : decode cX1_carriedOf 85 = .ok (.ireturn, 1) := dk_172 (dk_at dksX1_carriedOf_3 14 rfl rfl)
abbrev cX1_requireElement : ByteArray := prog_1_method_5_code
def yX1_requireElement : MethodName := ⟨RX1, "requireElement", "(Z)V"⟩
def dkwX1_requireElement_0 : List UInt8 := [26, 154, 0, 11, 187, 0, 13, 89, 183, 0, 15, 191, 177]
abbrev dktX1_requireElement_0 : List UInt8 := dkwX1_requireElement_0 ++ []
theorem dksX1_requireElement_0 : cX1_requireElement.data.toList.drop 0 = dktX1_requireElement_0 := by decide +kernel
theorem dX1_requireElement_0 : decode cX1_requireElement 0 = .ok (.iload_n 0, 1) := dk_26 (dk_at dksX1_requireElement_0 0 rfl rfl)
theorem dX1_requireElement_1 : decode cX1_requireElement 1 = .ok (.ifCond .ne 11, 3) := dk_154 0 11 (dk_at dksX1_requireElement_0 1 rfl rfl)
theorem dX1_requireElement_4 : decode cX1_requireElement 4 = .ok (.new 13, 3) := dk_187 0 13 (dk_at dksX1_requireElement_0 4 rfl rfl)
theorem dX1_requireElement_7 : decode cX1_requireElement 7 = .ok (.dup, 1) := dk_89 (dk_at dksX1_requireElement_0 7 rfl rfl)
theorem dX1_requireElement_8 : decode cX1_requireElement 8 = .ok (.invokespecial 15, 3) := dk_183 0 15 (dk_at dksX1_requireElement_0 8 rfl rfl)
theorem dX1_requireElement_11 : decode cX1_requireElement 11 = .ok (.athrow, 1) := dk_191 (dk_at dksX1_requireElement_0 11 rfl rfl)
theorem dX1_requireElement_12 : decode cX1_requireElement 12 = .ok (.return_, 1) := dk_177 (dk_at dksX1_requireElement_0 12 rfl rfl)
abbrev cX1_creditFor : ByteArray := prog_1_method_31_code
def yX1_creditFor : MethodName := ⟨RX1, "creditFor", "(I)I"⟩
def dkwX1_creditFor_0 : List UInt8 := [27, 3, 17, 39, 15, 184, 0, 30, 184, 0, 164, 42, 180, 0, 44, 180, 0, 151, 27, 182, 0, 238, 172]
abbrev dktX1_creditFor_0 : List UInt8 := dkwX1_creditFor_0 ++ []
theorem dksX1_creditFor_0 : cX1_creditFor.data.toList.drop 0 = dktX1_creditFor_0 := by decide +kernel
theorem dX1_creditFor_0 : decode cX1_creditFor 0 = .ok (.iload_n 1, 1) := dk_27 (dk_at dksX1_creditFor_0 0 rfl rfl)
theorem dX1_creditFor_1 : decode cX1_creditFor 1 = .ok (.iconst 0, 1) := dk_3 (dk_at dksX1_creditFor_0 1 rfl rfl)
theorem dX1_creditFor_2 : decode cX1_creditFor 2 = .ok (.sipush 9999, 3) := dk_17 39 15 (dk_at dksX1_creditFor_0 2 rfl rfl)
theorem dX1_creditFor_5 : decode cX1_creditFor 5 = .ok (.invokestatic 30, 3) := dk_184 0 30 (dk_at dksX1_creditFor_0 5 rfl rfl)
theorem dX1_creditFor_8 : decode cX1_creditFor 8 = .ok (.invokestatic 164, 3) := dk_184 0 164 (dk_at dksX1_creditFor_0 8 rfl rfl)
theorem dX1_creditFor_11 : decode cX1_creditFor 11 = .ok (.aload_n 0, 1) := dk_42 (dk_at dksX1_creditFor_0 11 rfl rfl)
theorem dX1_creditFor_12 : decode cX1_creditFor 12 = .ok (.getfield 44, 3) := dk_180 0 44 (dk_at dksX1_creditFor_0 12 rfl rfl)
theorem dX1_creditFor_15 : decode cX1_creditFor 15 = .ok (.getfield 151, 3) := dk_180 0 151 (dk_at dksX1_creditFor_0 15 rfl rfl)
theorem dX1_creditFor_18 : decode cX1_creditFor 18 = .ok (.iload_n 1, 1) := dk_27 (dk_at dksX1_creditFor_0 18 rfl rfl)
theorem dX1_creditFor_19 : decode cX1_creditFor 19 = .ok (.invokevirtual 238, 3) := dk_182 0 238 (dk_at dksX1_creditFor_0 19 rfl rfl)
theorem dX1_creditFor_22 : decode cX1_creditFor 22 = .ok (.ireturn, 1) := dk_172 (dk_at dksX1_creditFor_0 22 rfl rfl)
abbrev cX1_taxNow : ByteArray := prog_1_method_32_code
def yX1_taxNow : MethodName := ⟨RX1, "taxNow", "(I)I"⟩
def dkwX1_taxNow_0 : List UInt8 := [42, 27, 182, 0, 179, 77, 44, 42, 180, 0, 44, 180, 0, 151, 44, 180, 0, 183, 182, 0, 241, 172]
abbrev dktX1_taxNow_0 : List UInt8 := dkwX1_taxNow_0 ++ []
theorem dksX1_taxNow_0 : cX1_taxNow.data.toList.drop 0 = dktX1_taxNow_0 := by decide +kernel
theorem dX1_taxNow_0 : decode cX1_taxNow 0 = .ok (.aload_n 0, 1) := dk_42 (dk_at dksX1_taxNow_0 0 rfl rfl)
theorem dX1_taxNow_1 : decode cX1_taxNow 1 = .ok (.iload_n 1, 1) := dk_27 (dk_at dksX1_taxNow_0 1 rfl rfl)
theorem dX1_taxNow_2 : decode cX1_taxNow 2 = .ok (.invokevirtual 179, 3) := dk_182 0 179 (dk_at dksX1_taxNow_0 2 rfl rfl)
theorem dX1_taxNow_5 : decode cX1_taxNow 5 = .ok (.astore_n 2, 1) := dk_77 (dk_at dksX1_taxNow_0 5 rfl rfl)
theorem dX1_taxNow_6 : decode cX1_taxNow 6 = .ok (.aload_n 2, 1) := dk_44 (dk_at dksX1_taxNow_0 6 rfl rfl)
theorem dX1_taxNow_7 : decode cX1_taxNow 7 = .ok (.aload_n 0, 1) := dk_42 (dk_at dksX1_taxNow_0 7 rfl rfl)
theorem dX1_taxNow_8 : decode cX1_taxNow 8 = .ok (.getfield 44, 3) := dk_180 0 44 (dk_at dksX1_taxNow_0 8 rfl rfl)
theorem dX1_taxNow_11 : decode cX1_taxNow 11 = .ok (.getfield 151, 3) := dk_180 0 151 (dk_at dksX1_taxNow_0 11 rfl rfl)
theorem dX1_taxNow_14 : decode cX1_taxNow 14 = .ok (.aload_n 2, 1) := dk_44 (dk_at dksX1_taxNow_0 14 rfl rfl)
theorem dX1_taxNow_15 : decode cX1_taxNow 15 = .ok (.getfield 183, 3) := dk_180 0 183 (dk_at dksX1_taxNow_0 15 rfl rfl)
theorem dX1_taxNow_18 : decode cX1_taxNow 18 = .ok (.invokevirtual 241, 3) := dk_182 0 241 (dk_at dksX1_taxNow_0 18 rfl rfl)
theorem dX1_taxNow_21 : decode cX1_taxNow 21 = .ok (.ireturn, 1) := dk_172 (dk_at dksX1_taxNow_0 21 rfl rfl)
abbrev cX1_taxAgain : ByteArray := prog_1_method_33_code
def yX1_taxAgain : MethodName := ⟨RX1, "taxAgain", "(I)I"⟩
def dkwX1_taxAgain_1 : List UInt8 := [182, 0, 248, 172]
abbrev dktX1_taxAgain_1 : List UInt8 := dkwX1_taxAgain_1 ++ []
def dkwX1_taxAgain_0 : List UInt8 := [42, 27, 182, 0, 179, 77, 44, 44, 42, 180, 0, 44, 180, 0, 151, 44, 180, 0, 183, 182, 0, 245]
abbrev dktX1_taxAgain_0 : List UInt8 := dkwX1_taxAgain_0 ++ dktX1_taxAgain_1
theorem dksX1_taxAgain_0 : cX1_taxAgain.data.toList.drop 0 = dktX1_taxAgain_0 := by decide +kernel
theorem dksX1_taxAgain_1 : cX1_taxAgain.data.toList.drop 22 = dktX1_taxAgain_1 := dk_seg dksX1_taxAgain_0 22 rfl rfl
theorem dX1_taxAgain_0 : decode cX1_taxAgain 0 = .ok (.aload_n 0, 1) := dk_42 (dk_at dksX1_taxAgain_0 0 rfl rfl)
theorem dX1_taxAgain_1 : decode cX1_taxAgain 1 = .ok (.iload_n 1, 1) := dk_27 (dk_at dksX1_taxAgain_0 1 rfl rfl)
theorem dX1_taxAgain_2 : decode cX1_taxAgain 2 = .ok (.invokevirtual 179, 3) := dk_182 0 179 (dk_at dksX1_taxAgain_0 2 rfl rfl)
theorem dX1_taxAgain_5 : decode cX1_taxAgain 5 = .ok (.astore_n 2, 1) := dk_77 (dk_at dksX1_taxAgain_0 5 rfl rfl)
theorem dX1_taxAgain_6 : decode cX1_taxAgain 6 = .ok (.aload_n 2, 1) := dk_44 (dk_at dksX1_taxAgain_0 6 rfl rfl)
theorem dX1_taxAgain_7 : decode cX1_taxAgain 7 = .ok (.aload_n 2, 1) := dk_44 (dk_at dksX1_taxAgain_0 7 rfl rfl)
theorem dX1_taxAgain_8 : decode cX1_taxAgain 8 = .ok (.aload_n 0, 1) := dk_42 (dk_at dksX1_taxAgain_0 8 rfl rfl)
theorem dX1_taxAgain_9 : decode cX1_taxAgain 9 = .ok (.getfield 44, 3) := dk_180 0 44 (dk_at dksX1_taxAgain_0 9 rfl rfl)
theorem dX1_taxAgain_12 : decode cX1_taxAgain 12 = .ok (.getfield 151, 3) := dk_180 0 151 (dk_at dksX1_taxAgain_0 12 rfl rfl)
theorem dX1_taxAgain_15 : decode cX1_taxAgain 15 = .ok (.aload_n 2, 1) := dk_44 (dk_at dksX1_taxAgain_0 15 rfl rfl)
theorem dX1_taxAgain_16 : decode cX1_taxAgain 16 = .ok (.getfield 183, 3) := dk_180 0 183 (dk_at dksX1_taxAgain_0 16 rfl rfl)
theorem dX1_taxAgain_19 : decode cX1_taxAgain 19 = .ok (.invokevirtual 245, 3) := dk_182 0 245 (dk_at dksX1_taxAgain_0 19 rfl rfl)
theorem dX1_taxAgain_22 : decode cX1_taxAgain 22 = .ok (.invokevirtual 248, 3) := dk_182 0 248 (dk_at dksX1_taxAgain_1 0 rfl rfl)
theorem dX1_taxAgain_25 : decode cX1_taxAgain 25 = .ok (.ireturn, 1) := dk_172 (dk_at dksX1_taxAgain_1 3 rfl rfl)
abbrev cX1_auditCosts : ByteArray := prog_1_method_34_code
def yX1_auditCosts : MethodName := ⟨RX1, "auditCosts", "(I)I"⟩
def dkwX1_auditCosts_0 : List UInt8 := [42, 180, 0, 44, 42, 27, 182, 0, 179, 182, 0, 251, 172]
abbrev dktX1_auditCosts_0 : List UInt8 := dkwX1_auditCosts_0 ++ []
theorem dksX1_auditCosts_0 : cX1_auditCosts.data.toList.drop 0 = dktX1_auditCosts_0 := by decide +kernel
theorem dX1_auditCosts_0 : decode cX1_auditCosts 0 = .ok (.aload_n 0, 1) := dk_42 (dk_at dksX1_auditCosts_0 0 rfl rfl)
theorem dX1_auditCosts_1 : decode cX1_auditCosts 1 = .ok (.getfield 44, 3) := dk_180 0 44 (dk_at dksX1_auditCosts_0 1 rfl rfl)
theorem dX1_auditCosts_4 : decode cX1_auditCosts 4 = .ok (.aload_n 0, 1) := dk_42 (dk_at dksX1_auditCosts_0 4 rfl rfl)
theorem dX1_auditCosts_5 : decode cX1_auditCosts 5 = .ok (.iload_n 1, 1) := dk_27 (dk_at dksX1_auditCosts_0 5 rfl rfl)
theorem dX1_auditCosts_6 : decode cX1_auditCosts 6 = .ok (.invokevirtual 179, 3) := dk_182 0 179 (dk_at dksX1_auditCosts_0 6 rfl rfl)
theorem dX1_auditCosts_9 : decode cX1_auditCosts 9 = .ok (.invokevirtual 251, 3) := dk_182 0 251 (dk_at dksX1_auditCosts_0 9 rfl rfl)
theorem dX1_auditCosts_12 : decode cX1_auditCosts 12 = .ok (.ireturn, 1) := dk_172 (dk_at dksX1_auditCosts_0 12 rfl rfl)
abbrev cX1_left : ByteArray := prog_1_method_35_code
def yX1_left : MethodName := ⟨RX1, "left", "(II)I"⟩
def dkwX1_left_1 : List UInt8 := [182, 0, 255, 172]
abbrev dktX1_left_1 : List UInt8 := dkwX1_left_1 ++ []
def dkwX1_left_0 : List UInt8 := [42, 27, 182, 0, 179, 78, 28, 3, 17, 39, 15, 184, 0, 30, 184, 0, 164, 42, 180, 0, 44, 45, 28]
abbrev dktX1_left_0 : List UInt8 := dkwX1_left_0 ++ dktX1_left_1
theorem dksX1_left_0 : cX1_left.data.toList.drop 0 = dktX1_left_0 := by decide +kernel
theorem dksX1_left_1 : cX1_left.data.toList.drop 23 = dktX1_left_1 := dk_seg dksX1_left_0 23 rfl rfl
theorem dX1_left_0 : decode cX1_left 0 = .ok (.aload_n 0, 1) := dk_42 (dk_at dksX1_left_0 0 rfl rfl)
theorem dX1_left_1 : decode cX1_left 1 = .ok (.iload_n 1, 1) := dk_27 (dk_at dksX1_left_0 1 rfl rfl)
theorem dX1_left_2 : decode cX1_left 2 = .ok (.invokevirtual 179, 3) := dk_182 0 179 (dk_at dksX1_left_0 2 rfl rfl)
theorem dX1_left_5 : decode cX1_left 5 = .ok (.astore_n 3, 1) := dk_78 (dk_at dksX1_left_0 5 rfl rfl)
theorem dX1_left_6 : decode cX1_left 6 = .ok (.iload_n 2, 1) := dk_28 (dk_at dksX1_left_0 6 rfl rfl)
theorem dX1_left_7 : decode cX1_left 7 = .ok (.iconst 0, 1) := dk_3 (dk_at dksX1_left_0 7 rfl rfl)
theorem dX1_left_8 : decode cX1_left 8 = .ok (.sipush 9999, 3) := dk_17 39 15 (dk_at dksX1_left_0 8 rfl rfl)
theorem dX1_left_11 : decode cX1_left 11 = .ok (.invokestatic 30, 3) := dk_184 0 30 (dk_at dksX1_left_0 11 rfl rfl)
theorem dX1_left_14 : decode cX1_left 14 = .ok (.invokestatic 164, 3) := dk_184 0 164 (dk_at dksX1_left_0 14 rfl rfl)
theorem dX1_left_17 : decode cX1_left 17 = .ok (.aload_n 0, 1) := dk_42 (dk_at dksX1_left_0 17 rfl rfl)
theorem dX1_left_18 : decode cX1_left 18 = .ok (.getfield 44, 3) := dk_180 0 44 (dk_at dksX1_left_0 18 rfl rfl)
theorem dX1_left_21 : decode cX1_left 21 = .ok (.aload_n 3, 1) := dk_45 (dk_at dksX1_left_0 21 rfl rfl)
theorem dX1_left_22 : decode cX1_left 22 = .ok (.iload_n 2, 1) := dk_28 (dk_at dksX1_left_0 22 rfl rfl)
theorem dX1_left_23 : decode cX1_left 23 = .ok (.invokevirtual 255, 3) := dk_182 0 255 (dk_at dksX1_left_1 0 rfl rfl)
theorem dX1_left_26 : decode cX1_left 26 = .ok (.ireturn, 1) := dk_172 (dk_at dksX1_left_1 3 rfl rfl)
abbrev cX1_margin : ByteArray := prog_1_method_36_code
def yX1_margin : MethodName := ⟨RX1, "margin", "(I)I"⟩
def dkwX1_margin_1 : List UInt8 := [42, 180, 0, 44, 180, 0, 151, 44, 180, 0, 183, 182, 1, 3, 100, 172]
abbrev dktX1_margin_1 : List UInt8 := dkwX1_margin_1 ++ []
def dkwX1_margin_0 : List UInt8 := [42, 27, 182, 0, 179, 77, 44, 42, 180, 0, 44, 180, 0, 151, 44, 180, 0, 183, 4, 96, 182, 1, 3, 44]
abbrev dktX1_margin_0 : List UInt8 := dkwX1_margin_0 ++ dktX1_margin_1
theorem dksX1_margin_0 : cX1_margin.data.toList.drop 0 = dktX1_margin_0 := by decide +kernel
theorem dksX1_margin_1 : cX1_margin.data.toList.drop 24 = dktX1_margin_1 := dk_seg dksX1_margin_0 24 rfl rfl
theorem dX1_margin_0 : decode cX1_margin 0 = .ok (.aload_n 0, 1) := dk_42 (dk_at dksX1_margin_0 0 rfl rfl)
theorem dX1_margin_1 : decode cX1_margin 1 = .ok (.iload_n 1, 1) := dk_27 (dk_at dksX1_margin_0 1 rfl rfl)
theorem dX1_margin_2 : decode cX1_margin 2 = .ok (.invokevirtual 179, 3) := dk_182 0 179 (dk_at dksX1_margin_0 2 rfl rfl)
theorem dX1_margin_5 : decode cX1_margin 5 = .ok (.astore_n 2, 1) := dk_77 (dk_at dksX1_margin_0 5 rfl rfl)
theorem dX1_margin_6 : decode cX1_margin 6 = .ok (.aload_n 2, 1) := dk_44 (dk_at dksX1_margin_0 6 rfl rfl)
theorem dX1_margin_7 : decode cX1_margin 7 = .ok (.aload_n 0, 1) := dk_42 (dk_at dksX1_margin_0 7 rfl rfl)
theorem dX1_margin_8 : decode cX1_margin 8 = .ok (.getfield 44, 3) := dk_180 0 44 (dk_at dksX1_margin_0 8 rfl rfl)
theorem dX1_margin_11 : decode cX1_margin 11 = .ok (.getfield 151, 3) := dk_180 0 151 (dk_at dksX1_margin_0 11 rfl rfl)
theorem dX1_margin_14 : decode cX1_margin 14 = .ok (.aload_n 2, 1) := dk_44 (dk_at dksX1_margin_0 14 rfl rfl)
theorem dX1_margin_15 : decode cX1_margin 15 = .ok (.getfield 183, 3) := dk_180 0 183 (dk_at dksX1_margin_0 15 rfl rfl)
theorem dX1_margin_18 : decode cX1_margin 18 = .ok (.iconst 1, 1) := dk_4 (dk_at dksX1_margin_0 18 rfl rfl)
theorem dX1_margin_19 : decode cX1_margin 19 = .ok (.iadd, 1) := dk_96 (dk_at dksX1_margin_0 19 rfl rfl)
theorem dX1_margin_20 : decode cX1_margin 20 = .ok (.invokevirtual 259, 3) := dk_182 1 3 (dk_at dksX1_margin_0 20 rfl rfl)
theorem dX1_margin_23 : decode cX1_margin 23 = .ok (.aload_n 2, 1) := dk_44 (dk_at dksX1_margin_0 23 rfl rfl)
theorem dX1_margin_24 : decode cX1_margin 24 = .ok (.aload_n 0, 1) := dk_42 (dk_at dksX1_margin_1 0 rfl rfl)
theorem dX1_margin_25 : decode cX1_margin 25 = .ok (.getfield 44, 3) := dk_180 0 44 (dk_at dksX1_margin_1 1 rfl rfl)
theorem dX1_margin_28 : decode cX1_margin 28 = .ok (.getfield 151, 3) := dk_180 0 151 (dk_at dksX1_margin_1 4 rfl rfl)
theorem dX1_margin_31 : decode cX1_margin 31 = .ok (.aload_n 2, 1) := dk_44 (dk_at dksX1_margin_1 7 rfl rfl)
theorem dX1_margin_32 : decode cX1_margin 32 = .ok (.getfield 183, 3) := dk_180 0 183 (dk_at dksX1_margin_1 8 rfl rfl)
theorem dX1_margin_35 : decode cX1_margin 35 = .ok (.invokevirtual 259, 3) := dk_182 1 3 (dk_at dksX1_margin_1 11 rfl rfl)
theorem dX1_margin_38 : decode cX1_margin 38 = .ok (.isub, 1) := dk_100 (dk_at dksX1_margin_1 14 rfl rfl)
theorem dX1_margin_39 : decode cX1_margin 39 = .ok (.ireturn, 1) := dk_172 (dk_at dksX1_margin_1 15 rfl rfl)
abbrev cX1_isNoLoss : ByteArray := prog_1_method_37_code
def yX1_isNoLoss : MethodName := ⟨RX1, "isNoLoss", "(I)Z"⟩
def dkwX1_isNoLoss_0 : List UInt8 := [42, 27, 182, 0, 179, 42, 180, 0, 44, 180, 0, 151, 182, 1, 6, 172]
abbrev dktX1_isNoLoss_0 : List UInt8 := dkwX1_isNoLoss_0 ++ []
theorem dksX1_isNoLoss_0 : cX1_isNoLoss.data.toList.drop 0 = dktX1_isNoLoss_0 := by decide +kernel
theorem dX1_isNoLoss_0 : decode cX1_isNoLoss 0 = .ok (.aload_n 0, 1) := dk_42 (dk_at dksX1_isNoLoss_0 0 rfl rfl)
theorem dX1_isNoLoss_1 : decode cX1_isNoLoss 1 = .ok (.iload_n 1, 1) := dk_27 (dk_at dksX1_isNoLoss_0 1 rfl rfl)
theorem dX1_isNoLoss_2 : decode cX1_isNoLoss 2 = .ok (.invokevirtual 179, 3) := dk_182 0 179 (dk_at dksX1_isNoLoss_0 2 rfl rfl)
theorem dX1_isNoLoss_5 : decode cX1_isNoLoss 5 = .ok (.aload_n 0, 1) := dk_42 (dk_at dksX1_isNoLoss_0 5 rfl rfl)
theorem dX1_isNoLoss_6 : decode cX1_isNoLoss 6 = .ok (.getfield 44, 3) := dk_180 0 44 (dk_at dksX1_isNoLoss_0 6 rfl rfl)
theorem dX1_isNoLoss_9 : decode cX1_isNoLoss 9 = .ok (.getfield 151, 3) := dk_180 0 151 (dk_at dksX1_isNoLoss_0 9 rfl rfl)
theorem dX1_isNoLoss_12 : decode cX1_isNoLoss 12 = .ok (.invokevirtual 262, 3) := dk_182 1 6 (dk_at dksX1_isNoLoss_0 12 rfl rfl)
theorem dX1_isNoLoss_15 : decode cX1_isNoLoss 15 = .ok (.ireturn, 1) := dk_172 (dk_at dksX1_isNoLoss_0 15 rfl rfl)
abbrev cX1_auditIn : ByteArray := prog_1_method_38_code
def yX1_auditIn : MethodName := ⟨RX1, "auditIn", "(I)I"⟩
def dkwX1_auditIn_0 : List UInt8 := [27, 4, 16, 40, 184, 0, 30, 184, 0, 164, 42, 180, 0, 44, 27, 182, 1, 10, 184, 1, 13, 172]
abbrev dktX1_auditIn_0 : List UInt8 := dkwX1_auditIn_0 ++ []
theorem dksX1_auditIn_0 : cX1_auditIn.data.toList.drop 0 = dktX1_auditIn_0 := by decide +kernel
theorem dX1_auditIn_0 : decode cX1_auditIn 0 = .ok (.iload_n 1, 1) := dk_27 (dk_at dksX1_auditIn_0 0 rfl rfl)
theorem dX1_auditIn_1 : decode cX1_auditIn 1 = .ok (.iconst 1, 1) := dk_4 (dk_at dksX1_auditIn_0 1 rfl rfl)
theorem dX1_auditIn_2 : decode cX1_auditIn 2 = .ok (.bipush 40, 2) := dk_16 40 (dk_at dksX1_auditIn_0 2 rfl rfl)
theorem dX1_auditIn_4 : decode cX1_auditIn 4 = .ok (.invokestatic 30, 3) := dk_184 0 30 (dk_at dksX1_auditIn_0 4 rfl rfl)
theorem dX1_auditIn_7 : decode cX1_auditIn 7 = .ok (.invokestatic 164, 3) := dk_184 0 164 (dk_at dksX1_auditIn_0 7 rfl rfl)
theorem dX1_auditIn_10 : decode cX1_auditIn 10 = .ok (.aload_n 0, 1) := dk_42 (dk_at dksX1_auditIn_0 10 rfl rfl)
theorem dX1_auditIn_11 : decode cX1_auditIn 11 = .ok (.getfield 44, 3) := dk_180 0 44 (dk_at dksX1_auditIn_0 11 rfl rfl)
theorem dX1_auditIn_14 : decode cX1_auditIn 14 = .ok (.iload_n 1, 1) := dk_27 (dk_at dksX1_auditIn_0 14 rfl rfl)
theorem dX1_auditIn_15 : decode cX1_auditIn 15 = .ok (.invokevirtual 266, 3) := dk_182 1 10 (dk_at dksX1_auditIn_0 15 rfl rfl)
theorem dX1_auditIn_18 : decode cX1_auditIn 18 = .ok (.invokestatic 269, 3) := dk_184 1 13 (dk_at dksX1_auditIn_0 18 rfl rfl)
theorem dX1_auditIn_21 : decode cX1_auditIn 21 = .ok (.ireturn, 1) := dk_172 (dk_at dksX1_auditIn_0 21 rfl rfl)
abbrev cX1_existing : ByteArray := prog_1_method_7_code
def yX1_existing : MethodName := ⟨RX1, "existing", "(I)I"⟩
def dkwX1_existing_0 : List UInt8 := [26, 2, 159, 0, 7, 4, 167, 0, 4, 3, 184, 0, 21, 26, 172]
abbrev dktX1_existing_0 : List UInt8 := dkwX1_existing_0 ++ []
theorem dksX1_existing_0 : cX1_existing.data.toList.drop 0 = dktX1_existing_0 := by decide +kernel
theorem dX1_existing_0 : decode cX1_existing 0 = .ok (.iload_n 0, 1) := dk_26 (dk_at dksX1_existing_0 0 rfl rfl)
theorem dX1_existing_1 : decode cX1_existing 1 = .ok (.iconst (-1), 1) := dk_2 (dk_at dksX1_existing_0 1 rfl rfl)
theorem dX1_existing_2 : decode cX1_existing 2 = .ok (.if_icmp .eq 7, 3) := dk_159 0 7 (dk_at dksX1_existing_0 2 rfl rfl)
theorem dX1_existing_5 : decode cX1_existing 5 = .ok (.iconst 1, 1) := dk_4 (dk_at dksX1_existing_0 5 rfl rfl)
theorem dX1_existing_6 : decode cX1_existing 6 = .ok (.goto 4, 3) := dk_167 0 4 (dk_at dksX1_existing_0 6 rfl rfl)
theorem dX1_existing_9 : decode cX1_existing 9 = .ok (.iconst 0, 1) := dk_3 (dk_at dksX1_existing_0 9 rfl rfl)
theorem dX1_existing_10 : decode cX1_existing 10 = .ok (.invokestatic 21, 3) := dk_184 0 21 (dk_at dksX1_existing_0 10 rfl rfl)
theorem dX1_existing_13 : decode cX1_existing 13 = .ok (.iload_n 0, 1) := dk_26 (dk_at dksX1_existing_0 13 rfl rfl)
theorem dX1_existing_14 : decode cX1_existing 14 = .ok (.ireturn, 1) := dk_172 (dk_at dksX1_existing_0 14 rfl rfl)
abbrev cX1_ranked : ByteArray := prog_1_method_39_code
def yX1_ranked : MethodName := ⟨RX1, "ranked", "(I)I"⟩
def dkwX1_ranked_0 : List UInt8 := [42, 180, 0, 44, 27, 182, 1, 16, 184, 1, 13, 172]
abbrev dktX1_ranked_0 : List UInt8 := dkwX1_ranked_0 ++ []
theorem dksX1_ranked_0 : cX1_ranked.data.toList.drop 0 = dktX1_ranked_0 := by decide +kernel
theorem dX1_ranked_0 : decode cX1_ranked 0 = .ok (.aload_n 0, 1) := dk_42 (dk_at dksX1_ranked_0 0 rfl rfl)
theorem dX1_ranked_1 : decode cX1_ranked 1 = .ok (.getfield 44, 3) := dk_180 0 44 (dk_at dksX1_ranked_0 1 rfl rfl)
theorem dX1_ranked_4 : decode cX1_ranked 4 = .ok (.iload_n 1, 1) := dk_27 (dk_at dksX1_ranked_0 4 rfl rfl)
theorem dX1_ranked_5 : decode cX1_ranked 5 = .ok (.invokevirtual 272, 3) := dk_182 1 16 (dk_at dksX1_ranked_0 5 rfl rfl)
theorem dX1_ranked_8 : decode cX1_ranked 8 = .ok (.invokestatic 269, 3) := dk_184 1 13 (dk_at dksX1_ranked_0 8 rfl rfl)
theorem dX1_ranked_11 : decode cX1_ranked 11 = .ok (.ireturn, 1) := dk_172 (dk_at dksX1_ranked_0 11 rfl rfl)
abbrev cX1_feed : ByteArray := prog_1_method_40_code
def yX1_feed : MethodName := ⟨RX1, "feed", "(C)I"⟩
def dkwX1_feed_1 : List UInt8 := [27, 182, 1, 25, 87, 42, 180, 0, 58, 182, 1, 19, 172]
abbrev dktX1_feed_1 : List UInt8 := dkwX1_feed_1 ++ []
def dkwX1_feed_0 : List UInt8 := [42, 180, 0, 58, 182, 1, 19, 16, 60, 162, 0, 7, 4, 167, 0, 4, 3, 184, 1, 22, 42, 180, 0, 58]
abbrev dktX1_feed_0 : List UInt8 := dkwX1_feed_0 ++ dktX1_feed_1
theorem dksX1_feed_0 : cX1_feed.data.toList.drop 0 = dktX1_feed_0 := by decide +kernel
theorem dksX1_feed_1 : cX1_feed.data.toList.drop 24 = dktX1_feed_1 := dk_seg dksX1_feed_0 24 rfl rfl
theorem dX1_feed_0 : decode cX1_feed 0 = .ok (.aload_n 0, 1) := dk_42 (dk_at dksX1_feed_0 0 rfl rfl)
theorem dX1_feed_1 : decode cX1_feed 1 = .ok (.getfield 58, 3) := dk_180 0 58 (dk_at dksX1_feed_0 1 rfl rfl)
theorem dX1_feed_4 : decode cX1_feed 4 = .ok (.invokevirtual 275, 3) := dk_182 1 19 (dk_at dksX1_feed_0 4 rfl rfl)
theorem dX1_feed_7 : decode cX1_feed 7 = .ok (.bipush 60, 2) := dk_16 60 (dk_at dksX1_feed_0 7 rfl rfl)
theorem dX1_feed_9 : decode cX1_feed 9 = .ok (.if_icmp .ge 7, 3) := dk_162 0 7 (dk_at dksX1_feed_0 9 rfl rfl)
theorem dX1_feed_12 : decode cX1_feed 12 = .ok (.iconst 1, 1) := dk_4 (dk_at dksX1_feed_0 12 rfl rfl)
theorem dX1_feed_13 : decode cX1_feed 13 = .ok (.goto 4, 3) := dk_167 0 4 (dk_at dksX1_feed_0 13 rfl rfl)
theorem dX1_feed_16 : decode cX1_feed 16 = .ok (.iconst 0, 1) := dk_3 (dk_at dksX1_feed_0 16 rfl rfl)
theorem dX1_feed_17 : decode cX1_feed 17 = .ok (.invokestatic 278, 3) := dk_184 1 22 (dk_at dksX1_feed_0 17 rfl rfl)
theorem dX1_feed_20 : decode cX1_feed 20 = .ok (.aload_n 0, 1) := dk_42 (dk_at dksX1_feed_0 20 rfl rfl)
theorem dX1_feed_21 : decode cX1_feed 21 = .ok (.getfield 58, 3) := dk_180 0 58 (dk_at dksX1_feed_0 21 rfl rfl)
theorem dX1_feed_24 : decode cX1_feed 24 = .ok (.iload_n 1, 1) := dk_27 (dk_at dksX1_feed_1 0 rfl rfl)
theorem dX1_feed_25 : decode cX1_feed 25 = .ok (.invokevirtual 281, 3) := dk_182 1 25 (dk_at dksX1_feed_1 1 rfl rfl)
theorem dX1_feed_28 : decode cX1_feed 28 = .ok (.pop, 1) := dk_87 (dk_at dksX1_feed_1 4 rfl rfl)
theorem dX1_feed_29 : decode cX1_feed 29 = .ok (.aload_n 0, 1) := dk_42 (dk_at dksX1_feed_1 5 rfl rfl)
theorem dX1_feed_30 : decode cX1_feed 30 = .ok (.getfield 58, 3) := dk_180 0 58 (dk_at dksX1_feed_1 6 rfl rfl)
theorem dX1_feed_33 : decode cX1_feed 33 = .ok (.invokevirtual 275, 3) := dk_182 1 19 (dk_at dksX1_feed_1 9 rfl rfl)
theorem dX1_feed_36 : decode cX1_feed 36 = .ok (.ireturn, 1) := dk_172 (dk_at dksX1_feed_1 12 rfl rfl)
abbrev cX1_requireState : ByteArray := prog_1_method_4_code
def yX1_requireState : MethodName := ⟨RX1, "requireState", "(Z)V"⟩
def dkwX1_requireState_0 : List UInt8 := [26, 154, 0, 11, 187, 0, 10, 89, 183, 0, 12, 191, 177]
abbrev dktX1_requireState_0 : List UInt8 := dkwX1_requireState_0 ++ []
theorem dksX1_requireState_0 : cX1_requireState.data.toList.drop 0 = dktX1_requireState_0 := by decide +kernel
theorem dX1_requireState_0 : decode cX1_requireState 0 = .ok (.iload_n 0, 1) := dk_26 (dk_at dksX1_requireState_0 0 rfl rfl)
theorem dX1_requireState_1 : decode cX1_requireState 1 = .ok (.ifCond .ne 11, 3) := dk_154 0 11 (dk_at dksX1_requireState_0 1 rfl rfl)
theorem dX1_requireState_4 : decode cX1_requireState 4 = .ok (.new 10, 3) := dk_187 0 10 (dk_at dksX1_requireState_0 4 rfl rfl)
theorem dX1_requireState_7 : decode cX1_requireState 7 = .ok (.dup, 1) := dk_89 (dk_at dksX1_requireState_0 7 rfl rfl)
theorem dX1_requireState_8 : decode cX1_requireState 8 = .ok (.invokespecial 12, 3) := dk_183 0 12 (dk_at dksX1_requireState_0 8 rfl rfl)
theorem dX1_requireState_11 : decode cX1_requireState 11 = .ok (.athrow, 1) := dk_191 (dk_at dksX1_requireState_0 11 rfl rfl)
theorem dX1_requireState_12 : decode cX1_requireState 12 = .ok (.return_, 1) := dk_177 (dk_at dksX1_requireState_0 12 rfl rfl)
abbrev cX1_run : ByteArray := prog_1_method_42_code
def yX1_run : MethodName := ⟨RX1, "run", "()I"⟩
def dkwX1_run_3 : List UInt8 := [181, 0, 98, 187, 0, 102, 89, 183, 0, 104, 191, 42, 44, 182, 0, 95, 29, 172]
abbrev dktX1_run_3 : List UInt8 := dkwX1_run_3 ++ []
def dkwX1_run_2 : List UInt8 := [132, 3, 1, 167, 255, 227, 167, 0, 29, 58, 4, 42, 187, 0, 25, 89, 16, 9, 29, 25, 4, 183, 1, 54]
abbrev dktX1_run_2 : List UInt8 := dkwX1_run_2 ++ dktX1_run_3
def dkwX1_run_1 : List UInt8 := [185, 0, 139, 1, 0, 162, 0, 25, 43, 29, 185, 0, 145, 2, 0, 192, 0, 90, 44, 182, 0, 89, 54, 4]
abbrev dktX1_run_1 : List UInt8 := dkwX1_run_1 ++ dktX1_run_2
def dkwX1_run_0 : List UInt8 := [42, 182, 1, 51, 76, 187, 0, 41, 89, 42, 180, 0, 44, 183, 0, 86, 77, 3, 62, 29, 43]
abbrev dktX1_run_0 : List UInt8 := dkwX1_run_0 ++ dktX1_run_1
theorem dksX1_run_0 : cX1_run.data.toList.drop 0 = dktX1_run_0 := by decide +kernel
theorem dksX1_run_1 : cX1_run.data.toList.drop 21 = dktX1_run_1 := dk_seg dksX1_run_0 21 rfl rfl
theorem dksX1_run_2 : cX1_run.data.toList.drop 45 = dktX1_run_2 := dk_seg dksX1_run_1 24 rfl rfl
theorem dksX1_run_3 : cX1_run.data.toList.drop 69 = dktX1_run_3 := dk_seg dksX1_run_2 24 rfl rfl
theorem dX1_run_0 : decode cX1_run 0 = .ok (.aload_n 0, 1) := dk_42 (dk_at dksX1_run_0 0 rfl rfl)
theorem dX1_run_1 : decode cX1_run 1 = .ok (.invokevirtual 307, 3) := dk_182 1 51 (dk_at dksX1_run_0 1 rfl rfl)
theorem dX1_run_4 : decode cX1_run 4 = .ok (.astore_n 1, 1) := dk_76 (dk_at dksX1_run_0 4 rfl rfl)
theorem dX1_run_5 : decode cX1_run 5 = .ok (.new 41, 3) := dk_187 0 41 (dk_at dksX1_run_0 5 rfl rfl)
theorem dX1_run_8 : decode cX1_run 8 = .ok (.dup, 1) := dk_89 (dk_at dksX1_run_0 8 rfl rfl)
theorem dX1_run_9 : decode cX1_run 9 = .ok (.aload_n 0, 1) := dk_42 (dk_at dksX1_run_0 9 rfl rfl)
theorem dX1_run_10 : decode cX1_run 10 = .ok (.getfield 44, 3) := dk_180 0 44 (dk_at dksX1_run_0 10 rfl rfl)
theorem dX1_run_13 : decode cX1_run 13 = .ok (.invokespecial 86, 3) := dk_183 0 86 (dk_at dksX1_run_0 13 rfl rfl)
theorem dX1_run_16 : decode cX1_run 16 = .ok (.astore_n 2, 1) := dk_77 (dk_at dksX1_run_0 16 rfl rfl)
theorem dX1_run_17 : decode cX1_run 17 = .ok (.iconst 0, 1) := dk_3 (dk_at dksX1_run_0 17 rfl rfl)
theorem dX1_run_18 : decode cX1_run 18 = .ok (.istore_n 3, 1) := dk_62 (dk_at dksX1_run_0 18 rfl rfl)
theorem dX1_run_19 : decode cX1_run 19 = .ok (.iload_n 3, 1) := dk_29 (dk_at dksX1_run_0 19 rfl rfl)
theorem dX1_run_20 : decode cX1_run 20 = .ok (.aload_n 1, 1) := dk_43 (dk_at dksX1_run_0 20 rfl rfl)
theorem dX1_run_21 : decode cX1_run 21 = .ok (.invokeinterface 139 1, 5) := by decide +kernel
theorem dX1_run_26 : decode cX1_run 26 = .ok (.if_icmp .ge 25, 3) := dk_162 0 25 (dk_at dksX1_run_1 5 rfl rfl)
theorem dX1_run_29 : decode cX1_run 29 = .ok (.aload_n 1, 1) := dk_43 (dk_at dksX1_run_1 8 rfl rfl)
theorem dX1_run_30 : decode cX1_run 30 = .ok (.iload_n 3, 1) := dk_29 (dk_at dksX1_run_1 9 rfl rfl)
theorem dX1_run_31 : decode cX1_run 31 = .ok (.invokeinterface 145 2, 5) := by decide +kernel
theorem dX1_run_36 : decode cX1_run 36 = .ok (.checkcast 90, 3) := dk_192 0 90 (dk_at dksX1_run_1 15 rfl rfl)
theorem dX1_run_39 : decode cX1_run 39 = .ok (.aload_n 2, 1) := dk_44 (dk_at dksX1_run_1 18 rfl rfl)
theorem dX1_run_40 : decode cX1_run 40 = .ok (.invokevirtual 89, 3) := dk_182 0 89 (dk_at dksX1_run_1 19 rfl rfl)
theorem dX1_run_43 : decode cX1_run 43 = .ok (.istore 4, 2) := dk_54 4 (dk_at dksX1_run_1 22 rfl rfl)
theorem dX1_run_45 : decode cX1_run 45 = .ok (.iinc 3 1, 3) := dk_132 3 1 (dk_at dksX1_run_2 0 rfl rfl)
theorem dX1_run_48 : decode cX1_run 48 = .ok (.goto (-29), 3) := dk_167 255 227 (dk_at dksX1_run_2 3 rfl rfl)
theorem dX1_run_51 : decode cX1_run 51 = .ok (.goto 29, 3) := dk_167 0 29 (dk_at dksX1_run_2 6 rfl rfl)
theorem dX1_run_54 : decode cX1_run 54 = .ok (.astore 4, 2) := dk_58 4 (dk_at dksX1_run_2 9 rfl rfl)
theorem dX1_run_56 : decode cX1_run 56 = .ok (.aload_n 0, 1) := dk_42 (dk_at dksX1_run_2 11 rfl rfl)
theorem dX1_run_57 : decode cX1_run 57 = .ok (.new 25, 3) := dk_187 0 25 (dk_at dksX1_run_2 12 rfl rfl)
theorem dX1_run_60 : decode cX1_run 60 = .ok (.dup, 1) := dk_89 (dk_at dksX1_run_2 15 rfl rfl)
theorem dX1_run_61 : decode cX1_run 61 = .ok (.bipush 9, 2) := dk_16 9 (dk_at dksX1_run_2 16 rfl rfl)
theorem dX1_run_63 : decode cX1_run 63 = .ok (.iload_n 3, 1) := dk_29 (dk_at dksX1_run_2 18 rfl rfl)
theorem dX1_run_64 : decode cX1_run 64 = .ok (.aload 4, 2) := dk_25 4 (dk_at dksX1_run_2 19 rfl rfl)
theorem dX1_run_66 : decode cX1_run 66 = .ok (.invokespecial 310, 3) := dk_183 1 54 (dk_at dksX1_run_2 21 rfl rfl)
theorem dX1_run_69 : decode cX1_run 69 = .ok (.putfield 98, 3) := dk_181 0 98 (dk_at dksX1_run_3 0 rfl rfl)
theorem dX1_run_72 : decode cX1_run 72 = .ok (.new 102, 3) := dk_187 0 102 (dk_at dksX1_run_3 3 rfl rfl)
theorem dX1_run_75 : decode cX1_run 75 = .ok (.dup, 1) := dk_89 (dk_at dksX1_run_3 6 rfl rfl)
theorem dX1_run_76 : decode cX1_run 76 = .ok (.invokespecial 104, 3) := dk_183 0 104 (dk_at dksX1_run_3 7 rfl rfl)
theorem dX1_run_79 : decode cX1_run 79 = .ok (.athrow, 1) := dk_191 (dk_at dksX1_run_3 10 rfl rfl)
theorem dX1_run_80 : decode cX1_run 80 = .ok (.aload_n 0, 1) := dk_42 (dk_at dksX1_run_3 11 rfl rfl)
theorem dX1_run_81 : decode cX1_run 81 = .ok (.aload_n 2, 1) := dk_44 (dk_at dksX1_run_3 12 rfl rfl)
theorem dX1_run_82 : decode cX1_run 82 = .ok (.invokevirtual 95, 3) := dk_182 0 95 (dk_at dksX1_run_3 13 rfl rfl)
theorem dX1_run_85 : decode cX1_run 85 = .ok (.iload_n 3, 1) := dk_29 (dk_at dksX1_run_3 16 rfl rfl)
theorem dX1_run_86 : decode cX1_run 86 = .ok (.ireturn, 1) := dk_172 (dk_at dksX1_run_3 17 rfl rfl)
abbrev cX1_readOrders : ByteArray := prog_1_method_41_code
def yX1_readOrders : MethodName := ⟨RX1, "readOrders", "()Ljava/util/List;"⟩
def dkwX1_readOrders_1 : List UInt8 := [182, 1, 42, 176, 77, 42, 44, 180, 1, 48, 181, 0, 68, 187, 0, 7, 89, 183, 0, 9, 191]
abbrev dktX1_readOrders_1 : List UInt8 := dkwX1_readOrders_1 ++ []
def dkwX1_readOrders_0 : List UInt8 := [187, 1, 29, 89, 42, 180, 0, 58, 182, 1, 31, 183, 1, 35, 76, 42, 180, 0, 58, 3, 182, 1, 38, 43]
abbrev dktX1_readOrders_0 : List UInt8 := dkwX1_readOrders_0 ++ dktX1_readOrders_1
theorem dksX1_readOrders_0 : cX1_readOrders.data.toList.drop 0 = dktX1_readOrders_0 := by decide +kernel
theorem dksX1_readOrders_1 : cX1_readOrders.data.toList.drop 24 = dktX1_readOrders_1 := dk_seg dksX1_readOrders_0 24 rfl rfl
theorem dX1_readOrders_0 : decode cX1_readOrders 0 = .ok (.new 285, 3) := dk_187 1 29 (dk_at dksX1_readOrders_0 0 rfl rfl)
theorem dX1_readOrders_3 : decode cX1_readOrders 3 = .ok (.dup, 1) := dk_89 (dk_at dksX1_readOrders_0 3 rfl rfl)
theorem dX1_readOrders_4 : decode cX1_readOrders 4 = .ok (.aload_n 0, 1) := dk_42 (dk_at dksX1_readOrders_0 4 rfl rfl)
theorem dX1_readOrders_5 : decode cX1_readOrders 5 = .ok (.getfield 58, 3) := dk_180 0 58 (dk_at dksX1_readOrders_0 5 rfl rfl)
theorem dX1_readOrders_8 : decode cX1_readOrders 8 = .ok (.invokevirtual 287, 3) := dk_182 1 31 (dk_at dksX1_readOrders_0 8 rfl rfl)
theorem dX1_readOrders_11 : decode cX1_readOrders 11 = .ok (.invokespecial 291, 3) := dk_183 1 35 (dk_at dksX1_readOrders_0 11 rfl rfl)
theorem dX1_readOrders_14 : decode cX1_readOrders 14 = .ok (.astore_n 1, 1) := dk_76 (dk_at dksX1_readOrders_0 14 rfl rfl)
theorem dX1_readOrders_15 : decode cX1_readOrders 15 = .ok (.aload_n 0, 1) := dk_42 (dk_at dksX1_readOrders_0 15 rfl rfl)
theorem dX1_readOrders_16 : decode cX1_readOrders 16 = .ok (.getfield 58, 3) := dk_180 0 58 (dk_at dksX1_readOrders_0 16 rfl rfl)
theorem dX1_readOrders_19 : decode cX1_readOrders 19 = .ok (.iconst 0, 1) := dk_3 (dk_at dksX1_readOrders_0 19 rfl rfl)
theorem dX1_readOrders_20 : decode cX1_readOrders 20 = .ok (.invokevirtual 294, 3) := dk_182 1 38 (dk_at dksX1_readOrders_0 20 rfl rfl)
theorem dX1_readOrders_23 : decode cX1_readOrders 23 = .ok (.aload_n 1, 1) := dk_43 (dk_at dksX1_readOrders_0 23 rfl rfl)
theorem dX1_readOrders_24 : decode cX1_readOrders 24 = .ok (.invokevirtual 298, 3) := dk_182 1 42 (dk_at dksX1_readOrders_1 0 rfl rfl)
theorem dX1_readOrders_27 : decode cX1_readOrders 27 = .ok (.areturn, 1) := dk_176 (dk_at dksX1_readOrders_1 3 rfl rfl)
theorem dX1_readOrders_28 : decode cX1_readOrders 28 = .ok (.astore_n 2, 1) := dk_77 (dk_at dksX1_readOrders_1 4 rfl rfl)
theorem dX1_readOrders_29 : decode cX1_readOrders 29 = .ok (.aload_n 0, 1) := dk_42 (dk_at dksX1_readOrders_1 5 rfl rfl)
theorem dX1_readOrders_30 : decode cX1_readOrders 30 = .ok (.aload_n 2, 1) := dk_44 (dk_at dksX1_readOrders_1 6 rfl rfl)
theorem dX1_readOrders_31 : decode cX1_readOrders 31 = .ok (.getfield 304, 3) := dk_180 1 48 (dk_at dksX1_readOrders_1 7 rfl rfl)
theorem dX1_readOrders_34 : decode cX1_readOrders 34 = .ok (.putfield 68, 3) := dk_181 0 68 (dk_at dksX1_readOrders_1 10 rfl rfl)
theorem dX1_readOrders_37 : decode cX1_readOrders 37 = .ok (.new 7, 3) := dk_187 0 7 (dk_at dksX1_readOrders_1 13 rfl rfl)
theorem dX1_readOrders_40 : decode cX1_readOrders 40 = .ok (.dup, 1) := dk_89 (dk_at dksX1_readOrders_1 16 rfl rfl)
theorem dX1_readOrders_41 : decode cX1_readOrders 41 = .ok (.invokespecial 9, 3) := dk_183 0 9 (dk_at dksX1_readOrders_1 17 rfl rfl)
theorem dX1_readOrders_44 : decode cX1_readOrders 44 = .ok (.athrow, 1) := dk_191 (dk_at dksX1_readOrders_1 20 rfl rfl)
abbrev cX1_faultPosition : ByteArray := prog_1_method_43_code
def yX1_faultPosition : MethodName := ⟨RX1, "faultPosition", "()I"⟩
def dkwX1_faultPosition_0 : List UInt8 := [42, 180, 0, 68, 184, 1, 13, 172]
abbrev dktX1_faultPosition_0 : List UInt8 := dkwX1_faultPosition_0 ++ []
theorem dksX1_faultPosition_0 : cX1_faultPosition.data.toList.drop 0 = dktX1_faultPosition_0 := by decide +kernel
theorem dX1_faultPosition_0 : decode cX1_faultPosition 0 = .ok (.aload_n 0, 1) := dk_42 (dk_at dksX1_faultPosition_0 0 rfl rfl)
theorem dX1_faultPosition_1 : decode cX1_faultPosition 1 = .ok (.getfield 68, 3) := dk_180 0 68 (dk_at dksX1_faultPosition_0 1 rfl rfl)
theorem dX1_faultPosition_4 : decode cX1_faultPosition 4 = .ok (.invokestatic 269, 3) := dk_184 1 13 (dk_at dksX1_faultPosition_0 4 rfl rfl)
theorem dX1_faultPosition_7 : decode cX1_faultPosition 7 = .ok (.ireturn, 1) := dk_172 (dk_at dksX1_faultPosition_0 7 rfl rfl)
abbrev cX1_reason : ByteArray := prog_1_method_44_code
def yX1_reason : MethodName := ⟨RX1, "reason", "(ZZ)I"⟩
def dkwX1_reason_2 : List UInt8 := [153, 0, 10, 45, 180, 1, 60, 167, 0, 7, 45, 180, 1, 63, 172]
abbrev dktX1_reason_2 : List UInt8 := dkwX1_reason_2 ++ []
def dkwX1_reason_1 : List UInt8 := [180, 1, 57, 167, 0, 7, 42, 180, 0, 98, 78, 45, 198, 0, 7, 4, 167, 0, 4, 3, 184, 0, 21, 28]
abbrev dktX1_reason_1 : List UInt8 := dkwX1_reason_1 ++ dktX1_reason_2
def dkwX1_reason_0 : List UInt8 := [42, 180, 0, 98, 198, 0, 7, 4, 167, 0, 4, 3, 184, 0, 21, 27, 153, 0, 13, 42, 180, 0, 98]
abbrev dktX1_reason_0 : List UInt8 := dkwX1_reason_0 ++ dktX1_reason_1
theorem dksX1_reason_0 : cX1_reason.data.toList.drop 0 = dktX1_reason_0 := by decide +kernel
theorem dksX1_reason_1 : cX1_reason.data.toList.drop 23 = dktX1_reason_1 := dk_seg dksX1_reason_0 23 rfl rfl
theorem dksX1_reason_2 : cX1_reason.data.toList.drop 47 = dktX1_reason_2 := dk_seg dksX1_reason_1 24 rfl rfl
theorem dX1_reason_0 : decode cX1_reason 0 = .ok (.aload_n 0, 1) := dk_42 (dk_at dksX1_reason_0 0 rfl rfl)
theorem dX1_reason_1 : decode cX1_reason 1 = .ok (.getfield 98, 3) := dk_180 0 98 (dk_at dksX1_reason_0 1 rfl rfl)
theorem dX1_reason_4 : decode cX1_reason 4 = .ok (.ifnull 7, 3) := dk_198 0 7 (dk_at dksX1_reason_0 4 rfl rfl)
theorem dX1_reason_7 : decode cX1_reason 7 = .ok (.iconst 1, 1) := dk_4 (dk_at dksX1_reason_0 7 rfl rfl)
theorem dX1_reason_8 : decode cX1_reason 8 = .ok (.goto 4, 3) := dk_167 0 4 (dk_at dksX1_reason_0 8 rfl rfl)
theorem dX1_reason_11 : decode cX1_reason 11 = .ok (.iconst 0, 1) := dk_3 (dk_at dksX1_reason_0 11 rfl rfl)
theorem dX1_reason_12 : decode cX1_reason 12 = .ok (.invokestatic 21, 3) := dk_184 0 21 (dk_at dksX1_reason_0 12 rfl rfl)
theorem dX1_reason_15 : decode cX1_reason 15 = .ok (.iload_n 1, 1) := dk_27 (dk_at dksX1_reason_0 15 rfl rfl)
theorem dX1_reason_16 : decode cX1_reason 16 = .ok (.ifCond .eq 13, 3) := dk_153 0 13 (dk_at dksX1_reason_0 16 rfl rfl)
theorem dX1_reason_19 : decode cX1_reason 19 = .ok (.aload_n 0, 1) := dk_42 (dk_at dksX1_reason_0 19 rfl rfl)
theorem dX1_reason_20 : decode cX1_reason 20 = .ok (.getfield 98, 3) := dk_180 0 98 (dk_at dksX1_reason_0 20 rfl rfl)
theorem dX1_reason_23 : decode cX1_reason 23 = .ok (.getfield 313, 3) := dk_180 1 57 (dk_at dksX1_reason_1 0 rfl rfl)
theorem dX1_reason_26 : decode cX1_reason 26 = .ok (.goto 7, 3) := dk_167 0 7 (dk_at dksX1_reason_1 3 rfl rfl)
theorem dX1_reason_29 : decode cX1_reason 29 = .ok (.aload_n 0, 1) := dk_42 (dk_at dksX1_reason_1 6 rfl rfl)
theorem dX1_reason_30 : decode cX1_reason 30 = .ok (.getfield 98, 3) := dk_180 0 98 (dk_at dksX1_reason_1 7 rfl rfl)
theorem dX1_reason_33 : decode cX1_reason 33 = .ok (.astore_n 3, 1) := dk_78 (dk_at dksX1_reason_1 10 rfl rfl)
theorem dX1_reason_34 : decode cX1_reason 34 = .ok (.aload_n 3, 1) := dk_45 (dk_at dksX1_reason_1 11 rfl rfl)
theorem dX1_reason_35 : decode cX1_reason 35 = .ok (.ifnull 7, 3) := dk_198 0 7 (dk_at dksX1_reason_1 12 rfl rfl)
theorem dX1_reason_38 : decode cX1_reason 38 = .ok (.iconst 1, 1) := dk_4 (dk_at dksX1_reason_1 15 rfl rfl)
theorem dX1_reason_39 : decode cX1_reason 39 = .ok (.goto 4, 3) := dk_167 0 4 (dk_at dksX1_reason_1 16 rfl rfl)
theorem dX1_reason_42 : decode cX1_reason 42 = .ok (.iconst 0, 1) := dk_3 (dk_at dksX1_reason_1 19 rfl rfl)
theorem dX1_reason_43 : decode cX1_reason 43 = .ok (.invokestatic 21, 3) := dk_184 0 21 (dk_at dksX1_reason_1 20 rfl rfl)
theorem dX1_reason_46 : decode cX1_reason 46 = .ok (.iload_n 2, 1) := dk_28 (dk_at dksX1_reason_1 23 rfl rfl)
theorem dX1_reason_47 : decode cX1_reason 47 = .ok (.ifCond .eq 10, 3) := dk_153 0 10 (dk_at dksX1_reason_2 0 rfl rfl)
theorem dX1_reason_50 : decode cX1_reason 50 = .ok (.aload_n 3, 1) := dk_45 (dk_at dksX1_reason_2 3 rfl rfl)
theorem dX1_reason_51 : decode cX1_reason 51 = .ok (.getfield 316, 3) := dk_180 1 60 (dk_at dksX1_reason_2 4 rfl rfl)
theorem dX1_reason_54 : decode cX1_reason 54 = .ok (.goto 7, 3) := dk_167 0 7 (dk_at dksX1_reason_2 7 rfl rfl)
theorem dX1_reason_57 : decode cX1_reason 57 = .ok (.aload_n 3, 1) := dk_45 (dk_at dksX1_reason_2 10 rfl rfl)
theorem dX1_reason_58 : decode cX1_reason 58 = .ok (.getfield 319, 3) := dk_180 1 63 (dk_at dksX1_reason_2 11 rfl rfl)
theorem dX1_reason_61 : decode cX1_reason 61 = .ok (.ireturn, 1) := dk_172 (dk_at dksX1_reason_2 14 rfl rfl)
abbrev cX1_line : ByteArray := prog_1_method_46_code
def yX1_line : MethodName := ⟨RX1, "line", "(I)I"⟩
def dkwX1_line_0 : List UInt8 := [42, 42, 27, 182, 0, 179, 182, 1, 69, 182, 1, 71, 172]
abbrev dktX1_line_0 : List UInt8 := dkwX1_line_0 ++ []
theorem dksX1_line_0 : cX1_line.data.toList.drop 0 = dktX1_line_0 := by decide +kernel
theorem dX1_line_0 : decode cX1_line 0 = .ok (.aload_n 0, 1) := dk_42 (dk_at dksX1_line_0 0 rfl rfl)
theorem dX1_line_1 : decode cX1_line 1 = .ok (.aload_n 0, 1) := dk_42 (dk_at dksX1_line_0 1 rfl rfl)
theorem dX1_line_2 : decode cX1_line 2 = .ok (.iload_n 1, 1) := dk_27 (dk_at dksX1_line_0 2 rfl rfl)
theorem dX1_line_3 : decode cX1_line 3 = .ok (.invokevirtual 179, 3) := dk_182 0 179 (dk_at dksX1_line_0 3 rfl rfl)
theorem dX1_line_6 : decode cX1_line 6 = .ok (.invokevirtual 325, 3) := dk_182 1 69 (dk_at dksX1_line_0 6 rfl rfl)
theorem dX1_line_9 : decode cX1_line 9 = .ok (.invokevirtual 327, 3) := dk_182 1 71 (dk_at dksX1_line_0 9 rfl rfl)
theorem dX1_line_12 : decode cX1_line 12 = .ok (.ireturn, 1) := dk_172 (dk_at dksX1_line_0 12 rfl rfl)
abbrev cX1_character : ByteArray := prog_1_method_48_code
def yX1_character : MethodName := ⟨RX1, "character", "(I)C"⟩
def dkwX1_character_1 : List UInt8 := [182, 1, 76, 172]
abbrev dktX1_character_1 : List UInt8 := dkwX1_character_1 ++ []
def dkwX1_character_0 : List UInt8 := [27, 3, 42, 180, 0, 64, 182, 1, 66, 4, 100, 184, 0, 30, 184, 0, 142, 42, 180, 0, 64, 27]
abbrev dktX1_character_0 : List UInt8 := dkwX1_character_0 ++ dktX1_character_1
theorem dksX1_character_0 : cX1_character.data.toList.drop 0 = dktX1_character_0 := by decide +kernel
theorem dksX1_character_1 : cX1_character.data.toList.drop 22 = dktX1_character_1 := dk_seg dksX1_character_0 22 rfl rfl
theorem dX1_character_0 : decode cX1_character 0 = .ok (.iload_n 1, 1) := dk_27 (dk_at dksX1_character_0 0 rfl rfl)
theorem dX1_character_1 : decode cX1_character 1 = .ok (.iconst 0, 1) := dk_3 (dk_at dksX1_character_0 1 rfl rfl)
theorem dX1_character_2 : decode cX1_character 2 = .ok (.aload_n 0, 1) := dk_42 (dk_at dksX1_character_0 2 rfl rfl)
theorem dX1_character_3 : decode cX1_character 3 = .ok (.getfield 64, 3) := dk_180 0 64 (dk_at dksX1_character_0 3 rfl rfl)
theorem dX1_character_6 : decode cX1_character 6 = .ok (.invokevirtual 322, 3) := dk_182 1 66 (dk_at dksX1_character_0 6 rfl rfl)
theorem dX1_character_9 : decode cX1_character 9 = .ok (.iconst 1, 1) := dk_4 (dk_at dksX1_character_0 9 rfl rfl)
theorem dX1_character_10 : decode cX1_character 10 = .ok (.isub, 1) := dk_100 (dk_at dksX1_character_0 10 rfl rfl)
theorem dX1_character_11 : decode cX1_character 11 = .ok (.invokestatic 30, 3) := dk_184 0 30 (dk_at dksX1_character_0 11 rfl rfl)
theorem dX1_character_14 : decode cX1_character 14 = .ok (.invokestatic 142, 3) := dk_184 0 142 (dk_at dksX1_character_0 14 rfl rfl)
theorem dX1_character_17 : decode cX1_character 17 = .ok (.aload_n 0, 1) := dk_42 (dk_at dksX1_character_0 17 rfl rfl)
theorem dX1_character_18 : decode cX1_character 18 = .ok (.getfield 64, 3) := dk_180 0 64 (dk_at dksX1_character_0 18 rfl rfl)
theorem dX1_character_21 : decode cX1_character 21 = .ok (.iload_n 1, 1) := dk_27 (dk_at dksX1_character_0 21 rfl rfl)
theorem dX1_character_22 : decode cX1_character 22 = .ok (.invokevirtual 332, 3) := dk_182 1 76 (dk_at dksX1_character_1 0 rfl rfl)
theorem dX1_character_25 : decode cX1_character 25 = .ok (.ireturn, 1) := dk_172 (dk_at dksX1_character_1 3 rfl rfl)
abbrev cX1_share : ByteArray := prog_1_method_49_code
def yX1_share : MethodName := ⟨RX1, "share", "(I)F"⟩
def dkwX1_share_1 : List UInt8 := [180, 0, 183, 182, 0, 241, 134, 44, 180, 0, 183, 134, 110, 174]
abbrev dktX1_share_1 : List UInt8 := dkwX1_share_1 ++ []
def dkwX1_share_0 : List UInt8 := [42, 27, 182, 0, 179, 77, 44, 180, 0, 183, 184, 1, 80, 44, 42, 180, 0, 44, 180, 0, 151, 44]
abbrev dktX1_share_0 : List UInt8 := dkwX1_share_0 ++ dktX1_share_1
theorem dksX1_share_0 : cX1_share.data.toList.drop 0 = dktX1_share_0 := by decide +kernel
theorem dksX1_share_1 : cX1_share.data.toList.drop 22 = dktX1_share_1 := dk_seg dksX1_share_0 22 rfl rfl
theorem dX1_share_0 : decode cX1_share 0 = .ok (.aload_n 0, 1) := dk_42 (dk_at dksX1_share_0 0 rfl rfl)
theorem dX1_share_1 : decode cX1_share 1 = .ok (.iload_n 1, 1) := dk_27 (dk_at dksX1_share_0 1 rfl rfl)
theorem dX1_share_2 : decode cX1_share 2 = .ok (.invokevirtual 179, 3) := dk_182 0 179 (dk_at dksX1_share_0 2 rfl rfl)
theorem dX1_share_5 : decode cX1_share 5 = .ok (.astore_n 2, 1) := dk_77 (dk_at dksX1_share_0 5 rfl rfl)
theorem dX1_share_6 : decode cX1_share 6 = .ok (.aload_n 2, 1) := dk_44 (dk_at dksX1_share_0 6 rfl rfl)
theorem dX1_share_7 : decode cX1_share 7 = .ok (.getfield 183, 3) := dk_180 0 183 (dk_at dksX1_share_0 7 rfl rfl)
theorem dX1_share_10 : decode cX1_share 10 = .ok (.invokestatic 336, 3) := dk_184 1 80 (dk_at dksX1_share_0 10 rfl rfl)
theorem dX1_share_13 : decode cX1_share 13 = .ok (.aload_n 2, 1) := dk_44 (dk_at dksX1_share_0 13 rfl rfl)
theorem dX1_share_14 : decode cX1_share 14 = .ok (.aload_n 0, 1) := dk_42 (dk_at dksX1_share_0 14 rfl rfl)
theorem dX1_share_15 : decode cX1_share 15 = .ok (.getfield 44, 3) := dk_180 0 44 (dk_at dksX1_share_0 15 rfl rfl)
theorem dX1_share_18 : decode cX1_share 18 = .ok (.getfield 151, 3) := dk_180 0 151 (dk_at dksX1_share_0 18 rfl rfl)
theorem dX1_share_21 : decode cX1_share 21 = .ok (.aload_n 2, 1) := dk_44 (dk_at dksX1_share_0 21 rfl rfl)
theorem dX1_share_22 : decode cX1_share 22 = .ok (.getfield 183, 3) := dk_180 0 183 (dk_at dksX1_share_1 0 rfl rfl)
theorem dX1_share_25 : decode cX1_share 25 = .ok (.invokevirtual 241, 3) := dk_182 0 241 (dk_at dksX1_share_1 3 rfl rfl)
theorem dX1_share_28 : decode cX1_share 28 = .ok (.i2f, 1) := dk_134 (dk_at dksX1_share_1 6 rfl rfl)
theorem dX1_share_29 : decode cX1_share 29 = .ok (.aload_n 2, 1) := dk_44 (dk_at dksX1_share_1 7 rfl rfl)
theorem dX1_share_30 : decode cX1_share 30 = .ok (.getfield 183, 3) := dk_180 0 183 (dk_at dksX1_share_1 8 rfl rfl)
theorem dX1_share_33 : decode cX1_share 33 = .ok (.i2f, 1) := dk_134 (dk_at dksX1_share_1 11 rfl rfl)
theorem dX1_share_34 : decode cX1_share 34 = .ok (.fdiv, 1) := dk_110 (dk_at dksX1_share_1 12 rfl rfl)
theorem dX1_share_35 : decode cX1_share 35 = .ok (.freturn, 1) := dk_174 (dk_at dksX1_share_1 13 rfl rfl)
abbrev cX1_requireSome : ByteArray := prog_1_method_6_code
def yX1_requireSome : MethodName := ⟨RX1, "requireSome", "(I)V"⟩
def dkwX1_requireSome_0 : List UInt8 := [26, 154, 0, 11, 187, 0, 16, 89, 183, 0, 18, 191, 177]
abbrev dktX1_requireSome_0 : List UInt8 := dkwX1_requireSome_0 ++ []
theorem dksX1_requireSome_0 : cX1_requireSome.data.toList.drop 0 = dktX1_requireSome_0 := by decide +kernel
theorem dX1_requireSome_0 : decode cX1_requireSome 0 = .ok (.iload_n 0, 1) := dk_26 (dk_at dksX1_requireSome_0 0 rfl rfl)
theorem dX1_requireSome_1 : decode cX1_requireSome 1 = .ok (.ifCond .ne 11, 3) := dk_154 0 11 (dk_at dksX1_requireSome_0 1 rfl rfl)
theorem dX1_requireSome_4 : decode cX1_requireSome 4 = .ok (.new 16, 3) := dk_187 0 16 (dk_at dksX1_requireSome_0 4 rfl rfl)
theorem dX1_requireSome_7 : decode cX1_requireSome 7 = .ok (.dup, 1) := dk_89 (dk_at dksX1_requireSome_0 7 rfl rfl)
theorem dX1_requireSome_8 : decode cX1_requireSome 8 = .ok (.invokespecial 18, 3) := dk_183 0 18 (dk_at dksX1_requireSome_0 8 rfl rfl)
theorem dX1_requireSome_11 : decode cX1_requireSome 11 = .ok (.athrow, 1) := dk_191 (dk_at dksX1_requireSome_0 11 rfl rfl)
theorem dX1_requireSome_12 : decode cX1_requireSome 12 = .ok (.return_, 1) := dk_177 (dk_at dksX1_requireSome_0 12 rfl rfl)
abbrev cX1_meanIncome : ByteArray := prog_1_method_50_code
def yX1_meanIncome : MethodName := ⟨RX1, "meanIncome", "()D"⟩
def dkwX1_meanIncome_1 : List UInt8 := [180, 0, 44, 180, 0, 135, 185, 0, 139, 1, 0, 135, 111, 175]
abbrev dktX1_meanIncome_1 : List UInt8 := dkwX1_meanIncome_1 ++ []
def dkwX1_meanIncome_0 : List UInt8 := [42, 180, 0, 44, 180, 0, 135, 185, 0, 139, 1, 0, 184, 1, 80, 42, 180, 0, 44, 182, 1, 83, 135, 42]
abbrev dktX1_meanIncome_0 : List UInt8 := dkwX1_meanIncome_0 ++ dktX1_meanIncome_1
theorem dksX1_meanIncome_0 : cX1_meanIncome.data.toList.drop 0 = dktX1_meanIncome_0 := by decide +kernel
theorem dksX1_meanIncome_1 : cX1_meanIncome.data.toList.drop 24 = dktX1_meanIncome_1 := dk_seg dksX1_meanIncome_0 24 rfl rfl
theorem dX1_meanIncome_0 : decode cX1_meanIncome 0 = .ok (.aload_n 0, 1) := dk_42 (dk_at dksX1_meanIncome_0 0 rfl rfl)
theorem dX1_meanIncome_1 : decode cX1_meanIncome 1 = .ok (.getfield 44, 3) := dk_180 0 44 (dk_at dksX1_meanIncome_0 1 rfl rfl)
theorem dX1_meanIncome_4 : decode cX1_meanIncome 4 = .ok (.getfield 135, 3) := dk_180 0 135 (dk_at dksX1_meanIncome_0 4 rfl rfl)
theorem dX1_meanIncome_7 : decode cX1_meanIncome 7 = .ok (.invokeinterface 139 1, 5) := by decide +kernel
theorem dX1_meanIncome_12 : decode cX1_meanIncome 12 = .ok (.invokestatic 336, 3) := dk_184 1 80 (dk_at dksX1_meanIncome_0 12 rfl rfl)
theorem dX1_meanIncome_15 : decode cX1_meanIncome 15 = .ok (.aload_n 0, 1) := dk_42 (dk_at dksX1_meanIncome_0 15 rfl rfl)
theorem dX1_meanIncome_16 : decode cX1_meanIncome 16 = .ok (.getfield 44, 3) := dk_180 0 44 (dk_at dksX1_meanIncome_0 16 rfl rfl)
theorem dX1_meanIncome_19 : decode cX1_meanIncome 19 = .ok (.invokevirtual 339, 3) := dk_182 1 83 (dk_at dksX1_meanIncome_0 19 rfl rfl)
theorem dX1_meanIncome_22 : decode cX1_meanIncome 22 = .ok (.i2d, 1) := dk_135 (dk_at dksX1_meanIncome_0 22 rfl rfl)
theorem dX1_meanIncome_23 : decode cX1_meanIncome 23 = .ok (.aload_n 0, 1) := dk_42 (dk_at dksX1_meanIncome_0 23 rfl rfl)
theorem dX1_meanIncome_24 : decode cX1_meanIncome 24 = .ok (.getfield 44, 3) := dk_180 0 44 (dk_at dksX1_meanIncome_1 0 rfl rfl)
theorem dX1_meanIncome_27 : decode cX1_meanIncome 27 = .ok (.getfield 135, 3) := dk_180 0 135 (dk_at dksX1_meanIncome_1 3 rfl rfl)
theorem dX1_meanIncome_30 : decode cX1_meanIncome 30 = .ok (.invokeinterface 139 1, 5) := by decide +kernel
theorem dX1_meanIncome_35 : decode cX1_meanIncome 35 = .ok (.i2d, 1) := dk_135 (dk_at dksX1_meanIncome_1 11 rfl rfl)
theorem dX1_meanIncome_36 : decode cX1_meanIncome 36 = .ok (.ddiv, 1) := dk_111 (dk_at dksX1_meanIncome_1 12 rfl rfl)
theorem dX1_meanIncome_37 : decode cX1_meanIncome 37 = .ok (.dreturn, 1) := dk_175 (dk_at dksX1_meanIncome_1 13 rfl rfl)
abbrev cX1_account : ByteArray := prog_1_method_51_code
def yX1_account : MethodName := ⟨RX1, "account", "(I)I"⟩
def dkwX1_account_8 : List UInt8 := [180, 0, 51, 185, 0, 72, 1, 0, 172, 187, 0, 7, 89, 183, 0, 9, 191]
abbrev dktX1_account_8 : List UInt8 := dkwX1_account_8 ++ []
def dkwX1_account_7 : List UInt8 := [180, 0, 44, 182, 1, 112, 172, 42, 180, 0, 44, 182, 1, 115, 172, 42, 180, 0, 58, 182, 1, 19, 172, 42]
abbrev dktX1_account_7 : List UInt8 := dkwX1_account_7 ++ dktX1_account_8
def dkwX1_account_6 : List UInt8 := [180, 0, 44, 180, 1, 103, 172, 42, 180, 0, 44, 182, 1, 106, 172, 42, 180, 0, 44, 182, 1, 109, 172, 42]
abbrev dktX1_account_6 : List UInt8 := dkwX1_account_6 ++ dktX1_account_7
def dkwX1_account_5 : List UInt8 := [180, 0, 44, 180, 1, 96, 172, 42, 180, 0, 44, 180, 1, 99, 172, 42, 180, 0, 44, 180, 1, 100, 172, 42]
abbrev dktX1_account_5 : List UInt8 := dkwX1_account_5 ++ dktX1_account_6
def dkwX1_account_4 : List UInt8 := [180, 0, 44, 180, 0, 151, 180, 1, 93, 172, 42, 180, 0, 44, 180, 0, 135, 185, 0, 139, 1, 0, 172, 42]
abbrev dktX1_account_4 : List UInt8 := dkwX1_account_4 ++ dktX1_account_5
def dkwX1_account_3 : List UInt8 := [180, 0, 44, 180, 0, 151, 180, 1, 88, 172, 42, 180, 0, 44, 180, 0, 151, 180, 1, 90, 172, 42]
abbrev dktX1_account_3 : List UInt8 := dkwX1_account_3 ++ dktX1_account_4
def dkwX1_account_2 : List UInt8 := [42, 180, 0, 44, 180, 1, 86, 172, 42, 180, 0, 44, 180, 0, 151, 180, 0, 155, 182, 0, 161, 172, 42]
abbrev dktX1_account_2 : List UInt8 := dkwX1_account_2 ++ dktX1_account_3
def dkwX1_account_1 : List UInt8 := [170, 0, 0, 0, 0, 0, 229, 0, 0, 0, 0, 0, 0, 0, 15, 0, 0, 0, 79, 0, 0, 0, 87, 0, 0, 0, 101, 0, 0, 0, 112, 0, 0, 0, 123, 0, 0, 0, 134, 0, 0, 0, 147, 0, 0, 0, 155, 0, 0, 0, 163, 0, 0, 0, 171, 0, 0, 0, 179, 0, 0, 0, 187, 0, 0, 0, 195, 0, 0, 0, 203, 0, 0, 0, 211, 0, 0, 0, 219]
abbrev dktX1_account_1 : List UInt8 := dkwX1_account_1 ++ dktX1_account_2
def dkwX1_account_0 : List UInt8 := [27]
abbrev dktX1_account_0 : List UInt8 := dkwX1_account_0 ++ dktX1_account_1
theorem dksX1_account_0 : cX1_account.data.toList.drop 0 = dktX1_account_0 := by decide +kernel
theorem dksX1_account_1 : cX1_account.data.toList.drop 1 = dktX1_account_1 := dk_seg dksX1_account_0 1 rfl rfl
theorem dksX1_account_2 : cX1_account.data.toList.drop 80 = dktX1_account_2 := dk_seg dksX1_account_1 79 rfl rfl
theorem dksX1_account_3 : cX1_account.data.toList.drop 103 = dktX1_account_3 := dk_seg dksX1_account_2 23 rfl rfl
theorem dksX1_account_4 : cX1_account.data.toList.drop 125 = dktX1_account_4 := dk_seg dksX1_account_3 22 rfl rfl
theorem dksX1_account_5 : cX1_account.data.toList.drop 149 = dktX1_account_5 := dk_seg dksX1_account_4 24 rfl rfl
theorem dksX1_account_6 : cX1_account.data.toList.drop 173 = dktX1_account_6 := dk_seg dksX1_account_5 24 rfl rfl
theorem dksX1_account_7 : cX1_account.data.toList.drop 197 = dktX1_account_7 := dk_seg dksX1_account_6 24 rfl rfl
theorem dksX1_account_8 : cX1_account.data.toList.drop 221 = dktX1_account_8 := dk_seg dksX1_account_7 24 rfl rfl
theorem dX1_account_0 : decode cX1_account 0 = .ok (.iload_n 1, 1) := dk_27 (dk_at dksX1_account_0 0 rfl rfl)
theorem dX1_account_1 : decode cX1_account 1 = .ok (.tableswitch 229 0 15 #[79, 87, 101, 112, 123, 134, 147, 155, 163, 171, 179, 187, 195, 203, 211, 219], 79) := by decide +kernel
theorem dX1_account_80 : decode cX1_account 80 = .ok (.aload_n 0, 1) := dk_42 (dk_at dksX1_account_2 0 rfl rfl)
theorem dX1_account_81 : decode cX1_account 81 = .ok (.getfield 44, 3) := dk_180 0 44 (dk_at dksX1_account_2 1 rfl rfl)
theorem dX1_account_84 : decode cX1_account 84 = .ok (.getfield 342, 3) := dk_180 1 86 (dk_at dksX1_account_2 4 rfl rfl)
theorem dX1_account_87 : decode cX1_account 87 = .ok (.ireturn, 1) := dk_172 (dk_at dksX1_account_2 7 rfl rfl)
theorem dX1_account_88 : decode cX1_account 88 = .ok (.aload_n 0, 1) := dk_42 (dk_at dksX1_account_2 8 rfl rfl)
theorem dX1_account_89 : decode cX1_account 89 = .ok (.getfield 44, 3) := dk_180 0 44 (dk_at dksX1_account_2 9 rfl rfl)
theorem dX1_account_92 : decode cX1_account 92 = .ok (.getfield 151, 3) := dk_180 0 151 (dk_at dksX1_account_2 12 rfl rfl)
theorem dX1_account_95 : decode cX1_account 95 = .ok (.getfield 155, 3) := dk_180 0 155 (dk_at dksX1_account_2 15 rfl rfl)
theorem dX1_account_98 : decode cX1_account 98 = .ok (.invokevirtual 161, 3) := dk_182 0 161 (dk_at dksX1_account_2 18 rfl rfl)
theorem dX1_account_101 : decode cX1_account 101 = .ok (.ireturn, 1) := dk_172 (dk_at dksX1_account_2 21 rfl rfl)
theorem dX1_account_102 : decode cX1_account 102 = .ok (.aload_n 0, 1) := dk_42 (dk_at dksX1_account_2 22 rfl rfl)
theorem dX1_account_103 : decode cX1_account 103 = .ok (.getfield 44, 3) := dk_180 0 44 (dk_at dksX1_account_3 0 rfl rfl)
theorem dX1_account_106 : decode cX1_account 106 = .ok (.getfield 151, 3) := dk_180 0 151 (dk_at dksX1_account_3 3 rfl rfl)
theorem dX1_account_109 : decode cX1_account 109 = .ok (.getfield 344, 3) := dk_180 1 88 (dk_at dksX1_account_3 6 rfl rfl)
theorem dX1_account_112 : decode cX1_account 112 = .ok (.ireturn, 1) := dk_172 (dk_at dksX1_account_3 9 rfl rfl)
theorem dX1_account_113 : decode cX1_account 113 = .ok (.aload_n 0, 1) := dk_42 (dk_at dksX1_account_3 10 rfl rfl)
theorem dX1_account_114 : decode cX1_account 114 = .ok (.getfield 44, 3) := dk_180 0 44 (dk_at dksX1_account_3 11 rfl rfl)
theorem dX1_account_117 : decode cX1_account 117 = .ok (.getfield 151, 3) := dk_180 0 151 (dk_at dksX1_account_3 14 rfl rfl)
theorem dX1_account_120 : decode cX1_account 120 = .ok (.getfield 346, 3) := dk_180 1 90 (dk_at dksX1_account_3 17 rfl rfl)
theorem dX1_account_123 : decode cX1_account 123 = .ok (.ireturn, 1) := dk_172 (dk_at dksX1_account_3 20 rfl rfl)
theorem dX1_account_124 : decode cX1_account 124 = .ok (.aload_n 0, 1) := dk_42 (dk_at dksX1_account_3 21 rfl rfl)
theorem dX1_account_125 : decode cX1_account 125 = .ok (.getfield 44, 3) := dk_180 0 44 (dk_at dksX1_account_4 0 rfl rfl)
theorem dX1_account_128 : decode cX1_account 128 = .ok (.getfield 151, 3) := dk_180 0 151 (dk_at dksX1_account_4 3 rfl rfl)
theorem dX1_account_131 : decode cX1_account 131 = .ok (.getfield 349, 3) := dk_180 1 93 (dk_at dksX1_account_4 6 rfl rfl)
theorem dX1_account_134 : decode cX1_account 134 = .ok (.ireturn, 1) := dk_172 (dk_at dksX1_account_4 9 rfl rfl)
theorem dX1_account_135 : decode cX1_account 135 = .ok (.aload_n 0, 1) := dk_42 (dk_at dksX1_account_4 10 rfl rfl)
theorem dX1_account_136 : decode cX1_account 136 = .ok (.getfield 44, 3) := dk_180 0 44 (dk_at dksX1_account_4 11 rfl rfl)
theorem dX1_account_139 : decode cX1_account 139 = .ok (.getfield 135, 3) := dk_180 0 135 (dk_at dksX1_account_4 14 rfl rfl)
theorem dX1_account_142 : decode cX1_account 142 = .ok (.invokeinterface 139 1, 5) := by decide +kernel
theorem dX1_account_147 : decode cX1_account 147 = .ok (.ireturn, 1) := dk_172 (dk_at dksX1_account_4 22 rfl rfl)
theorem dX1_account_148 : decode cX1_account 148 = .ok (.aload_n 0, 1) := dk_42 (dk_at dksX1_account_4 23 rfl rfl)
theorem dX1_account_149 : decode cX1_account 149 = .ok (.getfield 44, 3) := dk_180 0 44 (dk_at dksX1_account_5 0 rfl rfl)
theorem dX1_account_152 : decode cX1_account 152 = .ok (.getfield 352, 3) := dk_180 1 96 (dk_at dksX1_account_5 3 rfl rfl)
theorem dX1_account_155 : decode cX1_account 155 = .ok (.ireturn, 1) := dk_172 (dk_at dksX1_account_5 6 rfl rfl)
theorem dX1_account_156 : decode cX1_account 156 = .ok (.aload_n 0, 1) := dk_42 (dk_at dksX1_account_5 7 rfl rfl)
theorem dX1_account_157 : decode cX1_account 157 = .ok (.getfield 44, 3) := dk_180 0 44 (dk_at dksX1_account_5 8 rfl rfl)
theorem dX1_account_160 : decode cX1_account 160 = .ok (.getfield 355, 3) := dk_180 1 99 (dk_at dksX1_account_5 11 rfl rfl)
theorem dX1_account_163 : decode cX1_account 163 = .ok (.ireturn, 1) := dk_172 (dk_at dksX1_account_5 14 rfl rfl)
theorem dX1_account_164 : decode cX1_account 164 = .ok (.aload_n 0, 1) := dk_42 (dk_at dksX1_account_5 15 rfl rfl)
theorem dX1_account_165 : decode cX1_account 165 = .ok (.getfield 44, 3) := dk_180 0 44 (dk_at dksX1_account_5 16 rfl rfl)
theorem dX1_account_168 : decode cX1_account 168 = .ok (.getfield 356, 3) := dk_180 1 100 (dk_at dksX1_account_5 19 rfl rfl)
theorem dX1_account_171 : decode cX1_account 171 = .ok (.ireturn, 1) := dk_172 (dk_at dksX1_account_5 22 rfl rfl)
theorem dX1_account_172 : decode cX1_account 172 = .ok (.aload_n 0, 1) := dk_42 (dk_at dksX1_account_5 23 rfl rfl)
theorem dX1_account_173 : decode cX1_account 173 = .ok (.getfield 44, 3) := dk_180 0 44 (dk_at dksX1_account_6 0 rfl rfl)
theorem dX1_account_176 : decode cX1_account 176 = .ok (.getfield 359, 3) := dk_180 1 103 (dk_at dksX1_account_6 3 rfl rfl)
theorem dX1_account_179 : decode cX1_account 179 = .ok (.ireturn, 1) := dk_172 (dk_at dksX1_account_6 6 rfl rfl)
theorem dX1_account_180 : decode cX1_account 180 = .ok (.aload_n 0, 1) := dk_42 (dk_at dksX1_account_6 7 rfl rfl)
theorem dX1_account_181 : decode cX1_account 181 = .ok (.getfield 44, 3) := dk_180 0 44 (dk_at dksX1_account_6 8 rfl rfl)
theorem dX1_account_184 : decode cX1_account 184 = .ok (.invokevirtual 362, 3) := dk_182 1 106 (dk_at dksX1_account_6 11 rfl rfl)
theorem dX1_account_187 : decode cX1_account 187 = .ok (.ireturn, 1) := dk_172 (dk_at dksX1_account_6 14 rfl rfl)
theorem dX1_account_188 : decode cX1_account 188 = .ok (.aload_n 0, 1) := dk_42 (dk_at dksX1_account_6 15 rfl rfl)
theorem dX1_account_189 : decode cX1_account 189 = .ok (.getfield 44, 3) := dk_180 0 44 (dk_at dksX1_account_6 16 rfl rfl)
theorem dX1_account_192 : decode cX1_account 192 = .ok (.invokevirtual 365, 3) := dk_182 1 109 (dk_at dksX1_account_6 19 rfl rfl)
theorem dX1_account_195 : decode cX1_account 195 = .ok (.ireturn, 1) := dk_172 (dk_at dksX1_account_6 22 rfl rfl)
theorem dX1_account_196 : decode cX1_account 196 = .ok (.aload_n 0, 1) := dk_42 (dk_at dksX1_account_6 23 rfl rfl)
theorem dX1_account_197 : decode cX1_account 197 = .ok (.getfield 44, 3) := dk_180 0 44 (dk_at dksX1_account_7 0 rfl rfl)
theorem dX1_account_200 : decode cX1_account 200 = .ok (.invokevirtual 368, 3) := dk_182 1 112 (dk_at dksX1_account_7 3 rfl rfl)
theorem dX1_account_203 : decode cX1_account 203 = .ok (.ireturn, 1) := dk_172 (dk_at dksX1_account_7 6 rfl rfl)
theorem dX1_account_204 : decode cX1_account 204 = .ok (.aload_n 0, 1) := dk_42 (dk_at dksX1_account_7 7 rfl rfl)
theorem dX1_account_205 : decode cX1_account 205 = .ok (.getfield 44, 3) := dk_180 0 44 (dk_at dksX1_account_7 8 rfl rfl)
theorem dX1_account_208 : decode cX1_account 208 = .ok (.invokevirtual 371, 3) := dk_182 1 115 (dk_at dksX1_account_7 11 rfl rfl)
theorem dX1_account_211 : decode cX1_account 211 = .ok (.ireturn, 1) := dk_172 (dk_at dksX1_account_7 14 rfl rfl)
theorem dX1_account_212 : decode cX1_account 212 = .ok (.aload_n 0, 1) := dk_42 (dk_at dksX1_account_7 15 rfl rfl)
theorem dX1_account_213 : decode cX1_account 213 = .ok (.getfield 58, 3) := dk_180 0 58 (dk_at dksX1_account_7 16 rfl rfl)
theorem dX1_account_216 : decode cX1_account 216 = .ok (.invokevirtual 275, 3) := dk_182 1 19 (dk_at dksX1_account_7 19 rfl rfl)
theorem dX1_account_219 : decode cX1_account 219 = .ok (.ireturn, 1) := dk_172 (dk_at dksX1_account_7 22 rfl rfl)
theorem dX1_account_220 : decode cX1_account 220 = .ok (.aload_n 0, 1) := dk_42 (dk_at dksX1_account_7 23 rfl rfl)
theorem dX1_account_221 : decode cX1_account 221 = .ok (.getfield 51, 3) := dk_180 0 51 (dk_at dksX1_account_8 0 rfl rfl)
theorem dX1_account_224 : decode cX1_account 224 = .ok (.invokeinterface 72 1, 5) := by decide +kernel
theorem dX1_account_229 : decode cX1_account 229 = .ok (.ireturn, 1) := dk_172 (dk_at dksX1_account_8 8 rfl rfl)
theorem dX1_account_230 : decode cX1_account 230 = .ok (.new 7, 3) := dk_187 0 7 (dk_at dksX1_account_8 9 rfl rfl)
theorem dX1_account_233 : decode cX1_account 233 = .ok (.dup, 1) := dk_89 (dk_at dksX1_account_8 12 rfl rfl)
theorem dX1_account_234 : decode cX1_account 234 = .ok (.invokespecial 9, 3) := dk_183 0 9 (dk_at dksX1_account_8 13 rfl rfl)
theorem dX1_account_237 : decode cX1_account 237 = .ok (.athrow, 1) := dk_191 (dk_at dksX1_account_8 16 rfl rfl)
abbrev cX1_undo : ByteArray := prog_1_method_53_code
def yX1_undo : MethodName := ⟨RX1, "undo", "()I"⟩
def dkwX1_undo_1 : List UInt8 := [180, 0, 51, 185, 1, 125, 1, 0, 192, 0, 41, 181, 0, 44, 42, 180, 0, 51, 185, 0, 72, 1, 0, 172]
abbrev dktX1_undo_1 : List UInt8 := dkwX1_undo_1 ++ []
def dkwX1_undo_0 : List UInt8 := [42, 180, 0, 51, 185, 1, 122, 1, 0, 154, 0, 7, 4, 167, 0, 4, 3, 184, 1, 22, 42, 42]
abbrev dktX1_undo_0 : List UInt8 := dkwX1_undo_0 ++ dktX1_undo_1
theorem dksX1_undo_0 : cX1_undo.data.toList.drop 0 = dktX1_undo_0 := by decide +kernel
theorem dksX1_undo_1 : cX1_undo.data.toList.drop 22 = dktX1_undo_1 := dk_seg dksX1_undo_0 22 rfl rfl
theorem dX1_undo_0 : decode cX1_undo 0 = .ok (.aload_n 0, 1) := dk_42 (dk_at dksX1_undo_0 0 rfl rfl)
theorem dX1_undo_1 : decode cX1_undo 1 = .ok (.getfield 51, 3) := dk_180 0 51 (dk_at dksX1_undo_0 1 rfl rfl)
theorem dX1_undo_4 : decode cX1_undo 4 = .ok (.invokeinterface 378 1, 5) := by decide +kernel
theorem dX1_undo_9 : decode cX1_undo 9 = .ok (.ifCond .ne 7, 3) := dk_154 0 7 (dk_at dksX1_undo_0 9 rfl rfl)
theorem dX1_undo_12 : decode cX1_undo 12 = .ok (.iconst 1, 1) := dk_4 (dk_at dksX1_undo_0 12 rfl rfl)
theorem dX1_undo_13 : decode cX1_undo 13 = .ok (.goto 4, 3) := dk_167 0 4 (dk_at dksX1_undo_0 13 rfl rfl)
theorem dX1_undo_16 : decode cX1_undo 16 = .ok (.iconst 0, 1) := dk_3 (dk_at dksX1_undo_0 16 rfl rfl)
theorem dX1_undo_17 : decode cX1_undo 17 = .ok (.invokestatic 278, 3) := dk_184 1 22 (dk_at dksX1_undo_0 17 rfl rfl)
theorem dX1_undo_20 : decode cX1_undo 20 = .ok (.aload_n 0, 1) := dk_42 (dk_at dksX1_undo_0 20 rfl rfl)
theorem dX1_undo_21 : decode cX1_undo 21 = .ok (.aload_n 0, 1) := dk_42 (dk_at dksX1_undo_0 21 rfl rfl)
theorem dX1_undo_22 : decode cX1_undo 22 = .ok (.getfield 51, 3) := dk_180 0 51 (dk_at dksX1_undo_1 0 rfl rfl)
theorem dX1_undo_25 : decode cX1_undo 25 = .ok (.invokeinterface 381 1, 5) := by decide +kernel
theorem dX1_undo_30 : decode cX1_undo 30 = .ok (.checkcast 41, 3) := dk_192 0 41 (dk_at dksX1_undo_1 8 rfl rfl)
theorem dX1_undo_33 : decode cX1_undo 33 = .ok (.putfield 44, 3) := dk_181 0 44 (dk_at dksX1_undo_1 11 rfl rfl)
theorem dX1_undo_36 : decode cX1_undo 36 = .ok (.aload_n 0, 1) := dk_42 (dk_at dksX1_undo_1 14 rfl rfl)
theorem dX1_undo_37 : decode cX1_undo 37 = .ok (.getfield 51, 3) := dk_180 0 51 (dk_at dksX1_undo_1 15 rfl rfl)
theorem dX1_undo_40 : decode cX1_undo 40 = .ok (.invokeinterface 72 1, 5) := by decide +kernel
theorem dX1_undo_45 : decode cX1_undo 45 = .ok (.ireturn, 1) := dk_172 (dk_at dksX1_undo_1 23 rfl rfl)
abbrev cX1_restore : ByteArray := prog_1_method_55_code
def yX1_restore : MethodName := ⟨RX1, "restore", "()I"⟩
def dkwX1_restore_1 : List UInt8 := [180, 0, 51, 185, 1, 131, 1, 0, 42, 180, 0, 44, 180, 1, 86, 172]
abbrev dktX1_restore_1 : List UInt8 := dkwX1_restore_1 ++ []
def dkwX1_restore_0 : List UInt8 := [42, 180, 1, 128, 198, 0, 7, 4, 167, 0, 4, 3, 184, 1, 22, 42, 42, 180, 1, 128, 181, 0, 44, 42]
abbrev dktX1_restore_0 : List UInt8 := dkwX1_restore_0 ++ dktX1_restore_1
theorem dksX1_restore_0 : cX1_restore.data.toList.drop 0 = dktX1_restore_0 := by decide +kernel
theorem dksX1_restore_1 : cX1_restore.data.toList.drop 24 = dktX1_restore_1 := dk_seg dksX1_restore_0 24 rfl rfl
theorem dX1_restore_0 : decode cX1_restore 0 = .ok (.aload_n 0, 1) := dk_42 (dk_at dksX1_restore_0 0 rfl rfl)
theorem dX1_restore_1 : decode cX1_restore 1 = .ok (.getfield 384, 3) := dk_180 1 128 (dk_at dksX1_restore_0 1 rfl rfl)
theorem dX1_restore_4 : decode cX1_restore 4 = .ok (.ifnull 7, 3) := dk_198 0 7 (dk_at dksX1_restore_0 4 rfl rfl)
theorem dX1_restore_7 : decode cX1_restore 7 = .ok (.iconst 1, 1) := dk_4 (dk_at dksX1_restore_0 7 rfl rfl)
theorem dX1_restore_8 : decode cX1_restore 8 = .ok (.goto 4, 3) := dk_167 0 4 (dk_at dksX1_restore_0 8 rfl rfl)
theorem dX1_restore_11 : decode cX1_restore 11 = .ok (.iconst 0, 1) := dk_3 (dk_at dksX1_restore_0 11 rfl rfl)
theorem dX1_restore_12 : decode cX1_restore 12 = .ok (.invokestatic 278, 3) := dk_184 1 22 (dk_at dksX1_restore_0 12 rfl rfl)
theorem dX1_restore_15 : decode cX1_restore 15 = .ok (.aload_n 0, 1) := dk_42 (dk_at dksX1_restore_0 15 rfl rfl)
theorem dX1_restore_16 : decode cX1_restore 16 = .ok (.aload_n 0, 1) := dk_42 (dk_at dksX1_restore_0 16 rfl rfl)
theorem dX1_restore_17 : decode cX1_restore 17 = .ok (.getfield 384, 3) := dk_180 1 128 (dk_at dksX1_restore_0 17 rfl rfl)
theorem dX1_restore_20 : decode cX1_restore 20 = .ok (.putfield 44, 3) := dk_181 0 44 (dk_at dksX1_restore_0 20 rfl rfl)
theorem dX1_restore_23 : decode cX1_restore 23 = .ok (.aload_n 0, 1) := dk_42 (dk_at dksX1_restore_0 23 rfl rfl)
theorem dX1_restore_24 : decode cX1_restore 24 = .ok (.getfield 51, 3) := dk_180 0 51 (dk_at dksX1_restore_1 0 rfl rfl)
theorem dX1_restore_27 : decode cX1_restore 27 = .ok (.invokeinterface 387 1, 5) := by decide +kernel
theorem dX1_restore_32 : decode cX1_restore 32 = .ok (.aload_n 0, 1) := dk_42 (dk_at dksX1_restore_1 8 rfl rfl)
theorem dX1_restore_33 : decode cX1_restore 33 = .ok (.getfield 44, 3) := dk_180 0 44 (dk_at dksX1_restore_1 9 rfl rfl)
theorem dX1_restore_36 : decode cX1_restore 36 = .ok (.getfield 342, 3) := dk_180 1 86 (dk_at dksX1_restore_1 12 rfl rfl)
theorem dX1_restore_39 : decode cX1_restore 39 = .ok (.ireturn, 1) := dk_172 (dk_at dksX1_restore_1 15 rfl rfl)
theorem q91 : (Jvm.Cond.initialized "CoinTaxes") ∈ lw_all := lw_g (lw_at lw_m1 1 rfl) rfl
theorem q142 : (Jvm.Cond.instantiable "CoinTaxes" (7 : Nat)) ∈ lw_all := lw_g (lw_at lw_m1 52 rfl) rfl
theorem q144 : (Jvm.Cond.instanceMethod ({ cls := "CoinTaxes", name := "<init>", desc := "()V" } : Jvm.MethodName)) ∈ lw_all := lw_g (lw_at lw_m1 54 rfl) rfl
theorem q145 : (Jvm.Cond.code ({ cls := "CoinTaxes", name := "<init>", desc := "()V" } : Jvm.MethodName) prog_1_method_12_code (1 : Nat) (Option.none : Option Jvm.ClassFile.FieldType)) ∈ lw_all := lw_g (lw_at lw_m1 55 rfl) rfl
theorem q146 : (Jvm.Cond.methodLink "CoinTaxes" (38 : Nat) ({ cls := "java/lang/Object", name := "<init>", desc := "()V" } : Jvm.MethodName)) ∈ lw_all := lw_g (lw_at lw_m1 56 rfl) rfl
theorem q149 : (Jvm.Cond.classLink "CoinTaxes" (41 : Nat) "CoinTaxes$Office") ∈ lw_all := lw_g (lw_at lw_m1 59 rfl) rfl
theorem q151 : (Jvm.Cond.methodLink "CoinTaxes" (43 : Nat) ({ cls := "CoinTaxes$Office", name := "<init>", desc := "()V" } : Jvm.MethodName)) ∈ lw_all := lw_g (lw_at lw_m1 61 rfl) rfl
theorem q224 : (Jvm.Cond.fieldLinkNest "CoinTaxes" (170 : Nat) "CoinTaxes$Bracket" "edge" "I" "CoinTaxes") ∈ lw_tbl := lw_at lw_m1 134 rfl
theorem q228 : (Jvm.Cond.fieldLinkNest "CoinTaxes" (173 : Nat) "CoinTaxes$Bracket" "rate" "I" "CoinTaxes") ∈ lw_tbl := lw_at lw_m1 138 rfl
theorem q266 : (Jvm.Cond.fieldLinkNest "CoinTaxes" (155 : Nat) "CoinTaxes$Law" "brackets" "Ljava/util/LinkedList;" "CoinTaxes") ∈ lw_tbl := lw_at lw_m1 176 rfl
theorem q272 : (Jvm.Cond.fieldLinkNest "CoinTaxes" (344 : Nat) "CoinTaxes$Law" "credit" "I" "CoinTaxes") ∈ lw_tbl := lw_at lw_m1 182 rfl
theorem q275 : (Jvm.Cond.fieldLinkNest "CoinTaxes" (346 : Nat) "CoinTaxes$Law" "from" "I" "CoinTaxes") ∈ lw_tbl := lw_at lw_m1 185 rfl
theorem q278 : (Jvm.Cond.fieldLinkNest "CoinTaxes" (349 : Nat) "CoinTaxes$Law" "slope" "I" "CoinTaxes") ∈ lw_tbl := lw_at lw_m1 188 rfl
theorem q291 : (Jvm.Cond.fieldLinkNest "CoinTaxes" (151 : Nat) "CoinTaxes$Office" "law" "LCoinTaxes$Law;" "CoinTaxes") ∈ lw_tbl := lw_at lw_m1 201 rfl
theorem q293 : (Jvm.Cond.fieldLinkNest "CoinTaxes" (135 : Nat) "CoinTaxes$Office" "citizens" "Ljava/util/List;" "CoinTaxes") ∈ lw_tbl := lw_at lw_m1 203 rfl
theorem q295 : (Jvm.Cond.fieldLinkNest "CoinTaxes" (342 : Nat) "CoinTaxes$Office" "year" "I" "CoinTaxes") ∈ lw_tbl := lw_at lw_m1 205 rfl
theorem q297 : (Jvm.Cond.fieldLinkNest "CoinTaxes" (352 : Nat) "CoinTaxes$Office" "lot" "I" "CoinTaxes") ∈ lw_tbl := lw_at lw_m1 207 rfl
theorem q299 : (Jvm.Cond.fieldLinkNest "CoinTaxes" (355 : Nat) "CoinTaxes$Office" "coins" "I" "CoinTaxes") ∈ lw_tbl := lw_at lw_m1 209 rfl
theorem q301 : (Jvm.Cond.fieldLinkNest "CoinTaxes" (356 : Nat) "CoinTaxes$Office" "earned" "I" "CoinTaxes") ∈ lw_tbl := lw_at lw_m1 211 rfl
theorem q303 : (Jvm.Cond.fieldLinkNest "CoinTaxes" (359 : Nat) "CoinTaxes$Office" "spent" "I" "CoinTaxes") ∈ lw_tbl := lw_at lw_m1 213 rfl
theorem q319 : (Jvm.Cond.classLink "CoinTaxes" (48 : Nat) "java/util/ArrayDeque") ∈ lw_all := lw_g (lw_at lw_m1 229 rfl) rfl
theorem q321 : (Jvm.Cond.methodLink "CoinTaxes" (50 : Nat) ({ cls := "java/util/ArrayDeque", name := "<init>", desc := "()V" } : Jvm.MethodName)) ∈ lw_all := lw_g (lw_at lw_m1 231 rfl) rfl
theorem q339 : (Jvm.Cond.classLink "CoinTaxes" (55 : Nat) "java/lang/StringBuilder") ∈ lw_all := lw_g (lw_at lw_m2 9 rfl) rfl
theorem q341 : (Jvm.Cond.methodLink "CoinTaxes" (57 : Nat) ({ cls := "java/lang/StringBuilder", name := "<init>", desc := "()V" } : Jvm.MethodName)) ∈ lw_all := lw_g (lw_at lw_m2 11 rfl) rfl
theorem q372 : (Jvm.Cond.stringRef "CoinTaxes" (62 : Nat) "") ∈ lw_tbl := lw_at lw_m2 42 rfl
theorem q373 : (Jvm.Cond.fieldLink "CoinTaxes" (44 : Nat) "CoinTaxes" "now" "LCoinTaxes$Office;") ∈ lw_all := lw_g (lw_at lw_m2 43 rfl) rfl
theorem q374 : (Jvm.Cond.fieldLink "CoinTaxes" (384 : Nat) "CoinTaxes" "saved" "LCoinTaxes$Office;") ∈ lw_all := lw_g (lw_at lw_m2 44 rfl) rfl
theorem q375 : (Jvm.Cond.fieldLink "CoinTaxes" (51 : Nat) "CoinTaxes" "earlier" "Ljava/util/Deque;") ∈ lw_all := lw_g (lw_at lw_m2 45 rfl) rfl
theorem q376 : (Jvm.Cond.fieldLink "CoinTaxes" (58 : Nat) "CoinTaxes" "tape" "Ljava/lang/StringBuilder;") ∈ lw_all := lw_g (lw_at lw_m2 46 rfl) rfl
theorem q377 : (Jvm.Cond.fieldLink "CoinTaxes" (64 : Nat) "CoinTaxes" "line" "Ljava/lang/String;") ∈ lw_all := lw_g (lw_at lw_m2 47 rfl) rfl
theorem q378 : (Jvm.Cond.fieldLink "CoinTaxes" (68 : Nat) "CoinTaxes" "faultPosition" "I") ∈ lw_all := lw_g (lw_at lw_m2 48 rfl) rfl
theorem q379 : (Jvm.Cond.fieldLink "CoinTaxes" (98 : Nat) "CoinTaxes" "latest" "LCoinTaxes$Refused;") ∈ lw_all := lw_g (lw_at lw_m2 49 rfl) rfl
theorem q380 : (Jvm.Cond.lays "CoinTaxes" "CoinTaxes" "now" "LCoinTaxes$Office;") ∈ lw_all := lw_g (lw_at lw_m2 50 rfl) rfl
theorem q381 : (Jvm.Cond.soleField "CoinTaxes" "now") ∈ lw_all := lw_g (lw_at lw_m2 51 rfl) rfl
theorem q382 : (Jvm.Cond.lays "CoinTaxes" "CoinTaxes" "saved" "LCoinTaxes$Office;") ∈ lw_all := lw_g (lw_at lw_m2 52 rfl) rfl
theorem q383 : (Jvm.Cond.soleField "CoinTaxes" "saved") ∈ lw_all := lw_g (lw_at lw_m2 53 rfl) rfl
theorem q384 : (Jvm.Cond.laysFinal "CoinTaxes" "CoinTaxes" "earlier" "Ljava/util/Deque;") ∈ lw_all := lw_g (lw_at lw_m2 54 rfl) rfl
theorem q385 : (Jvm.Cond.soleField "CoinTaxes" "earlier") ∈ lw_all := lw_g (lw_at lw_m2 55 rfl) rfl
theorem q386 : (Jvm.Cond.laysFinal "CoinTaxes" "CoinTaxes" "tape" "Ljava/lang/StringBuilder;") ∈ lw_all := lw_g (lw_at lw_m2 56 rfl) rfl
theorem q387 : (Jvm.Cond.soleField "CoinTaxes" "tape") ∈ lw_all := lw_g (lw_at lw_m2 57 rfl) rfl
theorem q388 : (Jvm.Cond.lays "CoinTaxes" "CoinTaxes" "line" "Ljava/lang/String;") ∈ lw_all := lw_g (lw_at lw_m2 58 rfl) rfl
theorem q389 : (Jvm.Cond.soleField "CoinTaxes" "line") ∈ lw_all := lw_g (lw_at lw_m2 59 rfl) rfl
theorem q390 : (Jvm.Cond.lays "CoinTaxes" "CoinTaxes" "faultPosition" "I") ∈ lw_all := lw_g (lw_at lw_m2 60 rfl) rfl
theorem q391 : (Jvm.Cond.soleField "CoinTaxes" "faultPosition") ∈ lw_all := lw_g (lw_at lw_m2 61 rfl) rfl
theorem q392 : (Jvm.Cond.lays "CoinTaxes" "CoinTaxes" "latest" "LCoinTaxes$Refused;") ∈ lw_all := lw_g (lw_at lw_m2 62 rfl) rfl
theorem q393 : (Jvm.Cond.soleField "CoinTaxes" "latest") ∈ lw_all := lw_g (lw_at lw_m2 63 rfl) rfl
theorem q394 : (Jvm.Cond.superclass "CoinTaxes" "java/lang/Object") ∈ lw_all := lw_g (lw_at lw_m2 64 rfl) rfl
theorem q396 : (Jvm.Cond.instanceMethod ({ cls := "CoinTaxes", name := "endYear", desc := "()I" } : Jvm.MethodName)) ∈ lw_all := lw_g (lw_at lw_m2 66 rfl) rfl
theorem q397 : (Jvm.Cond.selects "CoinTaxes" ({ cls := "CoinTaxes", name := "endYear", desc := "()I" } : Jvm.MethodName) ({ cls := "CoinTaxes", name := "endYear", desc := "()I" } : Jvm.MethodName)) ∈ lw_all := lw_g (lw_at lw_m2 67 rfl) rfl
theorem q398 : (Jvm.Cond.code ({ cls := "CoinTaxes", name := "endYear", desc := "()I" } : Jvm.MethodName) prog_1_method_24_code (1 : Nat) (Option.some Jvm.ClassFile.FieldType.int)) ∈ lw_all := lw_g (lw_at lw_m2 68 rfl) rfl
theorem q399 : (Jvm.Cond.classLink "CoinTaxes" (90 : Nat) "CoinTaxes$Order") ∈ lw_all := lw_g (lw_at lw_m2 69 rfl) rfl
theorem q401 : (Jvm.Cond.stringRef "CoinTaxes" (133 : Nat) "year") ∈ lw_tbl := lw_at lw_m2 71 rfl
theorem q402 : (Jvm.Cond.methodLink "CoinTaxes" (107 : Nat) ({ cls := "CoinTaxes$Order", name := "<init>", desc := "(Ljava/lang/String;III)V" } : Jvm.MethodName)) ∈ lw_all := lw_g (lw_at lw_m2 72 rfl) rfl
theorem q425 : (Jvm.Cond.methodLink "CoinTaxes" (110 : Nat) ({ cls := "CoinTaxes", name := "done", desc := "(LCoinTaxes$Order;)I" } : Jvm.MethodName)) ∈ lw_all := lw_g (lw_at lw_m2 95 rfl) rfl
theorem q426 : (Jvm.Cond.privateMethod ({ cls := "CoinTaxes", name := "done", desc := "(LCoinTaxes$Order;)I" } : Jvm.MethodName)) ∈ lw_tbl := lw_at lw_m2 96 rfl
theorem q427 : (Jvm.Cond.instanceMethod ({ cls := "CoinTaxes", name := "done", desc := "(LCoinTaxes$Order;)I" } : Jvm.MethodName)) ∈ lw_all := lw_g (lw_at lw_m2 97 rfl) rfl
theorem q428 : (Jvm.Cond.codeWith ({ cls := "CoinTaxes", name := "done", desc := "(LCoinTaxes$Order;)I" } : Jvm.MethodName) prog_1_method_14_code (4 : Nat) (Option.some Jvm.ClassFile.FieldType.int) [((12 : Nat), (24 : Nat), (25 : Nat), (25 : Nat))]) ∈ lw_all := lw_g (lw_at lw_m2 98 rfl) rfl
theorem q429 : (Jvm.Cond.classLink "CoinTaxes" (25 : Nat) "CoinTaxes$Refused") ∈ lw_all := lw_g (lw_at lw_m2 99 rfl) rfl
theorem q430 : (Jvm.Cond.methodLink "CoinTaxes" (86 : Nat) ({ cls := "CoinTaxes$Office", name := "<init>", desc := "(LCoinTaxes$Office;)V" } : Jvm.MethodName)) ∈ lw_all := lw_g (lw_at lw_m2 100 rfl) rfl
theorem q965 : (Jvm.Cond.selects "CoinTaxes" ({ cls := "java/lang/Object", name := "getClass", desc := "()Ljava/lang/Class;" } : Jvm.MethodName) ({ cls := "java/lang/Object", name := "getClass", desc := "()Ljava/lang/Class;" } : Jvm.MethodName)) ∈ lw_all := lw_g (lw_at lw_m4 155 rfl) rfl
theorem q1152 : (Jvm.Cond.fieldLinkNest "CoinTaxes" (217 : Nat) "CoinTaxes$Citizen" "proved" "[I" "CoinTaxes") ∈ lw_tbl := lw_at lw_m5 102 rfl
theorem q1155 : (Jvm.Cond.fieldLinkNest "CoinTaxes" (221 : Nat) "CoinTaxes$Citizen" "bare" "[I" "CoinTaxes") ∈ lw_tbl := lw_at lw_m5 105 rfl
theorem q1157 : (Jvm.Cond.fieldLinkNest "CoinTaxes" (224 : Nat) "CoinTaxes$Citizen" "carried" "Ljava/util/Deque;" "CoinTaxes") ∈ lw_tbl := lw_at lw_m5 107 rfl
theorem q1160 : (Jvm.Cond.fieldLinkNest "CoinTaxes" (183 : Nat) "CoinTaxes$Citizen" "income" "I" "CoinTaxes") ∈ lw_tbl := lw_at lw_m5 110 rfl
theorem q1163 : (Jvm.Cond.fieldLinkNest "CoinTaxes" (186 : Nat) "CoinTaxes$Citizen" "coins" "I" "CoinTaxes") ∈ lw_tbl := lw_at lw_m5 113 rfl
theorem q1166 : (Jvm.Cond.fieldLinkNest "CoinTaxes" (189 : Nat) "CoinTaxes$Citizen" "debt" "I" "CoinTaxes") ∈ lw_tbl := lw_at lw_m5 116 rfl
theorem q1169 : (Jvm.Cond.fieldLinkNest "CoinTaxes" (202 : Nat) "CoinTaxes$Citizen" "taxes" "I" "CoinTaxes") ∈ lw_tbl := lw_at lw_m5 119 rfl
theorem q1172 : (Jvm.Cond.fieldLinkNest "CoinTaxes" (205 : Nat) "CoinTaxes$Citizen" "fines" "I" "CoinTaxes") ∈ lw_tbl := lw_at lw_m5 122 rfl
theorem q1174 : (Jvm.Cond.fieldLinkNest "CoinTaxes" (208 : Nat) "CoinTaxes$Citizen" "audits" "Ljava/util/BitSet;" "CoinTaxes") ∈ lw_tbl := lw_at lw_m5 124 rfl
theorem q1247 : (Jvm.Cond.fieldLinkNest "CoinTaxes" (234 : Nat) "CoinTaxes$Carried" "coins" "I" "CoinTaxes") ∈ lw_tbl := lw_at lw_m5 197 rfl
theorem q1250 : (Jvm.Cond.fieldLinkNest "CoinTaxes" (235 : Nat) "CoinTaxes$Carried" "years" "I" "CoinTaxes") ∈ lw_tbl := lw_at lw_m5 200 rfl
theorem q1360 : (Jvm.Cond.methodLink "CoinTaxes" (89 : Nat) ({ cls := "CoinTaxes$Order", name := "does", desc := "(LCoinTaxes$Office;)I" } : Jvm.MethodName)) ∈ lw_all := lw_g (lw_at lw_m6 70 rfl) rfl
theorem q1447 : (Jvm.Cond.static ({ cls := "CoinTaxes", name := "checkRange", desc := "(III)V" } : Jvm.MethodName)) ∈ lw_all := lw_g (lw_at lw_m6 157 rfl) rfl
theorem q1448 : (Jvm.Cond.code ({ cls := "CoinTaxes", name := "checkRange", desc := "(III)V" } : Jvm.MethodName) prog_1_method_10_code (3 : Nat) (Option.none : Option Jvm.ClassFile.FieldType)) ∈ lw_all := lw_g (lw_at lw_m6 158 rfl) rfl
theorem q1449 : (Jvm.Cond.methodLink "CoinTaxes" (30 : Nat) ({ cls := "CoinTaxes", name := "isBetween", desc := "(III)Z" } : Jvm.MethodName)) ∈ lw_all := lw_g (lw_at lw_m6 159 rfl) rfl
theorem q1450 : (Jvm.Cond.static ({ cls := "CoinTaxes", name := "isBetween", desc := "(III)Z" } : Jvm.MethodName)) ∈ lw_all := lw_g (lw_at lw_m6 160 rfl) rfl
theorem q1451 : (Jvm.Cond.code ({ cls := "CoinTaxes", name := "isBetween", desc := "(III)Z" } : Jvm.MethodName) prog_1_method_1_code (3 : Nat) (Option.some Jvm.ClassFile.FieldType.boolean)) ∈ lw_all := lw_g (lw_at lw_m6 161 rfl) rfl
theorem q1452 : (Jvm.Cond.methodLink "CoinTaxes" (34 : Nat) ({ cls := "CoinTaxes", name := "check", desc := "(ZII)V" } : Jvm.MethodName)) ∈ lw_all := lw_g (lw_at lw_m6 162 rfl) rfl
theorem q1453 : (Jvm.Cond.static ({ cls := "CoinTaxes", name := "check", desc := "(ZII)V" } : Jvm.MethodName)) ∈ lw_all := lw_g (lw_at lw_m6 163 rfl) rfl
theorem q1454 : (Jvm.Cond.code ({ cls := "CoinTaxes", name := "check", desc := "(ZII)V" } : Jvm.MethodName) prog_1_method_8_code (3 : Nat) (Option.none : Option Jvm.ClassFile.FieldType)) ∈ lw_all := lw_g (lw_at lw_m6 164 rfl) rfl
theorem q1463 : (Jvm.Cond.methodLink "CoinTaxes" (27 : Nat) ({ cls := "CoinTaxes$Refused", name := "<init>", desc := "(II)V" } : Jvm.MethodName)) ∈ lw_all := lw_g (lw_at lw_m6 173 rfl) rfl
theorem q1471 : (Jvm.Cond.fieldLinkNest "CoinTaxes" (319 : Nat) "CoinTaxes$Refused" "reason" "I" "CoinTaxes") ∈ lw_tbl := lw_at lw_m6 181 rfl
theorem q1473 : (Jvm.Cond.fieldLinkNest "CoinTaxes" (316 : Nat) "CoinTaxes$Refused" "detail" "I" "CoinTaxes") ∈ lw_tbl := lw_at lw_m6 183 rfl
theorem q1475 : (Jvm.Cond.fieldLinkNest "CoinTaxes" (313 : Nat) "CoinTaxes$Refused" "behind" "LCoinTaxes$Refused;" "CoinTaxes") ∈ lw_tbl := lw_at lw_m6 185 rfl
theorem q1511 : (Jvm.Cond.static ({ cls := "CoinTaxes", name := "checkThere", desc := "(II)V" } : Jvm.MethodName)) ∈ lw_all := lw_g (lw_at lw_m6 221 rfl) rfl
theorem q1512 : (Jvm.Cond.code ({ cls := "CoinTaxes", name := "checkThere", desc := "(II)V" } : Jvm.MethodName) prog_1_method_9_code (2 : Nat) (Option.none : Option Jvm.ClassFile.FieldType)) ∈ lw_all := lw_g (lw_at lw_m6 222 rfl) rfl
theorem q1595 : (Jvm.Cond.static ({ cls := "CoinTaxes", name := "nextLot", desc := "(I)I" } : Jvm.MethodName)) ∈ lw_all := lw_g (lw_at lw_m7 65 rfl) rfl
theorem q1596 : (Jvm.Cond.code ({ cls := "CoinTaxes", name := "nextLot", desc := "(I)I" } : Jvm.MethodName) prog_1_method_11_code (1 : Nat) (Option.some Jvm.ClassFile.FieldType.int)) ∈ lw_all := lw_g (lw_at lw_m7 66 rfl) rfl
theorem q1744 : (Jvm.Cond.methodLink "CoinTaxes" (95 : Nat) ({ cls := "CoinTaxes", name := "remember", desc := "(LCoinTaxes$Office;)V" } : Jvm.MethodName)) ∈ lw_all := lw_g (lw_at lw_m7 214 rfl) rfl
theorem q1745 : (Jvm.Cond.privateMethod ({ cls := "CoinTaxes", name := "remember", desc := "(LCoinTaxes$Office;)V" } : Jvm.MethodName)) ∈ lw_tbl := lw_at lw_m7 215 rfl
theorem q1746 : (Jvm.Cond.instanceMethod ({ cls := "CoinTaxes", name := "remember", desc := "(LCoinTaxes$Office;)V" } : Jvm.MethodName)) ∈ lw_all := lw_g (lw_at lw_m7 216 rfl) rfl
theorem q1747 : (Jvm.Cond.code ({ cls := "CoinTaxes", name := "remember", desc := "(LCoinTaxes$Office;)V" } : Jvm.MethodName) prog_1_method_13_code (2 : Nat) (Option.none : Option Jvm.ClassFile.FieldType)) ∈ lw_all := lw_g (lw_at lw_m7 217 rfl) rfl
theorem q1748 : (Jvm.Cond.interfaceEntry "CoinTaxes" (72 : Nat)) ∈ lw_tbl := lw_at lw_m7 218 rfl
theorem q1749 : (Jvm.Cond.methodLink "CoinTaxes" (72 : Nat) ({ cls := "java/util/Deque", name := "size", desc := "()I" } : Jvm.MethodName)) ∈ lw_all := lw_g (lw_at lw_m7 219 rfl) rfl
theorem q1756 : (Jvm.Cond.interfaceEntry "CoinTaxes" (78 : Nat)) ∈ lw_tbl := lw_at lw_m7 226 rfl
theorem q1757 : (Jvm.Cond.methodLink "CoinTaxes" (78 : Nat) ({ cls := "java/util/Deque", name := "removeFirst", desc := "()Ljava/lang/Object;" } : Jvm.MethodName)) ∈ lw_all := lw_g (lw_at lw_m7 227 rfl) rfl
theorem q1758 : (Jvm.Cond.interfaceEntry "CoinTaxes" (82 : Nat)) ∈ lw_tbl := lw_at lw_m7 228 rfl
theorem q1759 : (Jvm.Cond.methodLink "CoinTaxes" (82 : Nat) ({ cls := "java/util/Deque", name := "addLast", desc := "(Ljava/lang/Object;)V" } : Jvm.MethodName)) ∈ lw_all := lw_g (lw_at lw_m7 229 rfl) rfl
theorem q1760 : (Jvm.Cond.classLink "CoinTaxes" (102 : Nat) "java/lang/UnsupportedOperationException") ∈ lw_all := lw_g (lw_at lw_m7 230 rfl) rfl
theorem q1769 : (Jvm.Cond.methodLink "CoinTaxes" (104 : Nat) ({ cls := "java/lang/UnsupportedOperationException", name := "<init>", desc := "()V" } : Jvm.MethodName)) ∈ lw_all := lw_g (lw_at lw_m7 239 rfl) rfl
theorem q1776 : (Jvm.Cond.instanceMethod ({ cls := "CoinTaxes", name := "bracketLine", desc := "()I" } : Jvm.MethodName)) ∈ lw_all := lw_g (lw_at lw_m8 6 rfl) rfl
theorem q1777 : (Jvm.Cond.selects "CoinTaxes" ({ cls := "CoinTaxes", name := "bracketLine", desc := "()I" } : Jvm.MethodName) ({ cls := "CoinTaxes", name := "bracketLine", desc := "()I" } : Jvm.MethodName)) ∈ lw_all := lw_g (lw_at lw_m8 7 rfl) rfl
theorem q1778 : (Jvm.Cond.code ({ cls := "CoinTaxes", name := "bracketLine", desc := "()I" } : Jvm.MethodName) prog_1_method_47_code (1 : Nat) (Option.some Jvm.ClassFile.FieldType.int)) ∈ lw_all := lw_g (lw_at lw_m8 8 rfl) rfl
theorem q1779 : (Jvm.Cond.methodLink "CoinTaxes" (331 : Nat) ({ cls := "CoinTaxes$Law", name := "line", desc := "()Ljava/lang/String;" } : Jvm.MethodName)) ∈ lw_all := lw_g (lw_at lw_m8 9 rfl) rfl
theorem q1811 : (Jvm.Cond.methodLink "CoinTaxes" (327 : Nat) ({ cls := "CoinTaxes", name := "writes", desc := "(Ljava/lang/String;)I" } : Jvm.MethodName)) ∈ lw_all := lw_g (lw_at lw_m8 41 rfl) rfl
theorem q1812 : (Jvm.Cond.privateMethod ({ cls := "CoinTaxes", name := "writes", desc := "(Ljava/lang/String;)I" } : Jvm.MethodName)) ∈ lw_tbl := lw_at lw_m8 42 rfl
theorem q1813 : (Jvm.Cond.instanceMethod ({ cls := "CoinTaxes", name := "writes", desc := "(Ljava/lang/String;)I" } : Jvm.MethodName)) ∈ lw_all := lw_g (lw_at lw_m8 43 rfl) rfl
theorem q1814 : (Jvm.Cond.code ({ cls := "CoinTaxes", name := "writes", desc := "(Ljava/lang/String;)I" } : Jvm.MethodName) prog_1_method_45_code (2 : Nat) (Option.some Jvm.ClassFile.FieldType.int)) ∈ lw_all := lw_g (lw_at lw_m8 44 rfl) rfl
theorem q1815 : (Jvm.Cond.methodLink "CoinTaxes" (322 : Nat) ({ cls := "java/lang/String", name := "length", desc := "()I" } : Jvm.MethodName)) ∈ lw_all := lw_g (lw_at lw_m8 45 rfl) rfl
theorem q1817 : (Jvm.Cond.instanceMethod ({ cls := "CoinTaxes", name := "isBalanced", desc := "()Z" } : Jvm.MethodName)) ∈ lw_all := lw_g (lw_at lw_m8 47 rfl) rfl
theorem q1818 : (Jvm.Cond.selects "CoinTaxes" ({ cls := "CoinTaxes", name := "isBalanced", desc := "()Z" } : Jvm.MethodName) ({ cls := "CoinTaxes", name := "isBalanced", desc := "()Z" } : Jvm.MethodName)) ∈ lw_all := lw_g (lw_at lw_m8 48 rfl) rfl
theorem q1819 : (Jvm.Cond.code ({ cls := "CoinTaxes", name := "isBalanced", desc := "()Z" } : Jvm.MethodName) prog_1_method_52_code (1 : Nat) (Option.some Jvm.ClassFile.FieldType.boolean)) ∈ lw_all := lw_g (lw_at lw_m8 49 rfl) rfl
theorem q1820 : (Jvm.Cond.methodLink "CoinTaxes" (374 : Nat) ({ cls := "CoinTaxes$Office", name := "isBalanced", desc := "()Z" } : Jvm.MethodName)) ∈ lw_all := lw_g (lw_at lw_m8 50 rfl) rfl
theorem q1850 : (Jvm.Cond.instanceMethod ({ cls := "CoinTaxes", name := "save", desc := "()I" } : Jvm.MethodName)) ∈ lw_all := lw_g (lw_at lw_m8 80 rfl) rfl
theorem q1851 : (Jvm.Cond.selects "CoinTaxes" ({ cls := "CoinTaxes", name := "save", desc := "()I" } : Jvm.MethodName) ({ cls := "CoinTaxes", name := "save", desc := "()I" } : Jvm.MethodName)) ∈ lw_all := lw_g (lw_at lw_m8 81 rfl) rfl
theorem q1852 : (Jvm.Cond.code ({ cls := "CoinTaxes", name := "save", desc := "()I" } : Jvm.MethodName) prog_1_method_54_code (1 : Nat) (Option.some Jvm.ClassFile.FieldType.int)) ∈ lw_all := lw_g (lw_at lw_m8 82 rfl) rfl
theorem q1858 : (Jvm.Cond.instanceMethod ({ cls := "CoinTaxes", name := "bracket", desc := "(II)I" } : Jvm.MethodName)) ∈ lw_all := lw_g (lw_at lw_m8 88 rfl) rfl
theorem q1859 : (Jvm.Cond.selects "CoinTaxes" ({ cls := "CoinTaxes", name := "bracket", desc := "(II)I" } : Jvm.MethodName) ({ cls := "CoinTaxes", name := "bracket", desc := "(II)I" } : Jvm.MethodName)) ∈ lw_all := lw_g (lw_at lw_m8 89 rfl) rfl
theorem q1860 : (Jvm.Cond.code ({ cls := "CoinTaxes", name := "bracket", desc := "(II)I" } : Jvm.MethodName) prog_1_method_15_code (3 : Nat) (Option.some Jvm.ClassFile.FieldType.int)) ∈ lw_all := lw_g (lw_at lw_m8 90 rfl) rfl
theorem q1861 : (Jvm.Cond.stringRef "CoinTaxes" (105 : Nat) "bracket") ∈ lw_tbl := lw_at lw_m8 91 rfl
theorem q1866 : (Jvm.Cond.instanceMethod ({ cls := "CoinTaxes", name := "drop", desc := "(I)I" } : Jvm.MethodName)) ∈ lw_all := lw_g (lw_at lw_m8 96 rfl) rfl
theorem q1867 : (Jvm.Cond.selects "CoinTaxes" ({ cls := "CoinTaxes", name := "drop", desc := "(I)I" } : Jvm.MethodName) ({ cls := "CoinTaxes", name := "drop", desc := "(I)I" } : Jvm.MethodName)) ∈ lw_all := lw_g (lw_at lw_m8 97 rfl) rfl
theorem q1868 : (Jvm.Cond.code ({ cls := "CoinTaxes", name := "drop", desc := "(I)I" } : Jvm.MethodName) prog_1_method_16_code (2 : Nat) (Option.some Jvm.ClassFile.FieldType.int)) ∈ lw_all := lw_g (lw_at lw_m8 98 rfl) rfl
theorem q1869 : (Jvm.Cond.stringRef "CoinTaxes" (114 : Nat) "drop") ∈ lw_tbl := lw_at lw_m8 99 rfl
theorem q1874 : (Jvm.Cond.instanceMethod ({ cls := "CoinTaxes", name := "rate", desc := "(II)I" } : Jvm.MethodName)) ∈ lw_all := lw_g (lw_at lw_m8 104 rfl) rfl
theorem q1875 : (Jvm.Cond.selects "CoinTaxes" ({ cls := "CoinTaxes", name := "rate", desc := "(II)I" } : Jvm.MethodName) ({ cls := "CoinTaxes", name := "rate", desc := "(II)I" } : Jvm.MethodName)) ∈ lw_all := lw_g (lw_at lw_m8 105 rfl) rfl
theorem q1876 : (Jvm.Cond.code ({ cls := "CoinTaxes", name := "rate", desc := "(II)I" } : Jvm.MethodName) prog_1_method_17_code (3 : Nat) (Option.some Jvm.ClassFile.FieldType.int)) ∈ lw_all := lw_g (lw_at lw_m8 106 rfl) rfl
theorem q1877 : (Jvm.Cond.stringRef "CoinTaxes" (116 : Nat) "rate") ∈ lw_tbl := lw_at lw_m8 107 rfl
theorem q1882 : (Jvm.Cond.instanceMethod ({ cls := "CoinTaxes", name := "credit", desc := "(III)I" } : Jvm.MethodName)) ∈ lw_all := lw_g (lw_at lw_m8 112 rfl) rfl
theorem q1883 : (Jvm.Cond.selects "CoinTaxes" ({ cls := "CoinTaxes", name := "credit", desc := "(III)I" } : Jvm.MethodName) ({ cls := "CoinTaxes", name := "credit", desc := "(III)I" } : Jvm.MethodName)) ∈ lw_all := lw_g (lw_at lw_m8 113 rfl) rfl
theorem q1884 : (Jvm.Cond.code ({ cls := "CoinTaxes", name := "credit", desc := "(III)I" } : Jvm.MethodName) prog_1_method_18_code (4 : Nat) (Option.some Jvm.ClassFile.FieldType.int)) ∈ lw_all := lw_g (lw_at lw_m8 114 rfl) rfl
theorem q1885 : (Jvm.Cond.stringRef "CoinTaxes" (118 : Nat) "credit") ∈ lw_tbl := lw_at lw_m8 115 rfl
theorem q1890 : (Jvm.Cond.instanceMethod ({ cls := "CoinTaxes", name := "cap", desc := "(II)I" } : Jvm.MethodName)) ∈ lw_all := lw_g (lw_at lw_m8 120 rfl) rfl
theorem q1891 : (Jvm.Cond.selects "CoinTaxes" ({ cls := "CoinTaxes", name := "cap", desc := "(II)I" } : Jvm.MethodName) ({ cls := "CoinTaxes", name := "cap", desc := "(II)I" } : Jvm.MethodName)) ∈ lw_all := lw_g (lw_at lw_m8 121 rfl) rfl
theorem q1892 : (Jvm.Cond.code ({ cls := "CoinTaxes", name := "cap", desc := "(II)I" } : Jvm.MethodName) prog_1_method_19_code (3 : Nat) (Option.some Jvm.ClassFile.FieldType.int)) ∈ lw_all := lw_g (lw_at lw_m8 122 rfl) rfl
theorem q1893 : (Jvm.Cond.stringRef "CoinTaxes" (120 : Nat) "cap") ∈ lw_tbl := lw_at lw_m8 123 rfl
theorem q1898 : (Jvm.Cond.instanceMethod ({ cls := "CoinTaxes", name := "citizen", desc := "()I" } : Jvm.MethodName)) ∈ lw_all := lw_g (lw_at lw_m8 128 rfl) rfl
theorem q1899 : (Jvm.Cond.selects "CoinTaxes" ({ cls := "CoinTaxes", name := "citizen", desc := "()I" } : Jvm.MethodName) ({ cls := "CoinTaxes", name := "citizen", desc := "()I" } : Jvm.MethodName)) ∈ lw_all := lw_g (lw_at lw_m8 129 rfl) rfl
theorem q1900 : (Jvm.Cond.code ({ cls := "CoinTaxes", name := "citizen", desc := "()I" } : Jvm.MethodName) prog_1_method_20_code (1 : Nat) (Option.some Jvm.ClassFile.FieldType.int)) ∈ lw_all := lw_g (lw_at lw_m8 130 rfl) rfl
theorem q1901 : (Jvm.Cond.stringRef "CoinTaxes" (122 : Nat) "citizen") ∈ lw_tbl := lw_at lw_m8 131 rfl
theorem q1906 : (Jvm.Cond.instanceMethod ({ cls := "CoinTaxes", name := "earn", desc := "(II)I" } : Jvm.MethodName)) ∈ lw_all := lw_g (lw_at lw_m8 136 rfl) rfl
theorem q1907 : (Jvm.Cond.selects "CoinTaxes" ({ cls := "CoinTaxes", name := "earn", desc := "(II)I" } : Jvm.MethodName) ({ cls := "CoinTaxes", name := "earn", desc := "(II)I" } : Jvm.MethodName)) ∈ lw_all := lw_g (lw_at lw_m8 137 rfl) rfl
theorem q1908 : (Jvm.Cond.code ({ cls := "CoinTaxes", name := "earn", desc := "(II)I" } : Jvm.MethodName) prog_1_method_21_code (3 : Nat) (Option.some Jvm.ClassFile.FieldType.int)) ∈ lw_all := lw_g (lw_at lw_m8 138 rfl) rfl
theorem q1909 : (Jvm.Cond.stringRef "CoinTaxes" (124 : Nat) "earn") ∈ lw_tbl := lw_at lw_m8 139 rfl
theorem q1914 : (Jvm.Cond.instanceMethod ({ cls := "CoinTaxes", name := "claim", desc := "(IIIZ)I" } : Jvm.MethodName)) ∈ lw_all := lw_g (lw_at lw_m8 144 rfl) rfl
theorem q1915 : (Jvm.Cond.selects "CoinTaxes" ({ cls := "CoinTaxes", name := "claim", desc := "(IIIZ)I" } : Jvm.MethodName) ({ cls := "CoinTaxes", name := "claim", desc := "(IIIZ)I" } : Jvm.MethodName)) ∈ lw_all := lw_g (lw_at lw_m8 145 rfl) rfl
theorem q1916 : (Jvm.Cond.code ({ cls := "CoinTaxes", name := "claim", desc := "(IIIZ)I" } : Jvm.MethodName) prog_1_method_22_code (5 : Nat) (Option.some Jvm.ClassFile.FieldType.int)) ∈ lw_all := lw_g (lw_at lw_m8 146 rfl) rfl
theorem q1917 : (Jvm.Cond.stringRef "CoinTaxes" (126 : Nat) "claim") ∈ lw_tbl := lw_at lw_m8 147 rfl
theorem q1918 : (Jvm.Cond.methodLink "CoinTaxes" (128 : Nat) ({ cls := "CoinTaxes$Order", name := "<init>", desc := "(Ljava/lang/String;IIIZ)V" } : Jvm.MethodName)) ∈ lw_all := lw_g (lw_at lw_m8 148 rfl) rfl
theorem q1923 : (Jvm.Cond.instanceMethod ({ cls := "CoinTaxes", name := "prove", desc := "(II)I" } : Jvm.MethodName)) ∈ lw_all := lw_g (lw_at lw_m8 153 rfl) rfl
theorem q1924 : (Jvm.Cond.selects "CoinTaxes" ({ cls := "CoinTaxes", name := "prove", desc := "(II)I" } : Jvm.MethodName) ({ cls := "CoinTaxes", name := "prove", desc := "(II)I" } : Jvm.MethodName)) ∈ lw_all := lw_g (lw_at lw_m8 154 rfl) rfl
theorem q1925 : (Jvm.Cond.code ({ cls := "CoinTaxes", name := "prove", desc := "(II)I" } : Jvm.MethodName) prog_1_method_23_code (3 : Nat) (Option.some Jvm.ClassFile.FieldType.int)) ∈ lw_all := lw_g (lw_at lw_m8 155 rfl) rfl
theorem q1926 : (Jvm.Cond.stringRef "CoinTaxes" (131 : Nat) "prove") ∈ lw_tbl := lw_at lw_m8 156 rfl
theorem q1948 : (Jvm.Cond.instanceMethod ({ cls := "CoinTaxes", name := "bracketOf", desc := "(II)I" } : Jvm.MethodName)) ∈ lw_all := lw_g (lw_at lw_m8 178 rfl) rfl
theorem q1949 : (Jvm.Cond.selects "CoinTaxes" ({ cls := "CoinTaxes", name := "bracketOf", desc := "(II)I" } : Jvm.MethodName) ({ cls := "CoinTaxes", name := "bracketOf", desc := "(II)I" } : Jvm.MethodName)) ∈ lw_all := lw_g (lw_at lw_m8 179 rfl) rfl
theorem q1950 : (Jvm.Cond.code ({ cls := "CoinTaxes", name := "bracketOf", desc := "(II)I" } : Jvm.MethodName) prog_1_method_26_code (4 : Nat) (Option.some Jvm.ClassFile.FieldType.int)) ∈ lw_all := lw_g (lw_at lw_m8 180 rfl) rfl
theorem q1951 : (Jvm.Cond.methodLink "CoinTaxes" (161 : Nat) ({ cls := "java/util/LinkedList", name := "size", desc := "()I" } : Jvm.MethodName)) ∈ lw_all := lw_g (lw_at lw_m8 181 rfl) rfl
theorem q1952 : (Jvm.Cond.methodLink "CoinTaxes" (142 : Nat) ({ cls := "CoinTaxes", name := "requireIndex", desc := "(Z)V" } : Jvm.MethodName)) ∈ lw_all := lw_g (lw_at lw_m8 182 rfl) rfl
theorem q1953 : (Jvm.Cond.static ({ cls := "CoinTaxes", name := "requireIndex", desc := "(Z)V" } : Jvm.MethodName)) ∈ lw_all := lw_g (lw_at lw_m8 183 rfl) rfl
theorem q1954 : (Jvm.Cond.code ({ cls := "CoinTaxes", name := "requireIndex", desc := "(Z)V" } : Jvm.MethodName) prog_1_method_2_code (1 : Nat) (Option.none : Option Jvm.ClassFile.FieldType)) ∈ lw_all := lw_g (lw_at lw_m8 184 rfl) rfl
theorem q1955 : (Jvm.Cond.classLink "CoinTaxes" (1 : Nat) "java/lang/IndexOutOfBoundsException") ∈ lw_all := lw_g (lw_at lw_m8 185 rfl) rfl
theorem q1956 : (Jvm.Cond.methodLink "CoinTaxes" (3 : Nat) ({ cls := "java/lang/IndexOutOfBoundsException", name := "<init>", desc := "()V" } : Jvm.MethodName)) ∈ lw_all := lw_g (lw_at lw_m8 186 rfl) rfl
theorem q1960 : (Jvm.Cond.methodLink "CoinTaxes" (164 : Nat) ({ cls := "CoinTaxes", name := "require", desc := "(Z)V" } : Jvm.MethodName)) ∈ lw_all := lw_g (lw_at lw_m8 190 rfl) rfl
theorem q1961 : (Jvm.Cond.static ({ cls := "CoinTaxes", name := "require", desc := "(Z)V" } : Jvm.MethodName)) ∈ lw_all := lw_g (lw_at lw_m8 191 rfl) rfl
theorem q1962 : (Jvm.Cond.code ({ cls := "CoinTaxes", name := "require", desc := "(Z)V" } : Jvm.MethodName) prog_1_method_3_code (1 : Nat) (Option.none : Option Jvm.ClassFile.FieldType)) ∈ lw_all := lw_g (lw_at lw_m8 192 rfl) rfl
theorem q1963 : (Jvm.Cond.classLink "CoinTaxes" (7 : Nat) "java/lang/IllegalArgumentException") ∈ lw_all := lw_g (lw_at lw_m8 193 rfl) rfl
theorem q1964 : (Jvm.Cond.methodLink "CoinTaxes" (9 : Nat) ({ cls := "java/lang/IllegalArgumentException", name := "<init>", desc := "()V" } : Jvm.MethodName)) ∈ lw_all := lw_g (lw_at lw_m8 194 rfl) rfl
theorem q1968 : (Jvm.Cond.methodLink "CoinTaxes" (167 : Nat) ({ cls := "java/util/LinkedList", name := "get", desc := "(I)Ljava/lang/Object;" } : Jvm.MethodName)) ∈ lw_all := lw_g (lw_at lw_m8 198 rfl) rfl
theorem q1969 : (Jvm.Cond.classLink "CoinTaxes" (168 : Nat) "CoinTaxes$Bracket") ∈ lw_all := lw_g (lw_at lw_m8 199 rfl) rfl
theorem q1974 : (Jvm.Cond.instanceMethod ({ cls := "CoinTaxes", name := "bracketAt", desc := "(I)I" } : Jvm.MethodName)) ∈ lw_all := lw_g (lw_at lw_m8 204 rfl) rfl
theorem q1975 : (Jvm.Cond.selects "CoinTaxes" ({ cls := "CoinTaxes", name := "bracketAt", desc := "(I)I" } : Jvm.MethodName) ({ cls := "CoinTaxes", name := "bracketAt", desc := "(I)I" } : Jvm.MethodName)) ∈ lw_all := lw_g (lw_at lw_m8 205 rfl) rfl
theorem q1976 : (Jvm.Cond.code ({ cls := "CoinTaxes", name := "bracketAt", desc := "(I)I" } : Jvm.MethodName) prog_1_method_27_code (2 : Nat) (Option.some Jvm.ClassFile.FieldType.int)) ∈ lw_all := lw_g (lw_at lw_m8 206 rfl) rfl
theorem q1977 : (Jvm.Cond.methodLink "CoinTaxes" (175 : Nat) ({ cls := "CoinTaxes$Law", name := "bracketAt", desc := "(I)I" } : Jvm.MethodName)) ∈ lw_all := lw_g (lw_at lw_m8 207 rfl) rfl
theorem q1986 : (Jvm.Cond.instanceMethod ({ cls := "CoinTaxes", name := "citizenOf", desc := "(II)I" } : Jvm.MethodName)) ∈ lw_all := lw_g (lw_at lw_m8 216 rfl) rfl
theorem q1987 : (Jvm.Cond.selects "CoinTaxes" ({ cls := "CoinTaxes", name := "citizenOf", desc := "(II)I" } : Jvm.MethodName) ({ cls := "CoinTaxes", name := "citizenOf", desc := "(II)I" } : Jvm.MethodName)) ∈ lw_all := lw_g (lw_at lw_m8 217 rfl) rfl
theorem q1988 : (Jvm.Cond.code ({ cls := "CoinTaxes", name := "citizenOf", desc := "(II)I" } : Jvm.MethodName) prog_1_method_28_code (4 : Nat) (Option.some Jvm.ClassFile.FieldType.int)) ∈ lw_all := lw_g (lw_at lw_m8 218 rfl) rfl
theorem q1989 : (Jvm.Cond.methodLink "CoinTaxes" (179 : Nat) ({ cls := "CoinTaxes", name := "requiredCitizen", desc := "(I)LCoinTaxes$Citizen;" } : Jvm.MethodName)) ∈ lw_all := lw_g (lw_at lw_m8 219 rfl) rfl
theorem q1990 : (Jvm.Cond.privateMethod ({ cls := "CoinTaxes", name := "requiredCitizen", desc := "(I)LCoinTaxes$Citizen;" } : Jvm.MethodName)) ∈ lw_tbl := lw_at lw_m8 220 rfl
theorem q1991 : (Jvm.Cond.instanceMethod ({ cls := "CoinTaxes", name := "requiredCitizen", desc := "(I)LCoinTaxes$Citizen;" } : Jvm.MethodName)) ∈ lw_all := lw_g (lw_at lw_m8 221 rfl) rfl
theorem q1992 : (Jvm.Cond.code ({ cls := "CoinTaxes", name := "requiredCitizen", desc := "(I)LCoinTaxes$Citizen;" } : Jvm.MethodName) prog_1_method_25_code (2 : Nat) (Option.some (Jvm.ClassFile.FieldType.object "CoinTaxes$Citizen"))) ∈ lw_all := lw_g (lw_at lw_m8 222 rfl) rfl
theorem q1993 : (Jvm.Cond.interfaceEntry "CoinTaxes" (139 : Nat)) ∈ lw_tbl := lw_at lw_m8 223 rfl
theorem q1994 : (Jvm.Cond.methodLink "CoinTaxes" (139 : Nat) ({ cls := "java/util/List", name := "size", desc := "()I" } : Jvm.MethodName)) ∈ lw_all := lw_g (lw_at lw_m8 224 rfl) rfl
theorem q1995 : (Jvm.Cond.interfaceEntry "CoinTaxes" (145 : Nat)) ∈ lw_tbl := lw_at lw_m8 225 rfl
theorem q1996 : (Jvm.Cond.methodLink "CoinTaxes" (145 : Nat) ({ cls := "java/util/List", name := "get", desc := "(I)Ljava/lang/Object;" } : Jvm.MethodName)) ∈ lw_all := lw_g (lw_at lw_m8 226 rfl) rfl
theorem q1997 : (Jvm.Cond.classLink "CoinTaxes" (149 : Nat) "CoinTaxes$Citizen") ∈ lw_all := lw_g (lw_at lw_m8 227 rfl) rfl
theorem q1998 : (Jvm.Cond.methodLink "CoinTaxes" (192 : Nat) ({ cls := "CoinTaxes$Citizen", name := "counts", desc := "(LCoinTaxes$Law;)I" } : Jvm.MethodName)) ∈ lw_all := lw_g (lw_at lw_m8 228 rfl) rfl
theorem q1999 : (Jvm.Cond.methodLink "CoinTaxes" (196 : Nat) ({ cls := "CoinTaxes$Citizen", name := "bareCoins", desc := "()I" } : Jvm.MethodName)) ∈ lw_all := lw_g (lw_at lw_m8 229 rfl) rfl
theorem q2000 : (Jvm.Cond.methodLink "CoinTaxes" (199 : Nat) ({ cls := "CoinTaxes$Citizen", name := "carriedCoins", desc := "()I" } : Jvm.MethodName)) ∈ lw_all := lw_g (lw_at lw_m8 230 rfl) rfl
theorem q2001 : (Jvm.Cond.methodLink "CoinTaxes" (212 : Nat) ({ cls := "java/util/BitSet", name := "cardinality", desc := "()I" } : Jvm.MethodName)) ∈ lw_all := lw_g (lw_at lw_m8 231 rfl) rfl
theorem q2015 : (Jvm.Cond.instanceMethod ({ cls := "CoinTaxes", name := "claimOf", desc := "(IIZ)I" } : Jvm.MethodName)) ∈ lw_all := lw_g (lw_at lw_m9 5 rfl) rfl
theorem q2016 : (Jvm.Cond.selects "CoinTaxes" ({ cls := "CoinTaxes", name := "claimOf", desc := "(IIZ)I" } : Jvm.MethodName) ({ cls := "CoinTaxes", name := "claimOf", desc := "(IIZ)I" } : Jvm.MethodName)) ∈ lw_all := lw_g (lw_at lw_m9 6 rfl) rfl
theorem q2017 : (Jvm.Cond.code ({ cls := "CoinTaxes", name := "claimOf", desc := "(IIZ)I" } : Jvm.MethodName) prog_1_method_29_code (5 : Nat) (Option.some Jvm.ClassFile.FieldType.int)) ∈ lw_all := lw_g (lw_at lw_m9 7 rfl) rfl
theorem q2023 : (Jvm.Cond.instanceMethod ({ cls := "CoinTaxes", name := "carriedOf", desc := "(III)I" } : Jvm.MethodName)) ∈ lw_all := lw_g (lw_at lw_m9 13 rfl) rfl
theorem q2024 : (Jvm.Cond.selects "CoinTaxes" ({ cls := "CoinTaxes", name := "carriedOf", desc := "(III)I" } : Jvm.MethodName) ({ cls := "CoinTaxes", name := "carriedOf", desc := "(III)I" } : Jvm.MethodName)) ∈ lw_all := lw_g (lw_at lw_m9 14 rfl) rfl
theorem q2025 : (Jvm.Cond.code ({ cls := "CoinTaxes", name := "carriedOf", desc := "(III)I" } : Jvm.MethodName) prog_1_method_30_code (6 : Nat) (Option.some Jvm.ClassFile.FieldType.int)) ∈ lw_all := lw_g (lw_at lw_m9 15 rfl) rfl
theorem q2026 : (Jvm.Cond.methodLink "CoinTaxes" (21 : Nat) ({ cls := "CoinTaxes", name := "requireElement", desc := "(Z)V" } : Jvm.MethodName)) ∈ lw_all := lw_g (lw_at lw_m9 16 rfl) rfl
theorem q2027 : (Jvm.Cond.static ({ cls := "CoinTaxes", name := "requireElement", desc := "(Z)V" } : Jvm.MethodName)) ∈ lw_all := lw_g (lw_at lw_m9 17 rfl) rfl
theorem q2028 : (Jvm.Cond.code ({ cls := "CoinTaxes", name := "requireElement", desc := "(Z)V" } : Jvm.MethodName) prog_1_method_5_code (1 : Nat) (Option.none : Option Jvm.ClassFile.FieldType)) ∈ lw_all := lw_g (lw_at lw_m9 18 rfl) rfl
theorem q2029 : (Jvm.Cond.classLink "CoinTaxes" (13 : Nat) "java/util/NoSuchElementException") ∈ lw_all := lw_g (lw_at lw_m9 19 rfl) rfl
theorem q2030 : (Jvm.Cond.methodLink "CoinTaxes" (15 : Nat) ({ cls := "java/util/NoSuchElementException", name := "<init>", desc := "()V" } : Jvm.MethodName)) ∈ lw_all := lw_g (lw_at lw_m9 20 rfl) rfl
theorem q2031 : (Jvm.Cond.classLink "CoinTaxes" (227 : Nat) "java/util/ArrayList") ∈ lw_all := lw_g (lw_at lw_m9 21 rfl) rfl
theorem q2032 : (Jvm.Cond.methodLink "CoinTaxes" (229 : Nat) ({ cls := "java/util/ArrayList", name := "<init>", desc := "(Ljava/util/Collection;)V" } : Jvm.MethodName)) ∈ lw_all := lw_g (lw_at lw_m9 22 rfl) rfl
theorem q2079 : (Jvm.Cond.classLink "CoinTaxes" (232 : Nat) "CoinTaxes$Carried") ∈ lw_all := lw_g (lw_at lw_m9 69 rfl) rfl
theorem q2084 : (Jvm.Cond.instanceMethod ({ cls := "CoinTaxes", name := "creditFor", desc := "(I)I" } : Jvm.MethodName)) ∈ lw_all := lw_g (lw_at lw_m9 74 rfl) rfl
theorem q2085 : (Jvm.Cond.selects "CoinTaxes" ({ cls := "CoinTaxes", name := "creditFor", desc := "(I)I" } : Jvm.MethodName) ({ cls := "CoinTaxes", name := "creditFor", desc := "(I)I" } : Jvm.MethodName)) ∈ lw_all := lw_g (lw_at lw_m9 75 rfl) rfl
theorem q2086 : (Jvm.Cond.code ({ cls := "CoinTaxes", name := "creditFor", desc := "(I)I" } : Jvm.MethodName) prog_1_method_31_code (2 : Nat) (Option.some Jvm.ClassFile.FieldType.int)) ∈ lw_all := lw_g (lw_at lw_m9 76 rfl) rfl
theorem q2087 : (Jvm.Cond.methodLink "CoinTaxes" (238 : Nat) ({ cls := "CoinTaxes$Law", name := "creditFor", desc := "(I)I" } : Jvm.MethodName)) ∈ lw_all := lw_g (lw_at lw_m9 77 rfl) rfl
theorem q2092 : (Jvm.Cond.instanceMethod ({ cls := "CoinTaxes", name := "taxNow", desc := "(I)I" } : Jvm.MethodName)) ∈ lw_all := lw_g (lw_at lw_m9 82 rfl) rfl
theorem q2093 : (Jvm.Cond.selects "CoinTaxes" ({ cls := "CoinTaxes", name := "taxNow", desc := "(I)I" } : Jvm.MethodName) ({ cls := "CoinTaxes", name := "taxNow", desc := "(I)I" } : Jvm.MethodName)) ∈ lw_all := lw_g (lw_at lw_m9 83 rfl) rfl
theorem q2094 : (Jvm.Cond.code ({ cls := "CoinTaxes", name := "taxNow", desc := "(I)I" } : Jvm.MethodName) prog_1_method_32_code (3 : Nat) (Option.some Jvm.ClassFile.FieldType.int)) ∈ lw_all := lw_g (lw_at lw_m9 84 rfl) rfl
theorem q2095 : (Jvm.Cond.methodLink "CoinTaxes" (241 : Nat) ({ cls := "CoinTaxes$Citizen", name := "tax", desc := "(LCoinTaxes$Law;I)I" } : Jvm.MethodName)) ∈ lw_all := lw_g (lw_at lw_m9 85 rfl) rfl
theorem q2103 : (Jvm.Cond.instanceMethod ({ cls := "CoinTaxes", name := "taxAgain", desc := "(I)I" } : Jvm.MethodName)) ∈ lw_all := lw_g (lw_at lw_m9 93 rfl) rfl
theorem q2104 : (Jvm.Cond.selects "CoinTaxes" ({ cls := "CoinTaxes", name := "taxAgain", desc := "(I)I" } : Jvm.MethodName) ({ cls := "CoinTaxes", name := "taxAgain", desc := "(I)I" } : Jvm.MethodName)) ∈ lw_all := lw_g (lw_at lw_m9 94 rfl) rfl
theorem q2105 : (Jvm.Cond.code ({ cls := "CoinTaxes", name := "taxAgain", desc := "(I)I" } : Jvm.MethodName) prog_1_method_33_code (3 : Nat) (Option.some Jvm.ClassFile.FieldType.int)) ∈ lw_all := lw_g (lw_at lw_m9 95 rfl) rfl
theorem q2106 : (Jvm.Cond.methodLink "CoinTaxes" (245 : Nat) ({ cls := "CoinTaxes$Citizen", name := "duesAgain", desc := "(LCoinTaxes$Law;I)I" } : Jvm.MethodName)) ∈ lw_all := lw_g (lw_at lw_m9 96 rfl) rfl
theorem q2107 : (Jvm.Cond.methodLink "CoinTaxes" (248 : Nat) ({ cls := "CoinTaxes$Citizen", name := "taxOf", desc := "(I)I" } : Jvm.MethodName)) ∈ lw_all := lw_g (lw_at lw_m9 97 rfl) rfl
theorem q2112 : (Jvm.Cond.instanceMethod ({ cls := "CoinTaxes", name := "auditCosts", desc := "(I)I" } : Jvm.MethodName)) ∈ lw_all := lw_g (lw_at lw_m9 102 rfl) rfl
theorem q2113 : (Jvm.Cond.selects "CoinTaxes" ({ cls := "CoinTaxes", name := "auditCosts", desc := "(I)I" } : Jvm.MethodName) ({ cls := "CoinTaxes", name := "auditCosts", desc := "(I)I" } : Jvm.MethodName)) ∈ lw_all := lw_g (lw_at lw_m9 103 rfl) rfl
theorem q2114 : (Jvm.Cond.code ({ cls := "CoinTaxes", name := "auditCosts", desc := "(I)I" } : Jvm.MethodName) prog_1_method_34_code (2 : Nat) (Option.some Jvm.ClassFile.FieldType.int)) ∈ lw_all := lw_g (lw_at lw_m9 104 rfl) rfl
theorem q2115 : (Jvm.Cond.methodLink "CoinTaxes" (251 : Nat) ({ cls := "CoinTaxes$Office", name := "auditCosts", desc := "(LCoinTaxes$Citizen;)I" } : Jvm.MethodName)) ∈ lw_all := lw_g (lw_at lw_m9 105 rfl) rfl
theorem q2125 : (Jvm.Cond.instanceMethod ({ cls := "CoinTaxes", name := "left", desc := "(II)I" } : Jvm.MethodName)) ∈ lw_all := lw_g (lw_at lw_m9 115 rfl) rfl
theorem q2126 : (Jvm.Cond.selects "CoinTaxes" ({ cls := "CoinTaxes", name := "left", desc := "(II)I" } : Jvm.MethodName) ({ cls := "CoinTaxes", name := "left", desc := "(II)I" } : Jvm.MethodName)) ∈ lw_all := lw_g (lw_at lw_m9 116 rfl) rfl
theorem q2127 : (Jvm.Cond.code ({ cls := "CoinTaxes", name := "left", desc := "(II)I" } : Jvm.MethodName) prog_1_method_35_code (4 : Nat) (Option.some Jvm.ClassFile.FieldType.int)) ∈ lw_all := lw_g (lw_at lw_m9 117 rfl) rfl
theorem q2128 : (Jvm.Cond.methodLink "CoinTaxes" (255 : Nat) ({ cls := "CoinTaxes$Office", name := "left", desc := "(LCoinTaxes$Citizen;I)I" } : Jvm.MethodName)) ∈ lw_all := lw_g (lw_at lw_m9 118 rfl) rfl
theorem q2136 : (Jvm.Cond.instanceMethod ({ cls := "CoinTaxes", name := "margin", desc := "(I)I" } : Jvm.MethodName)) ∈ lw_all := lw_g (lw_at lw_m9 126 rfl) rfl
theorem q2137 : (Jvm.Cond.selects "CoinTaxes" ({ cls := "CoinTaxes", name := "margin", desc := "(I)I" } : Jvm.MethodName) ({ cls := "CoinTaxes", name := "margin", desc := "(I)I" } : Jvm.MethodName)) ∈ lw_all := lw_g (lw_at lw_m9 127 rfl) rfl
theorem q2138 : (Jvm.Cond.code ({ cls := "CoinTaxes", name := "margin", desc := "(I)I" } : Jvm.MethodName) prog_1_method_36_code (3 : Nat) (Option.some Jvm.ClassFile.FieldType.int)) ∈ lw_all := lw_g (lw_at lw_m9 128 rfl) rfl
theorem q2139 : (Jvm.Cond.methodLink "CoinTaxes" (259 : Nat) ({ cls := "CoinTaxes$Citizen", name := "dues", desc := "(LCoinTaxes$Law;I)I" } : Jvm.MethodName)) ∈ lw_all := lw_g (lw_at lw_m9 129 rfl) rfl
theorem q2144 : (Jvm.Cond.instanceMethod ({ cls := "CoinTaxes", name := "isNoLoss", desc := "(I)Z" } : Jvm.MethodName)) ∈ lw_all := lw_g (lw_at lw_m9 134 rfl) rfl
theorem q2145 : (Jvm.Cond.selects "CoinTaxes" ({ cls := "CoinTaxes", name := "isNoLoss", desc := "(I)Z" } : Jvm.MethodName) ({ cls := "CoinTaxes", name := "isNoLoss", desc := "(I)Z" } : Jvm.MethodName)) ∈ lw_all := lw_g (lw_at lw_m9 135 rfl) rfl
theorem q2146 : (Jvm.Cond.code ({ cls := "CoinTaxes", name := "isNoLoss", desc := "(I)Z" } : Jvm.MethodName) prog_1_method_37_code (2 : Nat) (Option.some Jvm.ClassFile.FieldType.boolean)) ∈ lw_all := lw_g (lw_at lw_m9 136 rfl) rfl
theorem q2147 : (Jvm.Cond.methodLink "CoinTaxes" (262 : Nat) ({ cls := "CoinTaxes$Citizen", name := "isNoLoss", desc := "(LCoinTaxes$Law;)Z" } : Jvm.MethodName)) ∈ lw_all := lw_g (lw_at lw_m9 137 rfl) rfl
theorem q2155 : (Jvm.Cond.instanceMethod ({ cls := "CoinTaxes", name := "auditIn", desc := "(I)I" } : Jvm.MethodName)) ∈ lw_all := lw_g (lw_at lw_m9 145 rfl) rfl
theorem q2156 : (Jvm.Cond.selects "CoinTaxes" ({ cls := "CoinTaxes", name := "auditIn", desc := "(I)I" } : Jvm.MethodName) ({ cls := "CoinTaxes", name := "auditIn", desc := "(I)I" } : Jvm.MethodName)) ∈ lw_all := lw_g (lw_at lw_m9 146 rfl) rfl
theorem q2157 : (Jvm.Cond.code ({ cls := "CoinTaxes", name := "auditIn", desc := "(I)I" } : Jvm.MethodName) prog_1_method_38_code (2 : Nat) (Option.some Jvm.ClassFile.FieldType.int)) ∈ lw_all := lw_g (lw_at lw_m9 147 rfl) rfl
theorem q2158 : (Jvm.Cond.methodLink "CoinTaxes" (266 : Nat) ({ cls := "CoinTaxes$Office", name := "auditIn", desc := "(I)I" } : Jvm.MethodName)) ∈ lw_all := lw_g (lw_at lw_m9 148 rfl) rfl
theorem q2164 : (Jvm.Cond.methodLink "CoinTaxes" (269 : Nat) ({ cls := "CoinTaxes", name := "existing", desc := "(I)I" } : Jvm.MethodName)) ∈ lw_all := lw_g (lw_at lw_m9 154 rfl) rfl
theorem q2165 : (Jvm.Cond.static ({ cls := "CoinTaxes", name := "existing", desc := "(I)I" } : Jvm.MethodName)) ∈ lw_all := lw_g (lw_at lw_m9 155 rfl) rfl
theorem q2166 : (Jvm.Cond.code ({ cls := "CoinTaxes", name := "existing", desc := "(I)I" } : Jvm.MethodName) prog_1_method_7_code (1 : Nat) (Option.some Jvm.ClassFile.FieldType.int)) ∈ lw_all := lw_g (lw_at lw_m9 156 rfl) rfl
theorem q2171 : (Jvm.Cond.instanceMethod ({ cls := "CoinTaxes", name := "ranked", desc := "(I)I" } : Jvm.MethodName)) ∈ lw_all := lw_g (lw_at lw_m9 161 rfl) rfl
theorem q2172 : (Jvm.Cond.selects "CoinTaxes" ({ cls := "CoinTaxes", name := "ranked", desc := "(I)I" } : Jvm.MethodName) ({ cls := "CoinTaxes", name := "ranked", desc := "(I)I" } : Jvm.MethodName)) ∈ lw_all := lw_g (lw_at lw_m9 162 rfl) rfl
theorem q2173 : (Jvm.Cond.code ({ cls := "CoinTaxes", name := "ranked", desc := "(I)I" } : Jvm.MethodName) prog_1_method_39_code (2 : Nat) (Option.some Jvm.ClassFile.FieldType.int)) ∈ lw_all := lw_g (lw_at lw_m9 163 rfl) rfl
theorem q2174 : (Jvm.Cond.methodLink "CoinTaxes" (272 : Nat) ({ cls := "CoinTaxes$Office", name := "ranked", desc := "(I)I" } : Jvm.MethodName)) ∈ lw_all := lw_g (lw_at lw_m9 164 rfl) rfl
theorem q2186 : (Jvm.Cond.instanceMethod ({ cls := "CoinTaxes", name := "feed", desc := "(C)I" } : Jvm.MethodName)) ∈ lw_all := lw_g (lw_at lw_m9 176 rfl) rfl
theorem q2187 : (Jvm.Cond.selects "CoinTaxes" ({ cls := "CoinTaxes", name := "feed", desc := "(C)I" } : Jvm.MethodName) ({ cls := "CoinTaxes", name := "feed", desc := "(C)I" } : Jvm.MethodName)) ∈ lw_all := lw_g (lw_at lw_m9 177 rfl) rfl
theorem q2188 : (Jvm.Cond.code ({ cls := "CoinTaxes", name := "feed", desc := "(C)I" } : Jvm.MethodName) prog_1_method_40_code (2 : Nat) (Option.some Jvm.ClassFile.FieldType.int)) ∈ lw_all := lw_g (lw_at lw_m9 178 rfl) rfl
theorem q2189 : (Jvm.Cond.methodLink "CoinTaxes" (275 : Nat) ({ cls := "java/lang/StringBuilder", name := "length", desc := "()I" } : Jvm.MethodName)) ∈ lw_all := lw_g (lw_at lw_m9 179 rfl) rfl
theorem q2190 : (Jvm.Cond.methodLink "CoinTaxes" (278 : Nat) ({ cls := "CoinTaxes", name := "requireState", desc := "(Z)V" } : Jvm.MethodName)) ∈ lw_all := lw_g (lw_at lw_m9 180 rfl) rfl
theorem q2191 : (Jvm.Cond.static ({ cls := "CoinTaxes", name := "requireState", desc := "(Z)V" } : Jvm.MethodName)) ∈ lw_all := lw_g (lw_at lw_m9 181 rfl) rfl
theorem q2192 : (Jvm.Cond.code ({ cls := "CoinTaxes", name := "requireState", desc := "(Z)V" } : Jvm.MethodName) prog_1_method_4_code (1 : Nat) (Option.none : Option Jvm.ClassFile.FieldType)) ∈ lw_all := lw_g (lw_at lw_m9 182 rfl) rfl
theorem q2193 : (Jvm.Cond.classLink "CoinTaxes" (10 : Nat) "java/lang/IllegalStateException") ∈ lw_all := lw_g (lw_at lw_m9 183 rfl) rfl
theorem q2194 : (Jvm.Cond.methodLink "CoinTaxes" (12 : Nat) ({ cls := "java/lang/IllegalStateException", name := "<init>", desc := "()V" } : Jvm.MethodName)) ∈ lw_all := lw_g (lw_at lw_m9 184 rfl) rfl
theorem q2198 : (Jvm.Cond.methodLink "CoinTaxes" (281 : Nat) ({ cls := "java/lang/StringBuilder", name := "append", desc := "(C)Ljava/lang/StringBuilder;" } : Jvm.MethodName)) ∈ lw_all := lw_g (lw_at lw_m9 188 rfl) rfl
theorem q2203 : (Jvm.Cond.instanceMethod ({ cls := "CoinTaxes", name := "run", desc := "()I" } : Jvm.MethodName)) ∈ lw_all := lw_g (lw_at lw_m9 193 rfl) rfl
theorem q2204 : (Jvm.Cond.selects "CoinTaxes" ({ cls := "CoinTaxes", name := "run", desc := "()I" } : Jvm.MethodName) ({ cls := "CoinTaxes", name := "run", desc := "()I" } : Jvm.MethodName)) ∈ lw_all := lw_g (lw_at lw_m9 194 rfl) rfl
theorem q2205 : (Jvm.Cond.codeWith ({ cls := "CoinTaxes", name := "run", desc := "()I" } : Jvm.MethodName) prog_1_method_42_code (5 : Nat) (Option.some Jvm.ClassFile.FieldType.int) [((19 : Nat), (51 : Nat), (54 : Nat), (25 : Nat))]) ∈ lw_all := lw_g (lw_at lw_m9 195 rfl) rfl
theorem q2206 : (Jvm.Cond.methodLink "CoinTaxes" (307 : Nat) ({ cls := "CoinTaxes", name := "readOrders", desc := "()Ljava/util/List;" } : Jvm.MethodName)) ∈ lw_all := lw_g (lw_at lw_m9 196 rfl) rfl
theorem q2207 : (Jvm.Cond.privateMethod ({ cls := "CoinTaxes", name := "readOrders", desc := "()Ljava/util/List;" } : Jvm.MethodName)) ∈ lw_tbl := lw_at lw_m9 197 rfl
theorem q2208 : (Jvm.Cond.instanceMethod ({ cls := "CoinTaxes", name := "readOrders", desc := "()Ljava/util/List;" } : Jvm.MethodName)) ∈ lw_all := lw_g (lw_at lw_m9 198 rfl) rfl
theorem q2209 : (Jvm.Cond.codeWith ({ cls := "CoinTaxes", name := "readOrders", desc := "()Ljava/util/List;" } : Jvm.MethodName) prog_1_method_41_code (3 : Nat) (Option.some (Jvm.ClassFile.FieldType.object "java/util/List")) [((23 : Nat), (27 : Nat), (28 : Nat), (302 : Nat))]) ∈ lw_all := lw_g (lw_at lw_m9 199 rfl) rfl
theorem q2210 : (Jvm.Cond.classLink "CoinTaxes" (302 : Nat) "CoinTaxes$TextException") ∈ lw_all := lw_g (lw_at lw_m9 200 rfl) rfl
theorem q2211 : (Jvm.Cond.classLink "CoinTaxes" (285 : Nat) "CoinTaxes$Reader") ∈ lw_all := lw_g (lw_at lw_m9 201 rfl) rfl
theorem q2213 : (Jvm.Cond.methodLink "CoinTaxes" (287 : Nat) ({ cls := "java/lang/StringBuilder", name := "toString", desc := "()Ljava/lang/String;" } : Jvm.MethodName)) ∈ lw_all := lw_g (lw_at lw_m9 203 rfl) rfl
theorem q2214 : (Jvm.Cond.methodLink "CoinTaxes" (291 : Nat) ({ cls := "CoinTaxes$Reader", name := "<init>", desc := "(Ljava/lang/String;)V" } : Jvm.MethodName)) ∈ lw_all := lw_g (lw_at lw_m9 204 rfl) rfl
theorem q2225 : (Jvm.Cond.methodLink "CoinTaxes" (294 : Nat) ({ cls := "java/lang/StringBuilder", name := "setLength", desc := "(I)V" } : Jvm.MethodName)) ∈ lw_all := lw_g (lw_at lw_m9 215 rfl) rfl
theorem q2277 : (Jvm.Cond.methodLink "CoinTaxes" (298 : Nat) ({ cls := "CoinTaxes$Reader", name := "whole", desc := "()Ljava/util/List;" } : Jvm.MethodName)) ∈ lw_all := lw_g (lw_at lw_m10 27 rfl) rfl
theorem q2338 : (Jvm.Cond.fieldLinkNest "CoinTaxes" (304 : Nat) "CoinTaxes$TextException" "position" "I" "CoinTaxes") ∈ lw_tbl := lw_at lw_m10 88 rfl
theorem q2392 : (Jvm.Cond.methodLink "CoinTaxes" (310 : Nat) ({ cls := "CoinTaxes$Refused", name := "<init>", desc := "(IILCoinTaxes$Refused;)V" } : Jvm.MethodName)) ∈ lw_all := lw_g (lw_at lw_m10 142 rfl) rfl
theorem q2397 : (Jvm.Cond.instanceMethod ({ cls := "CoinTaxes", name := "faultPosition", desc := "()I" } : Jvm.MethodName)) ∈ lw_all := lw_g (lw_at lw_m10 147 rfl) rfl
theorem q2398 : (Jvm.Cond.selects "CoinTaxes" ({ cls := "CoinTaxes", name := "faultPosition", desc := "()I" } : Jvm.MethodName) ({ cls := "CoinTaxes", name := "faultPosition", desc := "()I" } : Jvm.MethodName)) ∈ lw_all := lw_g (lw_at lw_m10 148 rfl) rfl
theorem q2399 : (Jvm.Cond.code ({ cls := "CoinTaxes", name := "faultPosition", desc := "()I" } : Jvm.MethodName) prog_1_method_43_code (1 : Nat) (Option.some Jvm.ClassFile.FieldType.int)) ∈ lw_all := lw_g (lw_at lw_m10 149 rfl) rfl
theorem q2404 : (Jvm.Cond.instanceMethod ({ cls := "CoinTaxes", name := "reason", desc := "(ZZ)I" } : Jvm.MethodName)) ∈ lw_all := lw_g (lw_at lw_m10 154 rfl) rfl
theorem q2405 : (Jvm.Cond.selects "CoinTaxes" ({ cls := "CoinTaxes", name := "reason", desc := "(ZZ)I" } : Jvm.MethodName) ({ cls := "CoinTaxes", name := "reason", desc := "(ZZ)I" } : Jvm.MethodName)) ∈ lw_all := lw_g (lw_at lw_m10 155 rfl) rfl
theorem q2406 : (Jvm.Cond.code ({ cls := "CoinTaxes", name := "reason", desc := "(ZZ)I" } : Jvm.MethodName) prog_1_method_44_code (4 : Nat) (Option.some Jvm.ClassFile.FieldType.int)) ∈ lw_all := lw_g (lw_at lw_m10 156 rfl) rfl
theorem q2411 : (Jvm.Cond.instanceMethod ({ cls := "CoinTaxes", name := "line", desc := "(I)I" } : Jvm.MethodName)) ∈ lw_all := lw_g (lw_at lw_m10 161 rfl) rfl
theorem q2412 : (Jvm.Cond.selects "CoinTaxes" ({ cls := "CoinTaxes", name := "line", desc := "(I)I" } : Jvm.MethodName) ({ cls := "CoinTaxes", name := "line", desc := "(I)I" } : Jvm.MethodName)) ∈ lw_all := lw_g (lw_at lw_m10 162 rfl) rfl
theorem q2413 : (Jvm.Cond.code ({ cls := "CoinTaxes", name := "line", desc := "(I)I" } : Jvm.MethodName) prog_1_method_46_code (2 : Nat) (Option.some Jvm.ClassFile.FieldType.int)) ∈ lw_all := lw_g (lw_at lw_m10 163 rfl) rfl
theorem q2414 : (Jvm.Cond.methodLink "CoinTaxes" (325 : Nat) ({ cls := "CoinTaxes$Citizen", name := "line", desc := "()Ljava/lang/String;" } : Jvm.MethodName)) ∈ lw_all := lw_g (lw_at lw_m10 164 rfl) rfl
theorem q2433 : (Jvm.Cond.instanceMethod ({ cls := "CoinTaxes", name := "character", desc := "(I)C" } : Jvm.MethodName)) ∈ lw_all := lw_g (lw_at lw_m10 183 rfl) rfl
theorem q2434 : (Jvm.Cond.selects "CoinTaxes" ({ cls := "CoinTaxes", name := "character", desc := "(I)C" } : Jvm.MethodName) ({ cls := "CoinTaxes", name := "character", desc := "(I)C" } : Jvm.MethodName)) ∈ lw_all := lw_g (lw_at lw_m10 184 rfl) rfl
theorem q2435 : (Jvm.Cond.code ({ cls := "CoinTaxes", name := "character", desc := "(I)C" } : Jvm.MethodName) prog_1_method_48_code (2 : Nat) (Option.some Jvm.ClassFile.FieldType.char)) ∈ lw_all := lw_g (lw_at lw_m10 185 rfl) rfl
theorem q2436 : (Jvm.Cond.methodLink "CoinTaxes" (332 : Nat) ({ cls := "java/lang/String", name := "charAt", desc := "(I)C" } : Jvm.MethodName)) ∈ lw_all := lw_g (lw_at lw_m10 186 rfl) rfl
theorem q2455 : (Jvm.Cond.instanceMethod ({ cls := "CoinTaxes", name := "share", desc := "(I)F" } : Jvm.MethodName)) ∈ lw_all := lw_g (lw_at lw_m10 205 rfl) rfl
theorem q2456 : (Jvm.Cond.selects "CoinTaxes" ({ cls := "CoinTaxes", name := "share", desc := "(I)F" } : Jvm.MethodName) ({ cls := "CoinTaxes", name := "share", desc := "(I)F" } : Jvm.MethodName)) ∈ lw_all := lw_g (lw_at lw_m10 206 rfl) rfl
theorem q2457 : (Jvm.Cond.code ({ cls := "CoinTaxes", name := "share", desc := "(I)F" } : Jvm.MethodName) prog_1_method_49_code (3 : Nat) (Option.some Jvm.ClassFile.FieldType.float)) ∈ lw_all := lw_g (lw_at lw_m10 207 rfl) rfl
theorem q2458 : (Jvm.Cond.methodLink "CoinTaxes" (336 : Nat) ({ cls := "CoinTaxes", name := "requireSome", desc := "(I)V" } : Jvm.MethodName)) ∈ lw_all := lw_g (lw_at lw_m10 208 rfl) rfl
theorem q2459 : (Jvm.Cond.static ({ cls := "CoinTaxes", name := "requireSome", desc := "(I)V" } : Jvm.MethodName)) ∈ lw_all := lw_g (lw_at lw_m10 209 rfl) rfl
theorem q2460 : (Jvm.Cond.code ({ cls := "CoinTaxes", name := "requireSome", desc := "(I)V" } : Jvm.MethodName) prog_1_method_6_code (1 : Nat) (Option.none : Option Jvm.ClassFile.FieldType)) ∈ lw_all := lw_g (lw_at lw_m10 210 rfl) rfl
theorem q2461 : (Jvm.Cond.classLink "CoinTaxes" (16 : Nat) "java/lang/ArithmeticException") ∈ lw_all := lw_g (lw_at lw_m10 211 rfl) rfl
theorem q2462 : (Jvm.Cond.methodLink "CoinTaxes" (18 : Nat) ({ cls := "java/lang/ArithmeticException", name := "<init>", desc := "()V" } : Jvm.MethodName)) ∈ lw_all := lw_g (lw_at lw_m10 212 rfl) rfl
theorem q2470 : (Jvm.Cond.instanceMethod ({ cls := "CoinTaxes", name := "meanIncome", desc := "()D" } : Jvm.MethodName)) ∈ lw_all := lw_g (lw_at lw_m10 220 rfl) rfl
theorem q2471 : (Jvm.Cond.selects "CoinTaxes" ({ cls := "CoinTaxes", name := "meanIncome", desc := "()D" } : Jvm.MethodName) ({ cls := "CoinTaxes", name := "meanIncome", desc := "()D" } : Jvm.MethodName)) ∈ lw_all := lw_g (lw_at lw_m10 221 rfl) rfl
theorem q2472 : (Jvm.Cond.code ({ cls := "CoinTaxes", name := "meanIncome", desc := "()D" } : Jvm.MethodName) prog_1_method_50_code (1 : Nat) (Option.some Jvm.ClassFile.FieldType.double)) ∈ lw_all := lw_g (lw_at lw_m10 222 rfl) rfl
theorem q2473 : (Jvm.Cond.methodLink "CoinTaxes" (339 : Nat) ({ cls := "CoinTaxes$Office", name := "sumOfIncomes", desc := "()I" } : Jvm.MethodName)) ∈ lw_all := lw_g (lw_at lw_m10 223 rfl) rfl
theorem q2481 : (Jvm.Cond.instanceMethod ({ cls := "CoinTaxes", name := "account", desc := "(I)I" } : Jvm.MethodName)) ∈ lw_all := lw_g (lw_at lw_m10 231 rfl) rfl
theorem q2482 : (Jvm.Cond.selects "CoinTaxes" ({ cls := "CoinTaxes", name := "account", desc := "(I)I" } : Jvm.MethodName) ({ cls := "CoinTaxes", name := "account", desc := "(I)I" } : Jvm.MethodName)) ∈ lw_all := lw_g (lw_at lw_m10 232 rfl) rfl
theorem q2483 : (Jvm.Cond.code ({ cls := "CoinTaxes", name := "account", desc := "(I)I" } : Jvm.MethodName) prog_1_method_51_code (2 : Nat) (Option.some Jvm.ClassFile.FieldType.int)) ∈ lw_all := lw_g (lw_at lw_m10 233 rfl) rfl
theorem q2484 : (Jvm.Cond.methodLink "CoinTaxes" (362 : Nat) ({ cls := "CoinTaxes$Office", name := "sumOfDebts", desc := "()I" } : Jvm.MethodName)) ∈ lw_all := lw_g (lw_at lw_m10 234 rfl) rfl
theorem q2485 : (Jvm.Cond.methodLink "CoinTaxes" (365 : Nat) ({ cls := "CoinTaxes$Office", name := "sumOfTaxes", desc := "()I" } : Jvm.MethodName)) ∈ lw_all := lw_g (lw_at lw_m10 235 rfl) rfl
theorem q2486 : (Jvm.Cond.methodLink "CoinTaxes" (368 : Nat) ({ cls := "CoinTaxes$Office", name := "sumOfFines", desc := "()I" } : Jvm.MethodName)) ∈ lw_all := lw_g (lw_at lw_m10 236 rfl) rfl
theorem q2487 : (Jvm.Cond.methodLink "CoinTaxes" (371 : Nat) ({ cls := "CoinTaxes$Office", name := "sumOfCarried", desc := "()I" } : Jvm.MethodName)) ∈ lw_all := lw_g (lw_at lw_m10 237 rfl) rfl
theorem q2496 : (Jvm.Cond.instanceMethod ({ cls := "CoinTaxes", name := "undo", desc := "()I" } : Jvm.MethodName)) ∈ lw_all := lw_g (lw_at lw_m11 6 rfl) rfl
theorem q2497 : (Jvm.Cond.selects "CoinTaxes" ({ cls := "CoinTaxes", name := "undo", desc := "()I" } : Jvm.MethodName) ({ cls := "CoinTaxes", name := "undo", desc := "()I" } : Jvm.MethodName)) ∈ lw_all := lw_g (lw_at lw_m11 7 rfl) rfl
theorem q2498 : (Jvm.Cond.code ({ cls := "CoinTaxes", name := "undo", desc := "()I" } : Jvm.MethodName) prog_1_method_53_code (1 : Nat) (Option.some Jvm.ClassFile.FieldType.int)) ∈ lw_all := lw_g (lw_at lw_m11 8 rfl) rfl
theorem q2499 : (Jvm.Cond.interfaceEntry "CoinTaxes" (378 : Nat)) ∈ lw_tbl := lw_at lw_m11 9 rfl
theorem q2500 : (Jvm.Cond.interfaceEntry "CoinTaxes" (381 : Nat)) ∈ lw_tbl := lw_at lw_m11 10 rfl
theorem q2501 : (Jvm.Cond.methodLink "CoinTaxes" (381 : Nat) ({ cls := "java/util/Deque", name := "removeLast", desc := "()Ljava/lang/Object;" } : Jvm.MethodName)) ∈ lw_all := lw_g (lw_at lw_m11 11 rfl) rfl
theorem q2529 : (Jvm.Cond.instanceMethod ({ cls := "CoinTaxes", name := "restore", desc := "()I" } : Jvm.MethodName)) ∈ lw_all := lw_g (lw_at lw_m11 39 rfl) rfl
theorem q2530 : (Jvm.Cond.selects "CoinTaxes" ({ cls := "CoinTaxes", name := "restore", desc := "()I" } : Jvm.MethodName) ({ cls := "CoinTaxes", name := "restore", desc := "()I" } : Jvm.MethodName)) ∈ lw_all := lw_g (lw_at lw_m11 40 rfl) rfl
theorem q2531 : (Jvm.Cond.code ({ cls := "CoinTaxes", name := "restore", desc := "()I" } : Jvm.MethodName) prog_1_method_55_code (1 : Nat) (Option.some Jvm.ClassFile.FieldType.int)) ∈ lw_all := lw_g (lw_at lw_m11 41 rfl) rfl
theorem q2532 : (Jvm.Cond.interfaceEntry "CoinTaxes" (387 : Nat)) ∈ lw_tbl := lw_at lw_m11 42 rfl
theorem q3006 : (Jvm.Cond.castable "CoinTaxes" "java/lang/Object") ∈ lw_tbl := lw_at lw_m13 36 rfl
theorem in_X1 : ∀ w ∈ wsX10, w ∈ lw_all := lw_in wsX10 [380, 382, 384, 386, 388, 390, 392] (by decide +kernel) (by decide +kernel)

/-! CoinTaxes$Office -/
set_option maxRecDepth 100000
def RX2 : String := "CoinTaxes$Office"
def TX2 : u_T := fun k => match k with
  | 0 => ("CoinTaxes$Office", "law", "LCoinTaxes$Law;", true)
  | 1 => ("CoinTaxes$Office", "citizens", "Ljava/util/List;", true)
  | 2 => ("CoinTaxes$Office", "year", "I", false)
  | 3 => ("CoinTaxes$Office", "lot", "I", false)
  | 4 => ("CoinTaxes$Office", "coins", "I", false)
  | 5 => ("CoinTaxes$Office", "earned", "I", false)
  | _ => ("CoinTaxes$Office", "spent", "I", false)
def tyX2 : Nat → FieldType := fun k => match k with
  | 0 => .object "CoinTaxes$Law"
  | 1 => .object "java/util/List"
  | 2 => .int
  | 3 => .int
  | 4 => .int
  | 5 => .int
  | _ => .int
abbrev wsX20 : List Cond := u_ws RX2 TX2 7
theorem nmX2 : ∀ a, a < 7 → ∀ b, b < 7 → a ≠ b → (TX2 a).2.1 ≠ (TX2 b).2.1 := by decide +kernel
theorem tyX2_ok : ∀ k, k < 7 → parseFieldDescriptor (TX2 k).2.2.1 = some (tyX2 k) := by decide +kernel
abbrev cX2_init : ByteArray := prog_6_method_1_code
def yX2_init : MethodName := ⟨RX2, "<init>", "()V"⟩
def dkwX2_init_1 : List UInt8 := [187, 0, 22, 89, 183, 0, 24, 181, 0, 25, 177]
abbrev dktX2_init_1 : List UInt8 := dkwX2_init_1 ++ []
def dkwX2_init_0 : List UInt8 := [42, 183, 0, 3, 42, 187, 0, 9, 89, 183, 0, 11, 181, 0, 12, 42, 16, 7, 181, 0, 18, 42]
abbrev dktX2_init_0 : List UInt8 := dkwX2_init_0 ++ dktX2_init_1
theorem dksX2_init_0 : cX2_init.data.toList.drop 0 = dktX2_init_0 := by decide +kernel
theorem dksX2_init_1 : cX2_init.data.toList.drop 22 = dktX2_init_1 := dk_seg dksX2_init_0 22 rfl rfl
theorem dX2_init_0 : decode cX2_init 0 = .ok (.aload_n 0, 1) := dk_42 (dk_at dksX2_init_0 0 rfl rfl)
theorem dX2_init_1 : decode cX2_init 1 = .ok (.invokespecial 3, 3) := dk_183 0 3 (dk_at dksX2_init_0 1 rfl rfl)
theorem dX2_init_4 : decode cX2_init 4 = .ok (.aload_n 0, 1) := dk_42 (dk_at dksX2_init_0 4 rfl rfl)
theorem dX2_init_5 : decode cX2_init 5 = .ok (.new 9, 3) := dk_187 0 9 (dk_at dksX2_init_0 5 rfl rfl)
theorem dX2_init_8 : decode cX2_init 8 = .ok (.dup, 1) := dk_89 (dk_at dksX2_init_0 8 rfl rfl)
theorem dX2_init_9 : decode cX2_init 9 = .ok (.invokespecial 11, 3) := dk_183 0 11 (dk_at dksX2_init_0 9 rfl rfl)
theorem dX2_init_12 : decode cX2_init 12 = .ok (.putfield 12, 3) := dk_181 0 12 (dk_at dksX2_init_0 12 rfl rfl)
theorem dX2_init_15 : decode cX2_init 15 = .ok (.aload_n 0, 1) := dk_42 (dk_at dksX2_init_0 15 rfl rfl)
theorem dX2_init_16 : decode cX2_init 16 = .ok (.bipush 7, 2) := dk_16 7 (dk_at dksX2_init_0 16 rfl rfl)
theorem dX2_init_18 : decode cX2_init 18 = .ok (.putfield 18, 3) := dk_181 0 18 (dk_at dksX2_init_0 18 rfl rfl)
theorem dX2_init_21 : decode cX2_init 21 = .ok (.aload_n 0, 1) := dk_42 (dk_at dksX2_init_0 21 rfl rfl)
theorem dX2_init_22 : decode cX2_init 22 = .ok (.new 22, 3) := dk_187 0 22 (dk_at dksX2_init_1 0 rfl rfl)
theorem dX2_init_25 : decode cX2_init 25 = .ok (.dup, 1) := dk_89 (dk_at dksX2_init_1 3 rfl rfl)
theorem dX2_init_26 : decode cX2_init 26 = .ok (.invokespecial 24, 3) := dk_183 0 24 (dk_at dksX2_init_1 4 rfl rfl)
theorem dX2_init_29 : decode cX2_init 29 = .ok (.putfield 25, 3) := dk_181 0 25 (dk_at dksX2_init_1 7 rfl rfl)
theorem dX2_init_32 : decode cX2_init 32 = .ok (.return_, 1) := dk_177 (dk_at dksX2_init_1 10 rfl rfl)
abbrev cX2_init_2 : ByteArray := prog_6_method_2_code
def yX2_init_2 : MethodName := ⟨RX2, "<init>", "(LCoinTaxes$Office;)V"⟩
def dkwX2_init_2_5 : List UInt8 := [181, 0, 63, 42, 43, 180, 0, 66, 181, 0, 66, 177]
abbrev dktX2_init_2_5 : List UInt8 := dkwX2_init_2_5 ++ []
def dkwX2_init_2_4 : List UInt8 := [181, 0, 57, 42, 43, 180, 0, 18, 181, 0, 18, 42, 43, 180, 0, 60, 181, 0, 60, 42, 43, 180, 0, 63]
abbrev dktX2_init_2_4 : List UInt8 := dkwX2_init_2_4 ++ dktX2_init_2_5
def dkwX2_init_2_3 : List UInt8 := [187, 0, 48, 89, 45, 183, 0, 50, 185, 0, 53, 2, 0, 87, 167, 255, 219, 42, 43, 180, 0, 57]
abbrev dktX2_init_2_3 : List UInt8 := dkwX2_init_2_3 ++ dktX2_init_2_4
def dkwX2_init_2_2 : List UInt8 := [44, 185, 0, 38, 1, 0, 153, 0, 34, 44, 185, 0, 44, 1, 0, 192, 0, 48, 78, 42, 180, 0, 12]
abbrev dktX2_init_2_2 : List UInt8 := dkwX2_init_2_2 ++ dktX2_init_2_3
def dkwX2_init_2_1 : List UInt8 := [187, 0, 22, 89, 43, 180, 0, 25, 183, 0, 29, 181, 0, 25, 43, 180, 0, 12, 185, 0, 32, 1, 0, 77]
abbrev dktX2_init_2_1 : List UInt8 := dkwX2_init_2_1 ++ dktX2_init_2_2
def dkwX2_init_2_0 : List UInt8 := [42, 183, 0, 3, 42, 187, 0, 9, 89, 183, 0, 11, 181, 0, 12, 42, 16, 7, 181, 0, 18, 42]
abbrev dktX2_init_2_0 : List UInt8 := dkwX2_init_2_0 ++ dktX2_init_2_1
theorem dksX2_init_2_0 : cX2_init_2.data.toList.drop 0 = dktX2_init_2_0 := by decide +kernel
theorem dksX2_init_2_1 : cX2_init_2.data.toList.drop 22 = dktX2_init_2_1 := dk_seg dksX2_init_2_0 22 rfl rfl
theorem dksX2_init_2_2 : cX2_init_2.data.toList.drop 46 = dktX2_init_2_2 := dk_seg dksX2_init_2_1 24 rfl rfl
theorem dksX2_init_2_3 : cX2_init_2.data.toList.drop 69 = dktX2_init_2_3 := dk_seg dksX2_init_2_2 23 rfl rfl
theorem dksX2_init_2_4 : cX2_init_2.data.toList.drop 91 = dktX2_init_2_4 := dk_seg dksX2_init_2_3 22 rfl rfl
theorem dksX2_init_2_5 : cX2_init_2.data.toList.drop 115 = dktX2_init_2_5 := dk_seg dksX2_init_2_4 24 rfl rfl
theorem dX2_init_2_0 : decode cX2_init_2 0 = .ok (.aload_n 0, 1) := dk_42 (dk_at dksX2_init_2_0 0 rfl rfl)
theorem dX2_init_2_1 : decode cX2_init_2 1 = .ok (.invokespecial 3, 3) := dk_183 0 3 (dk_at dksX2_init_2_0 1 rfl rfl)
theorem dX2_init_2_4 : decode cX2_init_2 4 = .ok (.aload_n 0, 1) := dk_42 (dk_at dksX2_init_2_0 4 rfl rfl)
theorem dX2_init_2_5 : decode cX2_init_2 5 = .ok (.new 9, 3) := dk_187 0 9 (dk_at dksX2_init_2_0 5 rfl rfl)
theorem dX2_init_2_8 : decode cX2_init_2 8 = .ok (.dup, 1) := dk_89 (dk_at dksX2_init_2_0 8 rfl rfl)
theorem dX2_init_2_9 : decode cX2_init_2 9 = .ok (.invokespecial 11, 3) := dk_183 0 11 (dk_at dksX2_init_2_0 9 rfl rfl)
theorem dX2_init_2_12 : decode cX2_init_2 12 = .ok (.putfield 12, 3) := dk_181 0 12 (dk_at dksX2_init_2_0 12 rfl rfl)
theorem dX2_init_2_15 : decode cX2_init_2 15 = .ok (.aload_n 0, 1) := dk_42 (dk_at dksX2_init_2_0 15 rfl rfl)
theorem dX2_init_2_16 : decode cX2_init_2 16 = .ok (.bipush 7, 2) := dk_16 7 (dk_at dksX2_init_2_0 16 rfl rfl)
theorem dX2_init_2_18 : decode cX2_init_2 18 = .ok (.putfield 18, 3) := dk_181 0 18 (dk_at dksX2_init_2_0 18 rfl rfl)
theorem dX2_init_2_21 : decode cX2_init_2 21 = .ok (.aload_n 0, 1) := dk_42 (dk_at dksX2_init_2_0 21 rfl rfl)
theorem dX2_init_2_22 : decode cX2_init_2 22 = .ok (.new 22, 3) := dk_187 0 22 (dk_at dksX2_init_2_1 0 rfl rfl)
theorem dX2_init_2_25 : decode cX2_init_2 25 = .ok (.dup, 1) := dk_89 (dk_at dksX2_init_2_1 3 rfl rfl)
theorem dX2_init_2_26 : decode cX2_init_2 26 = .ok (.aload_n 1, 1) := dk_43 (dk_at dksX2_init_2_1 4 rfl rfl)
theorem dX2_init_2_27 : decode cX2_init_2 27 = .ok (.getfield 25, 3) := dk_180 0 25 (dk_at dksX2_init_2_1 5 rfl rfl)
theorem dX2_init_2_30 : decode cX2_init_2 30 = .ok (.invokespecial 29, 3) := dk_183 0 29 (dk_at dksX2_init_2_1 8 rfl rfl)
theorem dX2_init_2_33 : decode cX2_init_2 33 = .ok (.putfield 25, 3) := dk_181 0 25 (dk_at dksX2_init_2_1 11 rfl rfl)
theorem dX2_init_2_36 : decode cX2_init_2 36 = .ok (.aload_n 1, 1) := dk_43 (dk_at dksX2_init_2_1 14 rfl rfl)
theorem dX2_init_2_37 : decode cX2_init_2 37 = .ok (.getfield 12, 3) := dk_180 0 12 (dk_at dksX2_init_2_1 15 rfl rfl)
theorem dX2_init_2_40 : decode cX2_init_2 40 = .ok (.invokeinterface 32 1, 5) := by decide +kernel
theorem dX2_init_2_45 : decode cX2_init_2 45 = .ok (.astore_n 2, 1) := dk_77 (dk_at dksX2_init_2_1 23 rfl rfl)
theorem dX2_init_2_46 : decode cX2_init_2 46 = .ok (.aload_n 2, 1) := dk_44 (dk_at dksX2_init_2_2 0 rfl rfl)
theorem dX2_init_2_47 : decode cX2_init_2 47 = .ok (.invokeinterface 38 1, 5) := by decide +kernel
theorem dX2_init_2_52 : decode cX2_init_2 52 = .ok (.ifCond .eq 34, 3) := dk_153 0 34 (dk_at dksX2_init_2_2 6 rfl rfl)
theorem dX2_init_2_55 : decode cX2_init_2 55 = .ok (.aload_n 2, 1) := dk_44 (dk_at dksX2_init_2_2 9 rfl rfl)
theorem dX2_init_2_56 : decode cX2_init_2 56 = .ok (.invokeinterface 44 1, 5) := by decide +kernel
theorem dX2_init_2_61 : decode cX2_init_2 61 = .ok (.checkcast 48, 3) := dk_192 0 48 (dk_at dksX2_init_2_2 15 rfl rfl)
theorem dX2_init_2_64 : decode cX2_init_2 64 = .ok (.astore_n 3, 1) := dk_78 (dk_at dksX2_init_2_2 18 rfl rfl)
theorem dX2_init_2_65 : decode cX2_init_2 65 = .ok (.aload_n 0, 1) := dk_42 (dk_at dksX2_init_2_2 19 rfl rfl)
theorem dX2_init_2_66 : decode cX2_init_2 66 = .ok (.getfield 12, 3) := dk_180 0 12 (dk_at dksX2_init_2_2 20 rfl rfl)
theorem dX2_init_2_69 : decode cX2_init_2 69 = .ok (.new 48, 3) := dk_187 0 48 (dk_at dksX2_init_2_3 0 rfl rfl)
theorem dX2_init_2_72 : decode cX2_init_2 72 = .ok (.dup, 1) := dk_89 (dk_at dksX2_init_2_3 3 rfl rfl)
theorem dX2_init_2_73 : decode cX2_init_2 73 = .ok (.aload_n 3, 1) := dk_45 (dk_at dksX2_init_2_3 4 rfl rfl)
theorem dX2_init_2_74 : decode cX2_init_2 74 = .ok (.invokespecial 50, 3) := dk_183 0 50 (dk_at dksX2_init_2_3 5 rfl rfl)
theorem dX2_init_2_77 : decode cX2_init_2 77 = .ok (.invokeinterface 53 2, 5) := by decide +kernel
theorem dX2_init_2_82 : decode cX2_init_2 82 = .ok (.pop, 1) := dk_87 (dk_at dksX2_init_2_3 13 rfl rfl)
theorem dX2_init_2_83 : decode cX2_init_2 83 = .ok (.goto (-37), 3) := dk_167 255 219 (dk_at dksX2_init_2_3 14 rfl rfl)
theorem dX2_init_2_86 : decode cX2_init_2 86 = .ok (.aload_n 0, 1) := dk_42 (dk_at dksX2_init_2_3 17 rfl rfl)
theorem dX2_init_2_87 : decode cX2_init_2 87 = .ok (.aload_n 1, 1) := dk_43 (dk_at dksX2_init_2_3 18 rfl rfl)
theorem dX2_init_2_88 : decode cX2_init_2 88 = .ok (.getfield 57, 3) := dk_180 0 57 (dk_at dksX2_init_2_3 19 rfl rfl)
theorem dX2_init_2_91 : decode cX2_init_2 91 = .ok (.putfield 57, 3) := dk_181 0 57 (dk_at dksX2_init_2_4 0 rfl rfl)
theorem dX2_init_2_94 : decode cX2_init_2 94 = .ok (.aload_n 0, 1) := dk_42 (dk_at dksX2_init_2_4 3 rfl rfl)
theorem dX2_init_2_95 : decode cX2_init_2 95 = .ok (.aload_n 1, 1) := dk_43 (dk_at dksX2_init_2_4 4 rfl rfl)
theorem dX2_init_2_96 : decode cX2_init_2 96 = .ok (.getfield 18, 3) := dk_180 0 18 (dk_at dksX2_init_2_4 5 rfl rfl)
theorem dX2_init_2_99 : decode cX2_init_2 99 = .ok (.putfield 18, 3) := dk_181 0 18 (dk_at dksX2_init_2_4 8 rfl rfl)
theorem dX2_init_2_102 : decode cX2_init_2 102 = .ok (.aload_n 0, 1) := dk_42 (dk_at dksX2_init_2_4 11 rfl rfl)
theorem dX2_init_2_103 : decode cX2_init_2 103 = .ok (.aload_n 1, 1) := dk_43 (dk_at dksX2_init_2_4 12 rfl rfl)
theorem dX2_init_2_104 : decode cX2_init_2 104 = .ok (.getfield 60, 3) := dk_180 0 60 (dk_at dksX2_init_2_4 13 rfl rfl)
theorem dX2_init_2_107 : decode cX2_init_2 107 = .ok (.putfield 60, 3) := dk_181 0 60 (dk_at dksX2_init_2_4 16 rfl rfl)
theorem dX2_init_2_110 : decode cX2_init_2 110 = .ok (.aload_n 0, 1) := dk_42 (dk_at dksX2_init_2_4 19 rfl rfl)
theorem dX2_init_2_111 : decode cX2_init_2 111 = .ok (.aload_n 1, 1) := dk_43 (dk_at dksX2_init_2_4 20 rfl rfl)
theorem dX2_init_2_112 : decode cX2_init_2 112 = .ok (.getfield 63, 3) := dk_180 0 63 (dk_at dksX2_init_2_4 21 rfl rfl)
theorem dX2_init_2_115 : decode cX2_init_2 115 = .ok (.putfield 63, 3) := dk_181 0 63 (dk_at dksX2_init_2_5 0 rfl rfl)
theorem dX2_init_2_118 : decode cX2_init_2 118 = .ok (.aload_n 0, 1) := dk_42 (dk_at dksX2_init_2_5 3 rfl rfl)
theorem dX2_init_2_119 : decode cX2_init_2 119 = .ok (.aload_n 1, 1) := dk_43 (dk_at dksX2_init_2_5 4 rfl rfl)
theorem dX2_init_2_120 : decode cX2_init_2 120 = .ok (.getfield 66, 3) := dk_180 0 66 (dk_at dksX2_init_2_5 5 rfl rfl)
theorem dX2_init_2_123 : decode cX2_init_2 123 = .ok (.putfield 66, 3) := dk_181 0 66 (dk_at dksX2_init_2_5 8 rfl rfl)
theorem dX2_init_2_126 : decode cX2_init_2 126 = .ok (.return_, 1) := dk_177 (dk_at dksX2_init_2_5 11 rfl rfl)
abbrev cX2_tellsBracket : ByteArray := prog_6_method_3_code
def yX2_tellsBracket : MethodName := ⟨RX2, "tellsBracket", "(II)I"⟩
def dkwX2_tellsBracket_4 : List UInt8 := [182, 0, 99, 29, 172]
abbrev dktX2_tellsBracket_4 : List UInt8 := dkwX2_tellsBracket_4 ++ []
def dkwX2_tellsBracket_3 : List UInt8 := [27, 182, 0, 91, 62, 42, 180, 0, 25, 180, 0, 81, 29, 187, 0, 94, 89, 27, 28, 183, 0, 96]
abbrev dktX2_tellsBracket_3 : List UInt8 := dkwX2_tellsBracket_3 ++ dktX2_tellsBracket_4
def dkwX2_tellsBracket_2 : List UInt8 := [180, 0, 81, 182, 0, 85, 8, 162, 0, 7, 4, 167, 0, 4, 3, 4, 8, 184, 0, 77, 42, 180, 0, 25]
abbrev dktX2_tellsBracket_2 : List UInt8 := dkwX2_tellsBracket_2 ++ dktX2_tellsBracket_3
def dkwX2_tellsBracket_1 : List UInt8 := [160, 0, 7, 4, 167, 0, 4, 3, 7, 42, 180, 0, 25, 27, 182, 0, 73, 184, 0, 77, 42, 180, 0, 25]
abbrev dktX2_tellsBracket_1 : List UInt8 := dkwX2_tellsBracket_1 ++ dktX2_tellsBracket_2
def dkwX2_tellsBracket_0 : List UInt8 := [27, 4, 17, 39, 15, 184, 0, 69, 28, 3, 16, 60, 184, 0, 69, 42, 180, 0, 25, 27, 182, 0, 73, 2]
abbrev dktX2_tellsBracket_0 : List UInt8 := dkwX2_tellsBracket_0 ++ dktX2_tellsBracket_1
theorem dksX2_tellsBracket_0 : cX2_tellsBracket.data.toList.drop 0 = dktX2_tellsBracket_0 := by decide +kernel
theorem dksX2_tellsBracket_1 : cX2_tellsBracket.data.toList.drop 24 = dktX2_tellsBracket_1 := dk_seg dksX2_tellsBracket_0 24 rfl rfl
theorem dksX2_tellsBracket_2 : cX2_tellsBracket.data.toList.drop 48 = dktX2_tellsBracket_2 := dk_seg dksX2_tellsBracket_1 24 rfl rfl
theorem dksX2_tellsBracket_3 : cX2_tellsBracket.data.toList.drop 72 = dktX2_tellsBracket_3 := dk_seg dksX2_tellsBracket_2 24 rfl rfl
theorem dksX2_tellsBracket_4 : cX2_tellsBracket.data.toList.drop 94 = dktX2_tellsBracket_4 := dk_seg dksX2_tellsBracket_3 22 rfl rfl
theorem dX2_tellsBracket_0 : decode cX2_tellsBracket 0 = .ok (.iload_n 1, 1) := dk_27 (dk_at dksX2_tellsBracket_0 0 rfl rfl)
theorem dX2_tellsBracket_1 : decode cX2_tellsBracket 1 = .ok (.iconst 1, 1) := dk_4 (dk_at dksX2_tellsBracket_0 1 rfl rfl)
theorem dX2_tellsBracket_2 : decode cX2_tellsBracket 2 = .ok (.sipush 9999, 3) := dk_17 39 15 (dk_at dksX2_tellsBracket_0 2 rfl rfl)
theorem dX2_tellsBracket_5 : decode cX2_tellsBracket 5 = .ok (.invokestatic 69, 3) := dk_184 0 69 (dk_at dksX2_tellsBracket_0 5 rfl rfl)
theorem dX2_tellsBracket_8 : decode cX2_tellsBracket 8 = .ok (.iload_n 2, 1) := dk_28 (dk_at dksX2_tellsBracket_0 8 rfl rfl)
theorem dX2_tellsBracket_9 : decode cX2_tellsBracket 9 = .ok (.iconst 0, 1) := dk_3 (dk_at dksX2_tellsBracket_0 9 rfl rfl)
theorem dX2_tellsBracket_10 : decode cX2_tellsBracket 10 = .ok (.bipush 60, 2) := dk_16 60 (dk_at dksX2_tellsBracket_0 10 rfl rfl)
theorem dX2_tellsBracket_12 : decode cX2_tellsBracket 12 = .ok (.invokestatic 69, 3) := dk_184 0 69 (dk_at dksX2_tellsBracket_0 12 rfl rfl)
theorem dX2_tellsBracket_15 : decode cX2_tellsBracket 15 = .ok (.aload_n 0, 1) := dk_42 (dk_at dksX2_tellsBracket_0 15 rfl rfl)
theorem dX2_tellsBracket_16 : decode cX2_tellsBracket 16 = .ok (.getfield 25, 3) := dk_180 0 25 (dk_at dksX2_tellsBracket_0 16 rfl rfl)
theorem dX2_tellsBracket_19 : decode cX2_tellsBracket 19 = .ok (.iload_n 1, 1) := dk_27 (dk_at dksX2_tellsBracket_0 19 rfl rfl)
theorem dX2_tellsBracket_20 : decode cX2_tellsBracket 20 = .ok (.invokevirtual 73, 3) := dk_182 0 73 (dk_at dksX2_tellsBracket_0 20 rfl rfl)
theorem dX2_tellsBracket_23 : decode cX2_tellsBracket 23 = .ok (.iconst (-1), 1) := dk_2 (dk_at dksX2_tellsBracket_0 23 rfl rfl)
theorem dX2_tellsBracket_24 : decode cX2_tellsBracket 24 = .ok (.if_icmp .ne 7, 3) := dk_160 0 7 (dk_at dksX2_tellsBracket_1 0 rfl rfl)
theorem dX2_tellsBracket_27 : decode cX2_tellsBracket 27 = .ok (.iconst 1, 1) := dk_4 (dk_at dksX2_tellsBracket_1 3 rfl rfl)
theorem dX2_tellsBracket_28 : decode cX2_tellsBracket 28 = .ok (.goto 4, 3) := dk_167 0 4 (dk_at dksX2_tellsBracket_1 4 rfl rfl)
theorem dX2_tellsBracket_31 : decode cX2_tellsBracket 31 = .ok (.iconst 0, 1) := dk_3 (dk_at dksX2_tellsBracket_1 7 rfl rfl)
theorem dX2_tellsBracket_32 : decode cX2_tellsBracket 32 = .ok (.iconst 4, 1) := dk_7 (dk_at dksX2_tellsBracket_1 8 rfl rfl)
theorem dX2_tellsBracket_33 : decode cX2_tellsBracket 33 = .ok (.aload_n 0, 1) := dk_42 (dk_at dksX2_tellsBracket_1 9 rfl rfl)
theorem dX2_tellsBracket_34 : decode cX2_tellsBracket 34 = .ok (.getfield 25, 3) := dk_180 0 25 (dk_at dksX2_tellsBracket_1 10 rfl rfl)
theorem dX2_tellsBracket_37 : decode cX2_tellsBracket 37 = .ok (.iload_n 1, 1) := dk_27 (dk_at dksX2_tellsBracket_1 13 rfl rfl)
theorem dX2_tellsBracket_38 : decode cX2_tellsBracket 38 = .ok (.invokevirtual 73, 3) := dk_182 0 73 (dk_at dksX2_tellsBracket_1 14 rfl rfl)
theorem dX2_tellsBracket_41 : decode cX2_tellsBracket 41 = .ok (.invokestatic 77, 3) := dk_184 0 77 (dk_at dksX2_tellsBracket_1 17 rfl rfl)
theorem dX2_tellsBracket_44 : decode cX2_tellsBracket 44 = .ok (.aload_n 0, 1) := dk_42 (dk_at dksX2_tellsBracket_1 20 rfl rfl)
theorem dX2_tellsBracket_45 : decode cX2_tellsBracket 45 = .ok (.getfield 25, 3) := dk_180 0 25 (dk_at dksX2_tellsBracket_1 21 rfl rfl)
theorem dX2_tellsBracket_48 : decode cX2_tellsBracket 48 = .ok (.getfield 81, 3) := dk_180 0 81 (dk_at dksX2_tellsBracket_2 0 rfl rfl)
theorem dX2_tellsBracket_51 : decode cX2_tellsBracket 51 = .ok (.invokevirtual 85, 3) := dk_182 0 85 (dk_at dksX2_tellsBracket_2 3 rfl rfl)
theorem dX2_tellsBracket_54 : decode cX2_tellsBracket 54 = .ok (.iconst 5, 1) := dk_8 (dk_at dksX2_tellsBracket_2 6 rfl rfl)
theorem dX2_tellsBracket_55 : decode cX2_tellsBracket 55 = .ok (.if_icmp .ge 7, 3) := dk_162 0 7 (dk_at dksX2_tellsBracket_2 7 rfl rfl)
theorem dX2_tellsBracket_58 : decode cX2_tellsBracket 58 = .ok (.iconst 1, 1) := dk_4 (dk_at dksX2_tellsBracket_2 10 rfl rfl)
theorem dX2_tellsBracket_59 : decode cX2_tellsBracket 59 = .ok (.goto 4, 3) := dk_167 0 4 (dk_at dksX2_tellsBracket_2 11 rfl rfl)
theorem dX2_tellsBracket_62 : decode cX2_tellsBracket 62 = .ok (.iconst 0, 1) := dk_3 (dk_at dksX2_tellsBracket_2 14 rfl rfl)
theorem dX2_tellsBracket_63 : decode cX2_tellsBracket 63 = .ok (.iconst 1, 1) := dk_4 (dk_at dksX2_tellsBracket_2 15 rfl rfl)
theorem dX2_tellsBracket_64 : decode cX2_tellsBracket 64 = .ok (.iconst 5, 1) := dk_8 (dk_at dksX2_tellsBracket_2 16 rfl rfl)
theorem dX2_tellsBracket_65 : decode cX2_tellsBracket 65 = .ok (.invokestatic 77, 3) := dk_184 0 77 (dk_at dksX2_tellsBracket_2 17 rfl rfl)
theorem dX2_tellsBracket_68 : decode cX2_tellsBracket 68 = .ok (.aload_n 0, 1) := dk_42 (dk_at dksX2_tellsBracket_2 20 rfl rfl)
theorem dX2_tellsBracket_69 : decode cX2_tellsBracket 69 = .ok (.getfield 25, 3) := dk_180 0 25 (dk_at dksX2_tellsBracket_2 21 rfl rfl)
theorem dX2_tellsBracket_72 : decode cX2_tellsBracket 72 = .ok (.iload_n 1, 1) := dk_27 (dk_at dksX2_tellsBracket_3 0 rfl rfl)
theorem dX2_tellsBracket_73 : decode cX2_tellsBracket 73 = .ok (.invokevirtual 91, 3) := dk_182 0 91 (dk_at dksX2_tellsBracket_3 1 rfl rfl)
theorem dX2_tellsBracket_76 : decode cX2_tellsBracket 76 = .ok (.istore_n 3, 1) := dk_62 (dk_at dksX2_tellsBracket_3 4 rfl rfl)
theorem dX2_tellsBracket_77 : decode cX2_tellsBracket 77 = .ok (.aload_n 0, 1) := dk_42 (dk_at dksX2_tellsBracket_3 5 rfl rfl)
theorem dX2_tellsBracket_78 : decode cX2_tellsBracket 78 = .ok (.getfield 25, 3) := dk_180 0 25 (dk_at dksX2_tellsBracket_3 6 rfl rfl)
theorem dX2_tellsBracket_81 : decode cX2_tellsBracket 81 = .ok (.getfield 81, 3) := dk_180 0 81 (dk_at dksX2_tellsBracket_3 9 rfl rfl)
theorem dX2_tellsBracket_84 : decode cX2_tellsBracket 84 = .ok (.iload_n 3, 1) := dk_29 (dk_at dksX2_tellsBracket_3 12 rfl rfl)
theorem dX2_tellsBracket_85 : decode cX2_tellsBracket 85 = .ok (.new 94, 3) := dk_187 0 94 (dk_at dksX2_tellsBracket_3 13 rfl rfl)
theorem dX2_tellsBracket_88 : decode cX2_tellsBracket 88 = .ok (.dup, 1) := dk_89 (dk_at dksX2_tellsBracket_3 16 rfl rfl)
theorem dX2_tellsBracket_89 : decode cX2_tellsBracket 89 = .ok (.iload_n 1, 1) := dk_27 (dk_at dksX2_tellsBracket_3 17 rfl rfl)
theorem dX2_tellsBracket_90 : decode cX2_tellsBracket 90 = .ok (.iload_n 2, 1) := dk_28 (dk_at dksX2_tellsBracket_3 18 rfl rfl)
theorem dX2_tellsBracket_91 : decode cX2_tellsBracket 91 = .ok (.invokespecial 96, 3) := dk_183 0 96 (dk_at dksX2_tellsBracket_3 19 rfl rfl)
theorem dX2_tellsBracket_94 : decode cX2_tellsBracket 94 = .ok (.invokevirtual 99, 3) := dk_182 0 99 (dk_at dksX2_tellsBracket_4 0 rfl rfl)
theorem dX2_tellsBracket_97 : decode cX2_tellsBracket 97 = .ok (.iload_n 3, 1) := dk_29 (dk_at dksX2_tellsBracket_4 3 rfl rfl)
theorem dX2_tellsBracket_98 : decode cX2_tellsBracket 98 = .ok (.ireturn, 1) := dk_172 (dk_at dksX2_tellsBracket_4 4 rfl rfl)
abbrev cX2_drops : ByteArray := prog_6_method_4_code
def yX2_drops : MethodName := ⟨RX2, "drops", "(I)I"⟩
def dkwX2_drops_2 : List UInt8 := [180, 0, 81, 27, 182, 0, 111, 192, 0, 94, 77, 44, 180, 0, 115, 172]
abbrev dktX2_drops_2 : List UInt8 := dkwX2_drops_2 ++ []
def dkwX2_drops_1 : List UInt8 := [42, 180, 0, 25, 180, 0, 81, 182, 0, 105, 192, 0, 94, 180, 0, 108, 184, 0, 77, 42, 180, 0, 25]
abbrev dktX2_drops_1 : List UInt8 := dkwX2_drops_1 ++ dktX2_drops_2
def dkwX2_drops_0 : List UInt8 := [27, 42, 180, 0, 25, 180, 0, 81, 182, 0, 85, 184, 0, 102, 27, 158, 0, 7, 4, 167, 0, 4, 3, 8]
abbrev dktX2_drops_0 : List UInt8 := dkwX2_drops_0 ++ dktX2_drops_1
theorem dksX2_drops_0 : cX2_drops.data.toList.drop 0 = dktX2_drops_0 := by decide +kernel
theorem dksX2_drops_1 : cX2_drops.data.toList.drop 24 = dktX2_drops_1 := dk_seg dksX2_drops_0 24 rfl rfl
theorem dksX2_drops_2 : cX2_drops.data.toList.drop 47 = dktX2_drops_2 := dk_seg dksX2_drops_1 23 rfl rfl
theorem dX2_drops_0 : decode cX2_drops 0 = .ok (.iload_n 1, 1) := dk_27 (dk_at dksX2_drops_0 0 rfl rfl)
theorem dX2_drops_1 : decode cX2_drops 1 = .ok (.aload_n 0, 1) := dk_42 (dk_at dksX2_drops_0 1 rfl rfl)
theorem dX2_drops_2 : decode cX2_drops 2 = .ok (.getfield 25, 3) := dk_180 0 25 (dk_at dksX2_drops_0 2 rfl rfl)
theorem dX2_drops_5 : decode cX2_drops 5 = .ok (.getfield 81, 3) := dk_180 0 81 (dk_at dksX2_drops_0 5 rfl rfl)
theorem dX2_drops_8 : decode cX2_drops 8 = .ok (.invokevirtual 85, 3) := dk_182 0 85 (dk_at dksX2_drops_0 8 rfl rfl)
theorem dX2_drops_11 : decode cX2_drops 11 = .ok (.invokestatic 102, 3) := dk_184 0 102 (dk_at dksX2_drops_0 11 rfl rfl)
theorem dX2_drops_14 : decode cX2_drops 14 = .ok (.iload_n 1, 1) := dk_27 (dk_at dksX2_drops_0 14 rfl rfl)
theorem dX2_drops_15 : decode cX2_drops 15 = .ok (.ifCond .le 7, 3) := dk_158 0 7 (dk_at dksX2_drops_0 15 rfl rfl)
theorem dX2_drops_18 : decode cX2_drops 18 = .ok (.iconst 1, 1) := dk_4 (dk_at dksX2_drops_0 18 rfl rfl)
theorem dX2_drops_19 : decode cX2_drops 19 = .ok (.goto 4, 3) := dk_167 0 4 (dk_at dksX2_drops_0 19 rfl rfl)
theorem dX2_drops_22 : decode cX2_drops 22 = .ok (.iconst 0, 1) := dk_3 (dk_at dksX2_drops_0 22 rfl rfl)
theorem dX2_drops_23 : decode cX2_drops 23 = .ok (.iconst 5, 1) := dk_8 (dk_at dksX2_drops_0 23 rfl rfl)
theorem dX2_drops_24 : decode cX2_drops 24 = .ok (.aload_n 0, 1) := dk_42 (dk_at dksX2_drops_1 0 rfl rfl)
theorem dX2_drops_25 : decode cX2_drops 25 = .ok (.getfield 25, 3) := dk_180 0 25 (dk_at dksX2_drops_1 1 rfl rfl)
theorem dX2_drops_28 : decode cX2_drops 28 = .ok (.getfield 81, 3) := dk_180 0 81 (dk_at dksX2_drops_1 4 rfl rfl)
theorem dX2_drops_31 : decode cX2_drops 31 = .ok (.invokevirtual 105, 3) := dk_182 0 105 (dk_at dksX2_drops_1 7 rfl rfl)
theorem dX2_drops_34 : decode cX2_drops 34 = .ok (.checkcast 94, 3) := dk_192 0 94 (dk_at dksX2_drops_1 10 rfl rfl)
theorem dX2_drops_37 : decode cX2_drops 37 = .ok (.getfield 108, 3) := dk_180 0 108 (dk_at dksX2_drops_1 13 rfl rfl)
theorem dX2_drops_40 : decode cX2_drops 40 = .ok (.invokestatic 77, 3) := dk_184 0 77 (dk_at dksX2_drops_1 16 rfl rfl)
theorem dX2_drops_43 : decode cX2_drops 43 = .ok (.aload_n 0, 1) := dk_42 (dk_at dksX2_drops_1 19 rfl rfl)
theorem dX2_drops_44 : decode cX2_drops 44 = .ok (.getfield 25, 3) := dk_180 0 25 (dk_at dksX2_drops_1 20 rfl rfl)
theorem dX2_drops_47 : decode cX2_drops 47 = .ok (.getfield 81, 3) := dk_180 0 81 (dk_at dksX2_drops_2 0 rfl rfl)
theorem dX2_drops_50 : decode cX2_drops 50 = .ok (.iload_n 1, 1) := dk_27 (dk_at dksX2_drops_2 3 rfl rfl)
theorem dX2_drops_51 : decode cX2_drops 51 = .ok (.invokevirtual 111, 3) := dk_182 0 111 (dk_at dksX2_drops_2 4 rfl rfl)
theorem dX2_drops_54 : decode cX2_drops 54 = .ok (.checkcast 94, 3) := dk_192 0 94 (dk_at dksX2_drops_2 7 rfl rfl)
theorem dX2_drops_57 : decode cX2_drops 57 = .ok (.astore_n 2, 1) := dk_77 (dk_at dksX2_drops_2 10 rfl rfl)
theorem dX2_drops_58 : decode cX2_drops 58 = .ok (.aload_n 2, 1) := dk_44 (dk_at dksX2_drops_2 11 rfl rfl)
theorem dX2_drops_59 : decode cX2_drops 59 = .ok (.getfield 115, 3) := dk_180 0 115 (dk_at dksX2_drops_2 12 rfl rfl)
theorem dX2_drops_62 : decode cX2_drops 62 = .ok (.ireturn, 1) := dk_172 (dk_at dksX2_drops_2 15 rfl rfl)
abbrev cX2_tellsRate : ByteArray := prog_6_method_5_code
def yX2_tellsRate : MethodName := ⟨RX2, "tellsRate", "(II)I"⟩
def dkwX2_tellsRate_2 : List UInt8 := [181, 0, 108, 21, 4, 172]
abbrev dktX2_tellsRate_2 : List UInt8 := dkwX2_tellsRate_2 ++ []
def dkwX2_tellsRate_1 : List UInt8 := [180, 0, 25, 180, 0, 81, 27, 182, 0, 118, 192, 0, 94, 78, 45, 180, 0, 108, 54, 4, 45, 28]
abbrev dktX2_tellsRate_1 : List UInt8 := dkwX2_tellsRate_1 ++ dktX2_tellsRate_2
def dkwX2_tellsRate_0 : List UInt8 := [27, 42, 180, 0, 25, 180, 0, 81, 182, 0, 85, 184, 0, 102, 28, 3, 16, 60, 184, 0, 69, 42]
abbrev dktX2_tellsRate_0 : List UInt8 := dkwX2_tellsRate_0 ++ dktX2_tellsRate_1
theorem dksX2_tellsRate_0 : cX2_tellsRate.data.toList.drop 0 = dktX2_tellsRate_0 := by decide +kernel
theorem dksX2_tellsRate_1 : cX2_tellsRate.data.toList.drop 22 = dktX2_tellsRate_1 := dk_seg dksX2_tellsRate_0 22 rfl rfl
theorem dksX2_tellsRate_2 : cX2_tellsRate.data.toList.drop 44 = dktX2_tellsRate_2 := dk_seg dksX2_tellsRate_1 22 rfl rfl
theorem dX2_tellsRate_0 : decode cX2_tellsRate 0 = .ok (.iload_n 1, 1) := dk_27 (dk_at dksX2_tellsRate_0 0 rfl rfl)
theorem dX2_tellsRate_1 : decode cX2_tellsRate 1 = .ok (.aload_n 0, 1) := dk_42 (dk_at dksX2_tellsRate_0 1 rfl rfl)
theorem dX2_tellsRate_2 : decode cX2_tellsRate 2 = .ok (.getfield 25, 3) := dk_180 0 25 (dk_at dksX2_tellsRate_0 2 rfl rfl)
theorem dX2_tellsRate_5 : decode cX2_tellsRate 5 = .ok (.getfield 81, 3) := dk_180 0 81 (dk_at dksX2_tellsRate_0 5 rfl rfl)
theorem dX2_tellsRate_8 : decode cX2_tellsRate 8 = .ok (.invokevirtual 85, 3) := dk_182 0 85 (dk_at dksX2_tellsRate_0 8 rfl rfl)
theorem dX2_tellsRate_11 : decode cX2_tellsRate 11 = .ok (.invokestatic 102, 3) := dk_184 0 102 (dk_at dksX2_tellsRate_0 11 rfl rfl)
theorem dX2_tellsRate_14 : decode cX2_tellsRate 14 = .ok (.iload_n 2, 1) := dk_28 (dk_at dksX2_tellsRate_0 14 rfl rfl)
theorem dX2_tellsRate_15 : decode cX2_tellsRate 15 = .ok (.iconst 0, 1) := dk_3 (dk_at dksX2_tellsRate_0 15 rfl rfl)
theorem dX2_tellsRate_16 : decode cX2_tellsRate 16 = .ok (.bipush 60, 2) := dk_16 60 (dk_at dksX2_tellsRate_0 16 rfl rfl)
theorem dX2_tellsRate_18 : decode cX2_tellsRate 18 = .ok (.invokestatic 69, 3) := dk_184 0 69 (dk_at dksX2_tellsRate_0 18 rfl rfl)
theorem dX2_tellsRate_21 : decode cX2_tellsRate 21 = .ok (.aload_n 0, 1) := dk_42 (dk_at dksX2_tellsRate_0 21 rfl rfl)
theorem dX2_tellsRate_22 : decode cX2_tellsRate 22 = .ok (.getfield 25, 3) := dk_180 0 25 (dk_at dksX2_tellsRate_1 0 rfl rfl)
theorem dX2_tellsRate_25 : decode cX2_tellsRate 25 = .ok (.getfield 81, 3) := dk_180 0 81 (dk_at dksX2_tellsRate_1 3 rfl rfl)
theorem dX2_tellsRate_28 : decode cX2_tellsRate 28 = .ok (.iload_n 1, 1) := dk_27 (dk_at dksX2_tellsRate_1 6 rfl rfl)
theorem dX2_tellsRate_29 : decode cX2_tellsRate 29 = .ok (.invokevirtual 118, 3) := dk_182 0 118 (dk_at dksX2_tellsRate_1 7 rfl rfl)
theorem dX2_tellsRate_32 : decode cX2_tellsRate 32 = .ok (.checkcast 94, 3) := dk_192 0 94 (dk_at dksX2_tellsRate_1 10 rfl rfl)
theorem dX2_tellsRate_35 : decode cX2_tellsRate 35 = .ok (.astore_n 3, 1) := dk_78 (dk_at dksX2_tellsRate_1 13 rfl rfl)
theorem dX2_tellsRate_36 : decode cX2_tellsRate 36 = .ok (.aload_n 3, 1) := dk_45 (dk_at dksX2_tellsRate_1 14 rfl rfl)
theorem dX2_tellsRate_37 : decode cX2_tellsRate 37 = .ok (.getfield 108, 3) := dk_180 0 108 (dk_at dksX2_tellsRate_1 15 rfl rfl)
theorem dX2_tellsRate_40 : decode cX2_tellsRate 40 = .ok (.istore 4, 2) := dk_54 4 (dk_at dksX2_tellsRate_1 18 rfl rfl)
theorem dX2_tellsRate_42 : decode cX2_tellsRate 42 = .ok (.aload_n 3, 1) := dk_45 (dk_at dksX2_tellsRate_1 20 rfl rfl)
theorem dX2_tellsRate_43 : decode cX2_tellsRate 43 = .ok (.iload_n 2, 1) := dk_28 (dk_at dksX2_tellsRate_1 21 rfl rfl)
theorem dX2_tellsRate_44 : decode cX2_tellsRate 44 = .ok (.putfield 108, 3) := dk_181 0 108 (dk_at dksX2_tellsRate_2 0 rfl rfl)
theorem dX2_tellsRate_47 : decode cX2_tellsRate 47 = .ok (.iload 4, 2) := dk_21 4 (dk_at dksX2_tellsRate_2 3 rfl rfl)
theorem dX2_tellsRate_49 : decode cX2_tellsRate 49 = .ok (.ireturn, 1) := dk_172 (dk_at dksX2_tellsRate_2 5 rfl rfl)
abbrev cX2_tellsCredit : ByteArray := prog_6_method_6_code
def yX2_tellsCredit : MethodName := ⟨RX2, "tellsCredit", "(III)I"⟩
def dkwX2_tellsCredit_2 : List UInt8 := [42, 180, 0, 25, 29, 181, 0, 127, 21, 4, 172]
abbrev dktX2_tellsCredit_2 : List UInt8 := dkwX2_tellsCredit_2 ++ []
def dkwX2_tellsCredit_1 : List UInt8 := [180, 0, 25, 180, 0, 121, 54, 4, 42, 180, 0, 25, 27, 181, 0, 121, 42, 180, 0, 25, 28, 181, 0, 124]
abbrev dktX2_tellsCredit_1 : List UInt8 := dkwX2_tellsCredit_1 ++ dktX2_tellsCredit_2
def dkwX2_tellsCredit_0 : List UInt8 := [27, 3, 17, 0, 200, 184, 0, 69, 28, 3, 17, 39, 15, 184, 0, 69, 29, 3, 16, 30, 184, 0, 69, 42]
abbrev dktX2_tellsCredit_0 : List UInt8 := dkwX2_tellsCredit_0 ++ dktX2_tellsCredit_1
theorem dksX2_tellsCredit_0 : cX2_tellsCredit.data.toList.drop 0 = dktX2_tellsCredit_0 := by decide +kernel
theorem dksX2_tellsCredit_1 : cX2_tellsCredit.data.toList.drop 24 = dktX2_tellsCredit_1 := dk_seg dksX2_tellsCredit_0 24 rfl rfl
theorem dksX2_tellsCredit_2 : cX2_tellsCredit.data.toList.drop 48 = dktX2_tellsCredit_2 := dk_seg dksX2_tellsCredit_1 24 rfl rfl
theorem dX2_tellsCredit_0 : decode cX2_tellsCredit 0 = .ok (.iload_n 1, 1) := dk_27 (dk_at dksX2_tellsCredit_0 0 rfl rfl)
theorem dX2_tellsCredit_1 : decode cX2_tellsCredit 1 = .ok (.iconst 0, 1) := dk_3 (dk_at dksX2_tellsCredit_0 1 rfl rfl)
theorem dX2_tellsCredit_2 : decode cX2_tellsCredit 2 = .ok (.sipush 200, 3) := dk_17 0 200 (dk_at dksX2_tellsCredit_0 2 rfl rfl)
theorem dX2_tellsCredit_5 : decode cX2_tellsCredit 5 = .ok (.invokestatic 69, 3) := dk_184 0 69 (dk_at dksX2_tellsCredit_0 5 rfl rfl)
theorem dX2_tellsCredit_8 : decode cX2_tellsCredit 8 = .ok (.iload_n 2, 1) := dk_28 (dk_at dksX2_tellsCredit_0 8 rfl rfl)
theorem dX2_tellsCredit_9 : decode cX2_tellsCredit 9 = .ok (.iconst 0, 1) := dk_3 (dk_at dksX2_tellsCredit_0 9 rfl rfl)
theorem dX2_tellsCredit_10 : decode cX2_tellsCredit 10 = .ok (.sipush 9999, 3) := dk_17 39 15 (dk_at dksX2_tellsCredit_0 10 rfl rfl)
theorem dX2_tellsCredit_13 : decode cX2_tellsCredit 13 = .ok (.invokestatic 69, 3) := dk_184 0 69 (dk_at dksX2_tellsCredit_0 13 rfl rfl)
theorem dX2_tellsCredit_16 : decode cX2_tellsCredit 16 = .ok (.iload_n 3, 1) := dk_29 (dk_at dksX2_tellsCredit_0 16 rfl rfl)
theorem dX2_tellsCredit_17 : decode cX2_tellsCredit 17 = .ok (.iconst 0, 1) := dk_3 (dk_at dksX2_tellsCredit_0 17 rfl rfl)
theorem dX2_tellsCredit_18 : decode cX2_tellsCredit 18 = .ok (.bipush 30, 2) := dk_16 30 (dk_at dksX2_tellsCredit_0 18 rfl rfl)
theorem dX2_tellsCredit_20 : decode cX2_tellsCredit 20 = .ok (.invokestatic 69, 3) := dk_184 0 69 (dk_at dksX2_tellsCredit_0 20 rfl rfl)
theorem dX2_tellsCredit_23 : decode cX2_tellsCredit 23 = .ok (.aload_n 0, 1) := dk_42 (dk_at dksX2_tellsCredit_0 23 rfl rfl)
theorem dX2_tellsCredit_24 : decode cX2_tellsCredit 24 = .ok (.getfield 25, 3) := dk_180 0 25 (dk_at dksX2_tellsCredit_1 0 rfl rfl)
theorem dX2_tellsCredit_27 : decode cX2_tellsCredit 27 = .ok (.getfield 121, 3) := dk_180 0 121 (dk_at dksX2_tellsCredit_1 3 rfl rfl)
theorem dX2_tellsCredit_30 : decode cX2_tellsCredit 30 = .ok (.istore 4, 2) := dk_54 4 (dk_at dksX2_tellsCredit_1 6 rfl rfl)
theorem dX2_tellsCredit_32 : decode cX2_tellsCredit 32 = .ok (.aload_n 0, 1) := dk_42 (dk_at dksX2_tellsCredit_1 8 rfl rfl)
theorem dX2_tellsCredit_33 : decode cX2_tellsCredit 33 = .ok (.getfield 25, 3) := dk_180 0 25 (dk_at dksX2_tellsCredit_1 9 rfl rfl)
theorem dX2_tellsCredit_36 : decode cX2_tellsCredit 36 = .ok (.iload_n 1, 1) := dk_27 (dk_at dksX2_tellsCredit_1 12 rfl rfl)
theorem dX2_tellsCredit_37 : decode cX2_tellsCredit 37 = .ok (.putfield 121, 3) := dk_181 0 121 (dk_at dksX2_tellsCredit_1 13 rfl rfl)
theorem dX2_tellsCredit_40 : decode cX2_tellsCredit 40 = .ok (.aload_n 0, 1) := dk_42 (dk_at dksX2_tellsCredit_1 16 rfl rfl)
theorem dX2_tellsCredit_41 : decode cX2_tellsCredit 41 = .ok (.getfield 25, 3) := dk_180 0 25 (dk_at dksX2_tellsCredit_1 17 rfl rfl)
theorem dX2_tellsCredit_44 : decode cX2_tellsCredit 44 = .ok (.iload_n 2, 1) := dk_28 (dk_at dksX2_tellsCredit_1 20 rfl rfl)
theorem dX2_tellsCredit_45 : decode cX2_tellsCredit 45 = .ok (.putfield 124, 3) := dk_181 0 124 (dk_at dksX2_tellsCredit_1 21 rfl rfl)
theorem dX2_tellsCredit_48 : decode cX2_tellsCredit 48 = .ok (.aload_n 0, 1) := dk_42 (dk_at dksX2_tellsCredit_2 0 rfl rfl)
theorem dX2_tellsCredit_49 : decode cX2_tellsCredit 49 = .ok (.getfield 25, 3) := dk_180 0 25 (dk_at dksX2_tellsCredit_2 1 rfl rfl)
theorem dX2_tellsCredit_52 : decode cX2_tellsCredit 52 = .ok (.iload_n 3, 1) := dk_29 (dk_at dksX2_tellsCredit_2 4 rfl rfl)
theorem dX2_tellsCredit_53 : decode cX2_tellsCredit 53 = .ok (.putfield 127, 3) := dk_181 0 127 (dk_at dksX2_tellsCredit_2 5 rfl rfl)
theorem dX2_tellsCredit_56 : decode cX2_tellsCredit 56 = .ok (.iload 4, 2) := dk_21 4 (dk_at dksX2_tellsCredit_2 8 rfl rfl)
theorem dX2_tellsCredit_58 : decode cX2_tellsCredit 58 = .ok (.ireturn, 1) := dk_172 (dk_at dksX2_tellsCredit_2 10 rfl rfl)
abbrev cX2_tellsCap : ByteArray := prog_6_method_7_code
def yX2_tellsCap : MethodName := ⟨RX2, "tellsCap", "(II)I"⟩
def dkwX2_tellsCap_1 : List UInt8 := [180, 0, 25, 180, 0, 130, 27, 28, 79, 29, 172]
abbrev dktX2_tellsCap_1 : List UInt8 := dkwX2_tellsCap_1 ++ []
def dkwX2_tellsCap_0 : List UInt8 := [27, 6, 184, 0, 102, 28, 3, 17, 3, 231, 184, 0, 69, 42, 180, 0, 25, 180, 0, 130, 27, 46, 62, 42]
abbrev dktX2_tellsCap_0 : List UInt8 := dkwX2_tellsCap_0 ++ dktX2_tellsCap_1
theorem dksX2_tellsCap_0 : cX2_tellsCap.data.toList.drop 0 = dktX2_tellsCap_0 := by decide +kernel
theorem dksX2_tellsCap_1 : cX2_tellsCap.data.toList.drop 24 = dktX2_tellsCap_1 := dk_seg dksX2_tellsCap_0 24 rfl rfl
theorem dX2_tellsCap_0 : decode cX2_tellsCap 0 = .ok (.iload_n 1, 1) := dk_27 (dk_at dksX2_tellsCap_0 0 rfl rfl)
theorem dX2_tellsCap_1 : decode cX2_tellsCap 1 = .ok (.iconst 3, 1) := dk_6 (dk_at dksX2_tellsCap_0 1 rfl rfl)
theorem dX2_tellsCap_2 : decode cX2_tellsCap 2 = .ok (.invokestatic 102, 3) := dk_184 0 102 (dk_at dksX2_tellsCap_0 2 rfl rfl)
theorem dX2_tellsCap_5 : decode cX2_tellsCap 5 = .ok (.iload_n 2, 1) := dk_28 (dk_at dksX2_tellsCap_0 5 rfl rfl)
theorem dX2_tellsCap_6 : decode cX2_tellsCap 6 = .ok (.iconst 0, 1) := dk_3 (dk_at dksX2_tellsCap_0 6 rfl rfl)
theorem dX2_tellsCap_7 : decode cX2_tellsCap 7 = .ok (.sipush 999, 3) := dk_17 3 231 (dk_at dksX2_tellsCap_0 7 rfl rfl)
theorem dX2_tellsCap_10 : decode cX2_tellsCap 10 = .ok (.invokestatic 69, 3) := dk_184 0 69 (dk_at dksX2_tellsCap_0 10 rfl rfl)
theorem dX2_tellsCap_13 : decode cX2_tellsCap 13 = .ok (.aload_n 0, 1) := dk_42 (dk_at dksX2_tellsCap_0 13 rfl rfl)
theorem dX2_tellsCap_14 : decode cX2_tellsCap 14 = .ok (.getfield 25, 3) := dk_180 0 25 (dk_at dksX2_tellsCap_0 14 rfl rfl)
theorem dX2_tellsCap_17 : decode cX2_tellsCap 17 = .ok (.getfield 130, 3) := dk_180 0 130 (dk_at dksX2_tellsCap_0 17 rfl rfl)
theorem dX2_tellsCap_20 : decode cX2_tellsCap 20 = .ok (.iload_n 1, 1) := dk_27 (dk_at dksX2_tellsCap_0 20 rfl rfl)
theorem dX2_tellsCap_21 : decode cX2_tellsCap 21 = .ok (.iaload, 1) := dk_46 (dk_at dksX2_tellsCap_0 21 rfl rfl)
theorem dX2_tellsCap_22 : decode cX2_tellsCap 22 = .ok (.istore_n 3, 1) := dk_62 (dk_at dksX2_tellsCap_0 22 rfl rfl)
theorem dX2_tellsCap_23 : decode cX2_tellsCap 23 = .ok (.aload_n 0, 1) := dk_42 (dk_at dksX2_tellsCap_0 23 rfl rfl)
theorem dX2_tellsCap_24 : decode cX2_tellsCap 24 = .ok (.getfield 25, 3) := dk_180 0 25 (dk_at dksX2_tellsCap_1 0 rfl rfl)
theorem dX2_tellsCap_27 : decode cX2_tellsCap 27 = .ok (.getfield 130, 3) := dk_180 0 130 (dk_at dksX2_tellsCap_1 3 rfl rfl)
theorem dX2_tellsCap_30 : decode cX2_tellsCap 30 = .ok (.iload_n 1, 1) := dk_27 (dk_at dksX2_tellsCap_1 6 rfl rfl)
theorem dX2_tellsCap_31 : decode cX2_tellsCap 31 = .ok (.iload_n 2, 1) := dk_28 (dk_at dksX2_tellsCap_1 7 rfl rfl)
theorem dX2_tellsCap_32 : decode cX2_tellsCap 32 = .ok (.iastore, 1) := dk_79 (dk_at dksX2_tellsCap_1 8 rfl rfl)
theorem dX2_tellsCap_33 : decode cX2_tellsCap 33 = .ok (.iload_n 3, 1) := dk_29 (dk_at dksX2_tellsCap_1 9 rfl rfl)
theorem dX2_tellsCap_34 : decode cX2_tellsCap 34 = .ok (.ireturn, 1) := dk_172 (dk_at dksX2_tellsCap_1 10 rfl rfl)
abbrev cX2_comes : ByteArray := prog_6_method_8_code
def yX2_comes : MethodName := ⟨RX2, "comes", "()I"⟩
def dkwX2_comes_2 : List UInt8 := [185, 0, 53, 2, 0, 87, 42, 180, 0, 12, 185, 0, 134, 1, 0, 4, 100, 172]
abbrev dktX2_comes_2 : List UInt8 := dkwX2_comes_2 ++ []
def dkwX2_comes_1 : List UInt8 := [184, 0, 77, 42, 180, 0, 12, 187, 0, 48, 89, 42, 180, 0, 12, 185, 0, 134, 1, 0, 183, 0, 135]
abbrev dktX2_comes_1 : List UInt8 := dkwX2_comes_1 ++ dktX2_comes_2
def dkwX2_comes_0 : List UInt8 := [42, 180, 0, 12, 185, 0, 134, 1, 0, 16, 6, 162, 0, 7, 4, 167, 0, 4, 3, 4, 16, 6]
abbrev dktX2_comes_0 : List UInt8 := dkwX2_comes_0 ++ dktX2_comes_1
theorem dksX2_comes_0 : cX2_comes.data.toList.drop 0 = dktX2_comes_0 := by decide +kernel
theorem dksX2_comes_1 : cX2_comes.data.toList.drop 22 = dktX2_comes_1 := dk_seg dksX2_comes_0 22 rfl rfl
theorem dksX2_comes_2 : cX2_comes.data.toList.drop 45 = dktX2_comes_2 := dk_seg dksX2_comes_1 23 rfl rfl
theorem dX2_comes_0 : decode cX2_comes 0 = .ok (.aload_n 0, 1) := dk_42 (dk_at dksX2_comes_0 0 rfl rfl)
theorem dX2_comes_1 : decode cX2_comes 1 = .ok (.getfield 12, 3) := dk_180 0 12 (dk_at dksX2_comes_0 1 rfl rfl)
theorem dX2_comes_4 : decode cX2_comes 4 = .ok (.invokeinterface 134 1, 5) := by decide +kernel
theorem dX2_comes_9 : decode cX2_comes 9 = .ok (.bipush 6, 2) := dk_16 6 (dk_at dksX2_comes_0 9 rfl rfl)
theorem dX2_comes_11 : decode cX2_comes 11 = .ok (.if_icmp .ge 7, 3) := dk_162 0 7 (dk_at dksX2_comes_0 11 rfl rfl)
theorem dX2_comes_14 : decode cX2_comes 14 = .ok (.iconst 1, 1) := dk_4 (dk_at dksX2_comes_0 14 rfl rfl)
theorem dX2_comes_15 : decode cX2_comes 15 = .ok (.goto 4, 3) := dk_167 0 4 (dk_at dksX2_comes_0 15 rfl rfl)
theorem dX2_comes_18 : decode cX2_comes 18 = .ok (.iconst 0, 1) := dk_3 (dk_at dksX2_comes_0 18 rfl rfl)
theorem dX2_comes_19 : decode cX2_comes 19 = .ok (.iconst 1, 1) := dk_4 (dk_at dksX2_comes_0 19 rfl rfl)
theorem dX2_comes_20 : decode cX2_comes 20 = .ok (.bipush 6, 2) := dk_16 6 (dk_at dksX2_comes_0 20 rfl rfl)
theorem dX2_comes_22 : decode cX2_comes 22 = .ok (.invokestatic 77, 3) := dk_184 0 77 (dk_at dksX2_comes_1 0 rfl rfl)
theorem dX2_comes_25 : decode cX2_comes 25 = .ok (.aload_n 0, 1) := dk_42 (dk_at dksX2_comes_1 3 rfl rfl)
theorem dX2_comes_26 : decode cX2_comes 26 = .ok (.getfield 12, 3) := dk_180 0 12 (dk_at dksX2_comes_1 4 rfl rfl)
theorem dX2_comes_29 : decode cX2_comes 29 = .ok (.new 48, 3) := dk_187 0 48 (dk_at dksX2_comes_1 7 rfl rfl)
theorem dX2_comes_32 : decode cX2_comes 32 = .ok (.dup, 1) := dk_89 (dk_at dksX2_comes_1 10 rfl rfl)
theorem dX2_comes_33 : decode cX2_comes 33 = .ok (.aload_n 0, 1) := dk_42 (dk_at dksX2_comes_1 11 rfl rfl)
theorem dX2_comes_34 : decode cX2_comes 34 = .ok (.getfield 12, 3) := dk_180 0 12 (dk_at dksX2_comes_1 12 rfl rfl)
theorem dX2_comes_37 : decode cX2_comes 37 = .ok (.invokeinterface 134 1, 5) := by decide +kernel
theorem dX2_comes_42 : decode cX2_comes 42 = .ok (.invokespecial 135, 3) := dk_183 0 135 (dk_at dksX2_comes_1 20 rfl rfl)
theorem dX2_comes_45 : decode cX2_comes 45 = .ok (.invokeinterface 53 2, 5) := by decide +kernel
theorem dX2_comes_50 : decode cX2_comes 50 = .ok (.pop, 1) := dk_87 (dk_at dksX2_comes_2 5 rfl rfl)
theorem dX2_comes_51 : decode cX2_comes 51 = .ok (.aload_n 0, 1) := dk_42 (dk_at dksX2_comes_2 6 rfl rfl)
theorem dX2_comes_52 : decode cX2_comes 52 = .ok (.getfield 12, 3) := dk_180 0 12 (dk_at dksX2_comes_2 7 rfl rfl)
theorem dX2_comes_55 : decode cX2_comes 55 = .ok (.invokeinterface 134 1, 5) := by decide +kernel
theorem dX2_comes_60 : decode cX2_comes 60 = .ok (.iconst 1, 1) := dk_4 (dk_at dksX2_comes_2 15 rfl rfl)
theorem dX2_comes_61 : decode cX2_comes 61 = .ok (.isub, 1) := dk_100 (dk_at dksX2_comes_2 16 rfl rfl)
theorem dX2_comes_62 : decode cX2_comes 62 = .ok (.ireturn, 1) := dk_172 (dk_at dksX2_comes_2 17 rfl rfl)
abbrev cX2_earns : ByteArray := prog_6_method_10_code
def yX2_earns : MethodName := ⟨RX2, "earns", "(II)I"⟩
def dkwX2_earns_3 : List UInt8 := [28, 96, 181, 0, 63, 45, 180, 0, 143, 172]
abbrev dktX2_earns_3 : List UInt8 := dkwX2_earns_3 ++ []
def dkwX2_earns_2 : List UInt8 := [89, 180, 0, 143, 28, 96, 181, 0, 143, 45, 89, 180, 0, 146, 28, 96, 181, 0, 146, 42, 89, 180, 0, 63]
abbrev dktX2_earns_2 : List UInt8 := dkwX2_earns_2 ++ dktX2_earns_3
def dkwX2_earns_1 : List UInt8 := [163, 0, 7, 4, 167, 0, 4, 3, 16, 6, 45, 180, 0, 143, 28, 96, 17, 39, 15, 100, 184, 0, 77, 45]
abbrev dktX2_earns_1 : List UInt8 := dkwX2_earns_1 ++ dktX2_earns_2
def dkwX2_earns_0 : List UInt8 := [42, 27, 182, 0, 139, 78, 28, 4, 17, 39, 15, 184, 0, 69, 45, 180, 0, 143, 28, 96, 17, 39, 15]
abbrev dktX2_earns_0 : List UInt8 := dkwX2_earns_0 ++ dktX2_earns_1
theorem dksX2_earns_0 : cX2_earns.data.toList.drop 0 = dktX2_earns_0 := by decide +kernel
theorem dksX2_earns_1 : cX2_earns.data.toList.drop 23 = dktX2_earns_1 := dk_seg dksX2_earns_0 23 rfl rfl
theorem dksX2_earns_2 : cX2_earns.data.toList.drop 47 = dktX2_earns_2 := dk_seg dksX2_earns_1 24 rfl rfl
theorem dksX2_earns_3 : cX2_earns.data.toList.drop 71 = dktX2_earns_3 := dk_seg dksX2_earns_2 24 rfl rfl
theorem dX2_earns_0 : decode cX2_earns 0 = .ok (.aload_n 0, 1) := dk_42 (dk_at dksX2_earns_0 0 rfl rfl)
theorem dX2_earns_1 : decode cX2_earns 1 = .ok (.iload_n 1, 1) := dk_27 (dk_at dksX2_earns_0 1 rfl rfl)
theorem dX2_earns_2 : decode cX2_earns 2 = .ok (.invokevirtual 139, 3) := dk_182 0 139 (dk_at dksX2_earns_0 2 rfl rfl)
theorem dX2_earns_5 : decode cX2_earns 5 = .ok (.astore_n 3, 1) := dk_78 (dk_at dksX2_earns_0 5 rfl rfl)
theorem dX2_earns_6 : decode cX2_earns 6 = .ok (.iload_n 2, 1) := dk_28 (dk_at dksX2_earns_0 6 rfl rfl)
theorem dX2_earns_7 : decode cX2_earns 7 = .ok (.iconst 1, 1) := dk_4 (dk_at dksX2_earns_0 7 rfl rfl)
theorem dX2_earns_8 : decode cX2_earns 8 = .ok (.sipush 9999, 3) := dk_17 39 15 (dk_at dksX2_earns_0 8 rfl rfl)
theorem dX2_earns_11 : decode cX2_earns 11 = .ok (.invokestatic 69, 3) := dk_184 0 69 (dk_at dksX2_earns_0 11 rfl rfl)
theorem dX2_earns_14 : decode cX2_earns 14 = .ok (.aload_n 3, 1) := dk_45 (dk_at dksX2_earns_0 14 rfl rfl)
theorem dX2_earns_15 : decode cX2_earns 15 = .ok (.getfield 143, 3) := dk_180 0 143 (dk_at dksX2_earns_0 15 rfl rfl)
theorem dX2_earns_18 : decode cX2_earns 18 = .ok (.iload_n 2, 1) := dk_28 (dk_at dksX2_earns_0 18 rfl rfl)
theorem dX2_earns_19 : decode cX2_earns 19 = .ok (.iadd, 1) := dk_96 (dk_at dksX2_earns_0 19 rfl rfl)
theorem dX2_earns_20 : decode cX2_earns 20 = .ok (.sipush 9999, 3) := dk_17 39 15 (dk_at dksX2_earns_0 20 rfl rfl)
theorem dX2_earns_23 : decode cX2_earns 23 = .ok (.if_icmp .gt 7, 3) := dk_163 0 7 (dk_at dksX2_earns_1 0 rfl rfl)
theorem dX2_earns_26 : decode cX2_earns 26 = .ok (.iconst 1, 1) := dk_4 (dk_at dksX2_earns_1 3 rfl rfl)
theorem dX2_earns_27 : decode cX2_earns 27 = .ok (.goto 4, 3) := dk_167 0 4 (dk_at dksX2_earns_1 4 rfl rfl)
theorem dX2_earns_30 : decode cX2_earns 30 = .ok (.iconst 0, 1) := dk_3 (dk_at dksX2_earns_1 7 rfl rfl)
theorem dX2_earns_31 : decode cX2_earns 31 = .ok (.bipush 6, 2) := dk_16 6 (dk_at dksX2_earns_1 8 rfl rfl)
theorem dX2_earns_33 : decode cX2_earns 33 = .ok (.aload_n 3, 1) := dk_45 (dk_at dksX2_earns_1 10 rfl rfl)
theorem dX2_earns_34 : decode cX2_earns 34 = .ok (.getfield 143, 3) := dk_180 0 143 (dk_at dksX2_earns_1 11 rfl rfl)
theorem dX2_earns_37 : decode cX2_earns 37 = .ok (.iload_n 2, 1) := dk_28 (dk_at dksX2_earns_1 14 rfl rfl)
theorem dX2_earns_38 : decode cX2_earns 38 = .ok (.iadd, 1) := dk_96 (dk_at dksX2_earns_1 15 rfl rfl)
theorem dX2_earns_39 : decode cX2_earns 39 = .ok (.sipush 9999, 3) := dk_17 39 15 (dk_at dksX2_earns_1 16 rfl rfl)
theorem dX2_earns_42 : decode cX2_earns 42 = .ok (.isub, 1) := dk_100 (dk_at dksX2_earns_1 19 rfl rfl)
theorem dX2_earns_43 : decode cX2_earns 43 = .ok (.invokestatic 77, 3) := dk_184 0 77 (dk_at dksX2_earns_1 20 rfl rfl)
theorem dX2_earns_46 : decode cX2_earns 46 = .ok (.aload_n 3, 1) := dk_45 (dk_at dksX2_earns_1 23 rfl rfl)
theorem dX2_earns_47 : decode cX2_earns 47 = .ok (.dup, 1) := dk_89 (dk_at dksX2_earns_2 0 rfl rfl)
theorem dX2_earns_48 : decode cX2_earns 48 = .ok (.getfield 143, 3) := dk_180 0 143 (dk_at dksX2_earns_2 1 rfl rfl)
theorem dX2_earns_51 : decode cX2_earns 51 = .ok (.iload_n 2, 1) := dk_28 (dk_at dksX2_earns_2 4 rfl rfl)
theorem dX2_earns_52 : decode cX2_earns 52 = .ok (.iadd, 1) := dk_96 (dk_at dksX2_earns_2 5 rfl rfl)
theorem dX2_earns_53 : decode cX2_earns 53 = .ok (.putfield 143, 3) := dk_181 0 143 (dk_at dksX2_earns_2 6 rfl rfl)
theorem dX2_earns_56 : decode cX2_earns 56 = .ok (.aload_n 3, 1) := dk_45 (dk_at dksX2_earns_2 9 rfl rfl)
theorem dX2_earns_57 : decode cX2_earns 57 = .ok (.dup, 1) := dk_89 (dk_at dksX2_earns_2 10 rfl rfl)
theorem dX2_earns_58 : decode cX2_earns 58 = .ok (.getfield 146, 3) := dk_180 0 146 (dk_at dksX2_earns_2 11 rfl rfl)
theorem dX2_earns_61 : decode cX2_earns 61 = .ok (.iload_n 2, 1) := dk_28 (dk_at dksX2_earns_2 14 rfl rfl)
theorem dX2_earns_62 : decode cX2_earns 62 = .ok (.iadd, 1) := dk_96 (dk_at dksX2_earns_2 15 rfl rfl)
theorem dX2_earns_63 : decode cX2_earns 63 = .ok (.putfield 146, 3) := dk_181 0 146 (dk_at dksX2_earns_2 16 rfl rfl)
theorem dX2_earns_66 : decode cX2_earns 66 = .ok (.aload_n 0, 1) := dk_42 (dk_at dksX2_earns_2 19 rfl rfl)
theorem dX2_earns_67 : decode cX2_earns 67 = .ok (.dup, 1) := dk_89 (dk_at dksX2_earns_2 20 rfl rfl)
theorem dX2_earns_68 : decode cX2_earns 68 = .ok (.getfield 63, 3) := dk_180 0 63 (dk_at dksX2_earns_2 21 rfl rfl)
theorem dX2_earns_71 : decode cX2_earns 71 = .ok (.iload_n 2, 1) := dk_28 (dk_at dksX2_earns_3 0 rfl rfl)
theorem dX2_earns_72 : decode cX2_earns 72 = .ok (.iadd, 1) := dk_96 (dk_at dksX2_earns_3 1 rfl rfl)
theorem dX2_earns_73 : decode cX2_earns 73 = .ok (.putfield 63, 3) := dk_181 0 63 (dk_at dksX2_earns_3 2 rfl rfl)
theorem dX2_earns_76 : decode cX2_earns 76 = .ok (.aload_n 3, 1) := dk_45 (dk_at dksX2_earns_3 5 rfl rfl)
theorem dX2_earns_77 : decode cX2_earns 77 = .ok (.getfield 143, 3) := dk_180 0 143 (dk_at dksX2_earns_3 6 rfl rfl)
theorem dX2_earns_80 : decode cX2_earns 80 = .ok (.ireturn, 1) := dk_172 (dk_at dksX2_earns_3 9 rfl rfl)
abbrev cX2_checkCitizen : ByteArray := prog_6_method_9_code
def yX2_checkCitizen : MethodName := ⟨RX2, "checkCitizen", "(I)LCoinTaxes$Citizen;"⟩
def dkwX2_checkCitizen_1 : List UInt8 := [192, 0, 48, 176]
abbrev dktX2_checkCitizen_1 : List UInt8 := dkwX2_checkCitizen_1 ++ []
def dkwX2_checkCitizen_0 : List UInt8 := [27, 42, 180, 0, 12, 185, 0, 134, 1, 0, 184, 0, 102, 42, 180, 0, 12, 27, 185, 0, 138, 2, 0]
abbrev dktX2_checkCitizen_0 : List UInt8 := dkwX2_checkCitizen_0 ++ dktX2_checkCitizen_1
theorem dksX2_checkCitizen_0 : cX2_checkCitizen.data.toList.drop 0 = dktX2_checkCitizen_0 := by decide +kernel
theorem dksX2_checkCitizen_1 : cX2_checkCitizen.data.toList.drop 23 = dktX2_checkCitizen_1 := dk_seg dksX2_checkCitizen_0 23 rfl rfl
theorem dX2_checkCitizen_0 : decode cX2_checkCitizen 0 = .ok (.iload_n 1, 1) := dk_27 (dk_at dksX2_checkCitizen_0 0 rfl rfl)
theorem dX2_checkCitizen_1 : decode cX2_checkCitizen 1 = .ok (.aload_n 0, 1) := dk_42 (dk_at dksX2_checkCitizen_0 1 rfl rfl)
theorem dX2_checkCitizen_2 : decode cX2_checkCitizen 2 = .ok (.getfield 12, 3) := dk_180 0 12 (dk_at dksX2_checkCitizen_0 2 rfl rfl)
theorem dX2_checkCitizen_5 : decode cX2_checkCitizen 5 = .ok (.invokeinterface 134 1, 5) := by decide +kernel
theorem dX2_checkCitizen_10 : decode cX2_checkCitizen 10 = .ok (.invokestatic 102, 3) := dk_184 0 102 (dk_at dksX2_checkCitizen_0 10 rfl rfl)
theorem dX2_checkCitizen_13 : decode cX2_checkCitizen 13 = .ok (.aload_n 0, 1) := dk_42 (dk_at dksX2_checkCitizen_0 13 rfl rfl)
theorem dX2_checkCitizen_14 : decode cX2_checkCitizen 14 = .ok (.getfield 12, 3) := dk_180 0 12 (dk_at dksX2_checkCitizen_0 14 rfl rfl)
theorem dX2_checkCitizen_17 : decode cX2_checkCitizen 17 = .ok (.iload_n 1, 1) := dk_27 (dk_at dksX2_checkCitizen_0 17 rfl rfl)
theorem dX2_checkCitizen_18 : decode cX2_checkCitizen 18 = .ok (.invokeinterface 138 2, 5) := by decide +kernel
theorem dX2_checkCitizen_23 : decode cX2_checkCitizen 23 = .ok (.checkcast 48, 3) := dk_192 0 48 (dk_at dksX2_checkCitizen_1 0 rfl rfl)
theorem dX2_checkCitizen_26 : decode cX2_checkCitizen 26 = .ok (.areturn, 1) := dk_176 (dk_at dksX2_checkCitizen_1 3 rfl rfl)
abbrev cX2_claims : ByteArray := prog_6_method_11_code
def yX2_claims : MethodName := ⟨RX2, "claims", "(IIIZ)I"⟩
def dkwX2_claims_4 : List UInt8 := [46, 29, 96, 79, 25, 5, 28, 42, 180, 0, 25, 182, 0, 153, 172]
abbrev dktX2_claims_4 : List UInt8 := dkwX2_claims_4 ++ []
def dkwX2_claims_3 : List UInt8 := [153, 0, 17, 25, 5, 180, 0, 147, 28, 92, 46, 29, 96, 79, 167, 0, 14, 25, 5, 180, 0, 150, 28, 92]
abbrev dktX2_claims_3 : List UInt8 := dkwX2_claims_3 ++ dktX2_claims_4
def dkwX2_claims_2 : List UInt8 := [25, 5, 89, 180, 0, 146, 29, 100, 181, 0, 146, 42, 89, 180, 0, 66, 29, 96, 181, 0, 66, 21, 4]
abbrev dktX2_claims_2 : List UInt8 := dkwX2_claims_2 ++ dktX2_claims_3
def dkwX2_claims_1 : List UInt8 := [180, 0, 146, 29, 161, 0, 7, 4, 167, 0, 4, 3, 16, 7, 29, 25, 5, 180, 0, 146, 100, 184, 0, 77]
abbrev dktX2_claims_1 : List UInt8 := dkwX2_claims_1 ++ dktX2_claims_2
def dkwX2_claims_0 : List UInt8 := [42, 27, 182, 0, 139, 58, 5, 28, 6, 184, 0, 102, 29, 4, 17, 39, 15, 184, 0, 69, 25, 5]
abbrev dktX2_claims_0 : List UInt8 := dkwX2_claims_0 ++ dktX2_claims_1
theorem dksX2_claims_0 : cX2_claims.data.toList.drop 0 = dktX2_claims_0 := by decide +kernel
theorem dksX2_claims_1 : cX2_claims.data.toList.drop 22 = dktX2_claims_1 := dk_seg dksX2_claims_0 22 rfl rfl
theorem dksX2_claims_2 : cX2_claims.data.toList.drop 46 = dktX2_claims_2 := dk_seg dksX2_claims_1 24 rfl rfl
theorem dksX2_claims_3 : cX2_claims.data.toList.drop 69 = dktX2_claims_3 := dk_seg dksX2_claims_2 23 rfl rfl
theorem dksX2_claims_4 : cX2_claims.data.toList.drop 93 = dktX2_claims_4 := dk_seg dksX2_claims_3 24 rfl rfl
theorem dX2_claims_0 : decode cX2_claims 0 = .ok (.aload_n 0, 1) := dk_42 (dk_at dksX2_claims_0 0 rfl rfl)
theorem dX2_claims_1 : decode cX2_claims 1 = .ok (.iload_n 1, 1) := dk_27 (dk_at dksX2_claims_0 1 rfl rfl)
theorem dX2_claims_2 : decode cX2_claims 2 = .ok (.invokevirtual 139, 3) := dk_182 0 139 (dk_at dksX2_claims_0 2 rfl rfl)
theorem dX2_claims_5 : decode cX2_claims 5 = .ok (.astore 5, 2) := dk_58 5 (dk_at dksX2_claims_0 5 rfl rfl)
theorem dX2_claims_7 : decode cX2_claims 7 = .ok (.iload_n 2, 1) := dk_28 (dk_at dksX2_claims_0 7 rfl rfl)
theorem dX2_claims_8 : decode cX2_claims 8 = .ok (.iconst 3, 1) := dk_6 (dk_at dksX2_claims_0 8 rfl rfl)
theorem dX2_claims_9 : decode cX2_claims 9 = .ok (.invokestatic 102, 3) := dk_184 0 102 (dk_at dksX2_claims_0 9 rfl rfl)
theorem dX2_claims_12 : decode cX2_claims 12 = .ok (.iload_n 3, 1) := dk_29 (dk_at dksX2_claims_0 12 rfl rfl)
theorem dX2_claims_13 : decode cX2_claims 13 = .ok (.iconst 1, 1) := dk_4 (dk_at dksX2_claims_0 13 rfl rfl)
theorem dX2_claims_14 : decode cX2_claims 14 = .ok (.sipush 9999, 3) := dk_17 39 15 (dk_at dksX2_claims_0 14 rfl rfl)
theorem dX2_claims_17 : decode cX2_claims 17 = .ok (.invokestatic 69, 3) := dk_184 0 69 (dk_at dksX2_claims_0 17 rfl rfl)
theorem dX2_claims_20 : decode cX2_claims 20 = .ok (.aload 5, 2) := dk_25 5 (dk_at dksX2_claims_0 20 rfl rfl)
theorem dX2_claims_22 : decode cX2_claims 22 = .ok (.getfield 146, 3) := dk_180 0 146 (dk_at dksX2_claims_1 0 rfl rfl)
theorem dX2_claims_25 : decode cX2_claims 25 = .ok (.iload_n 3, 1) := dk_29 (dk_at dksX2_claims_1 3 rfl rfl)
theorem dX2_claims_26 : decode cX2_claims 26 = .ok (.if_icmp .lt 7, 3) := dk_161 0 7 (dk_at dksX2_claims_1 4 rfl rfl)
theorem dX2_claims_29 : decode cX2_claims 29 = .ok (.iconst 1, 1) := dk_4 (dk_at dksX2_claims_1 7 rfl rfl)
theorem dX2_claims_30 : decode cX2_claims 30 = .ok (.goto 4, 3) := dk_167 0 4 (dk_at dksX2_claims_1 8 rfl rfl)
theorem dX2_claims_33 : decode cX2_claims 33 = .ok (.iconst 0, 1) := dk_3 (dk_at dksX2_claims_1 11 rfl rfl)
theorem dX2_claims_34 : decode cX2_claims 34 = .ok (.bipush 7, 2) := dk_16 7 (dk_at dksX2_claims_1 12 rfl rfl)
theorem dX2_claims_36 : decode cX2_claims 36 = .ok (.iload_n 3, 1) := dk_29 (dk_at dksX2_claims_1 14 rfl rfl)
theorem dX2_claims_37 : decode cX2_claims 37 = .ok (.aload 5, 2) := dk_25 5 (dk_at dksX2_claims_1 15 rfl rfl)
theorem dX2_claims_39 : decode cX2_claims 39 = .ok (.getfield 146, 3) := dk_180 0 146 (dk_at dksX2_claims_1 17 rfl rfl)
theorem dX2_claims_42 : decode cX2_claims 42 = .ok (.isub, 1) := dk_100 (dk_at dksX2_claims_1 20 rfl rfl)
theorem dX2_claims_43 : decode cX2_claims 43 = .ok (.invokestatic 77, 3) := dk_184 0 77 (dk_at dksX2_claims_1 21 rfl rfl)
theorem dX2_claims_46 : decode cX2_claims 46 = .ok (.aload 5, 2) := dk_25 5 (dk_at dksX2_claims_2 0 rfl rfl)
theorem dX2_claims_48 : decode cX2_claims 48 = .ok (.dup, 1) := dk_89 (dk_at dksX2_claims_2 2 rfl rfl)
theorem dX2_claims_49 : decode cX2_claims 49 = .ok (.getfield 146, 3) := dk_180 0 146 (dk_at dksX2_claims_2 3 rfl rfl)
theorem dX2_claims_52 : decode cX2_claims 52 = .ok (.iload_n 3, 1) := dk_29 (dk_at dksX2_claims_2 6 rfl rfl)
theorem dX2_claims_53 : decode cX2_claims 53 = .ok (.isub, 1) := dk_100 (dk_at dksX2_claims_2 7 rfl rfl)
theorem dX2_claims_54 : decode cX2_claims 54 = .ok (.putfield 146, 3) := dk_181 0 146 (dk_at dksX2_claims_2 8 rfl rfl)
theorem dX2_claims_57 : decode cX2_claims 57 = .ok (.aload_n 0, 1) := dk_42 (dk_at dksX2_claims_2 11 rfl rfl)
theorem dX2_claims_58 : decode cX2_claims 58 = .ok (.dup, 1) := dk_89 (dk_at dksX2_claims_2 12 rfl rfl)
theorem dX2_claims_59 : decode cX2_claims 59 = .ok (.getfield 66, 3) := dk_180 0 66 (dk_at dksX2_claims_2 13 rfl rfl)
theorem dX2_claims_62 : decode cX2_claims 62 = .ok (.iload_n 3, 1) := dk_29 (dk_at dksX2_claims_2 16 rfl rfl)
theorem dX2_claims_63 : decode cX2_claims 63 = .ok (.iadd, 1) := dk_96 (dk_at dksX2_claims_2 17 rfl rfl)
theorem dX2_claims_64 : decode cX2_claims 64 = .ok (.putfield 66, 3) := dk_181 0 66 (dk_at dksX2_claims_2 18 rfl rfl)
theorem dX2_claims_67 : decode cX2_claims 67 = .ok (.iload 4, 2) := dk_21 4 (dk_at dksX2_claims_2 21 rfl rfl)
theorem dX2_claims_69 : decode cX2_claims 69 = .ok (.ifCond .eq 17, 3) := dk_153 0 17 (dk_at dksX2_claims_3 0 rfl rfl)
theorem dX2_claims_72 : decode cX2_claims 72 = .ok (.aload 5, 2) := dk_25 5 (dk_at dksX2_claims_3 3 rfl rfl)
theorem dX2_claims_74 : decode cX2_claims 74 = .ok (.getfield 147, 3) := dk_180 0 147 (dk_at dksX2_claims_3 5 rfl rfl)
theorem dX2_claims_77 : decode cX2_claims 77 = .ok (.iload_n 2, 1) := dk_28 (dk_at dksX2_claims_3 8 rfl rfl)
theorem dX2_claims_78 : decode cX2_claims 78 = .ok (.dup2, 1) := dk_92 (dk_at dksX2_claims_3 9 rfl rfl)
theorem dX2_claims_79 : decode cX2_claims 79 = .ok (.iaload, 1) := dk_46 (dk_at dksX2_claims_3 10 rfl rfl)
theorem dX2_claims_80 : decode cX2_claims 80 = .ok (.iload_n 3, 1) := dk_29 (dk_at dksX2_claims_3 11 rfl rfl)
theorem dX2_claims_81 : decode cX2_claims 81 = .ok (.iadd, 1) := dk_96 (dk_at dksX2_claims_3 12 rfl rfl)
theorem dX2_claims_82 : decode cX2_claims 82 = .ok (.iastore, 1) := dk_79 (dk_at dksX2_claims_3 13 rfl rfl)
theorem dX2_claims_83 : decode cX2_claims 83 = .ok (.goto 14, 3) := dk_167 0 14 (dk_at dksX2_claims_3 14 rfl rfl)
theorem dX2_claims_86 : decode cX2_claims 86 = .ok (.aload 5, 2) := dk_25 5 (dk_at dksX2_claims_3 17 rfl rfl)
theorem dX2_claims_88 : decode cX2_claims 88 = .ok (.getfield 150, 3) := dk_180 0 150 (dk_at dksX2_claims_3 19 rfl rfl)
theorem dX2_claims_91 : decode cX2_claims 91 = .ok (.iload_n 2, 1) := dk_28 (dk_at dksX2_claims_3 22 rfl rfl)
theorem dX2_claims_92 : decode cX2_claims 92 = .ok (.dup2, 1) := dk_92 (dk_at dksX2_claims_3 23 rfl rfl)
theorem dX2_claims_93 : decode cX2_claims 93 = .ok (.iaload, 1) := dk_46 (dk_at dksX2_claims_4 0 rfl rfl)
theorem dX2_claims_94 : decode cX2_claims 94 = .ok (.iload_n 3, 1) := dk_29 (dk_at dksX2_claims_4 1 rfl rfl)
theorem dX2_claims_95 : decode cX2_claims 95 = .ok (.iadd, 1) := dk_96 (dk_at dksX2_claims_4 2 rfl rfl)
theorem dX2_claims_96 : decode cX2_claims 96 = .ok (.iastore, 1) := dk_79 (dk_at dksX2_claims_4 3 rfl rfl)
theorem dX2_claims_97 : decode cX2_claims 97 = .ok (.aload 5, 2) := dk_25 5 (dk_at dksX2_claims_4 4 rfl rfl)
theorem dX2_claims_99 : decode cX2_claims 99 = .ok (.iload_n 2, 1) := dk_28 (dk_at dksX2_claims_4 6 rfl rfl)
theorem dX2_claims_100 : decode cX2_claims 100 = .ok (.aload_n 0, 1) := dk_42 (dk_at dksX2_claims_4 7 rfl rfl)
theorem dX2_claims_101 : decode cX2_claims 101 = .ok (.getfield 25, 3) := dk_180 0 25 (dk_at dksX2_claims_4 8 rfl rfl)
theorem dX2_claims_104 : decode cX2_claims 104 = .ok (.invokevirtual 153, 3) := dk_182 0 153 (dk_at dksX2_claims_4 11 rfl rfl)
theorem dX2_claims_107 : decode cX2_claims 107 = .ok (.ireturn, 1) := dk_172 (dk_at dksX2_claims_4 14 rfl rfl)
abbrev cX2_proves : ByteArray := prog_6_method_12_code
def yX2_proves : MethodName := ⟨RX2, "proves", "(II)I"⟩
def dkwX2_proves_2 : List UInt8 := [180, 0, 150, 28, 3, 79, 21, 4, 172]
abbrev dktX2_proves_2 : List UInt8 := dkwX2_proves_2 ++ []
def dkwX2_proves_1 : List UInt8 := [4, 167, 0, 4, 3, 16, 8, 28, 184, 0, 77, 45, 180, 0, 147, 28, 92, 46, 21, 4, 96, 79, 45]
abbrev dktX2_proves_1 : List UInt8 := dkwX2_proves_1 ++ dktX2_proves_2
def dkwX2_proves_0 : List UInt8 := [42, 27, 182, 0, 139, 78, 28, 6, 184, 0, 102, 45, 180, 0, 150, 28, 46, 54, 4, 21, 4, 158, 0, 7]
abbrev dktX2_proves_0 : List UInt8 := dkwX2_proves_0 ++ dktX2_proves_1
theorem dksX2_proves_0 : cX2_proves.data.toList.drop 0 = dktX2_proves_0 := by decide +kernel
theorem dksX2_proves_1 : cX2_proves.data.toList.drop 24 = dktX2_proves_1 := dk_seg dksX2_proves_0 24 rfl rfl
theorem dksX2_proves_2 : cX2_proves.data.toList.drop 47 = dktX2_proves_2 := dk_seg dksX2_proves_1 23 rfl rfl
theorem dX2_proves_0 : decode cX2_proves 0 = .ok (.aload_n 0, 1) := dk_42 (dk_at dksX2_proves_0 0 rfl rfl)
theorem dX2_proves_1 : decode cX2_proves 1 = .ok (.iload_n 1, 1) := dk_27 (dk_at dksX2_proves_0 1 rfl rfl)
theorem dX2_proves_2 : decode cX2_proves 2 = .ok (.invokevirtual 139, 3) := dk_182 0 139 (dk_at dksX2_proves_0 2 rfl rfl)
theorem dX2_proves_5 : decode cX2_proves 5 = .ok (.astore_n 3, 1) := dk_78 (dk_at dksX2_proves_0 5 rfl rfl)
theorem dX2_proves_6 : decode cX2_proves 6 = .ok (.iload_n 2, 1) := dk_28 (dk_at dksX2_proves_0 6 rfl rfl)
theorem dX2_proves_7 : decode cX2_proves 7 = .ok (.iconst 3, 1) := dk_6 (dk_at dksX2_proves_0 7 rfl rfl)
theorem dX2_proves_8 : decode cX2_proves 8 = .ok (.invokestatic 102, 3) := dk_184 0 102 (dk_at dksX2_proves_0 8 rfl rfl)
theorem dX2_proves_11 : decode cX2_proves 11 = .ok (.aload_n 3, 1) := dk_45 (dk_at dksX2_proves_0 11 rfl rfl)
theorem dX2_proves_12 : decode cX2_proves 12 = .ok (.getfield 150, 3) := dk_180 0 150 (dk_at dksX2_proves_0 12 rfl rfl)
theorem dX2_proves_15 : decode cX2_proves 15 = .ok (.iload_n 2, 1) := dk_28 (dk_at dksX2_proves_0 15 rfl rfl)
theorem dX2_proves_16 : decode cX2_proves 16 = .ok (.iaload, 1) := dk_46 (dk_at dksX2_proves_0 16 rfl rfl)
theorem dX2_proves_17 : decode cX2_proves 17 = .ok (.istore 4, 2) := dk_54 4 (dk_at dksX2_proves_0 17 rfl rfl)
theorem dX2_proves_19 : decode cX2_proves 19 = .ok (.iload 4, 2) := dk_21 4 (dk_at dksX2_proves_0 19 rfl rfl)
theorem dX2_proves_21 : decode cX2_proves 21 = .ok (.ifCond .le 7, 3) := dk_158 0 7 (dk_at dksX2_proves_0 21 rfl rfl)
theorem dX2_proves_24 : decode cX2_proves 24 = .ok (.iconst 1, 1) := dk_4 (dk_at dksX2_proves_1 0 rfl rfl)
theorem dX2_proves_25 : decode cX2_proves 25 = .ok (.goto 4, 3) := dk_167 0 4 (dk_at dksX2_proves_1 1 rfl rfl)
theorem dX2_proves_28 : decode cX2_proves 28 = .ok (.iconst 0, 1) := dk_3 (dk_at dksX2_proves_1 4 rfl rfl)
theorem dX2_proves_29 : decode cX2_proves 29 = .ok (.bipush 8, 2) := dk_16 8 (dk_at dksX2_proves_1 5 rfl rfl)
theorem dX2_proves_31 : decode cX2_proves 31 = .ok (.iload_n 2, 1) := dk_28 (dk_at dksX2_proves_1 7 rfl rfl)
theorem dX2_proves_32 : decode cX2_proves 32 = .ok (.invokestatic 77, 3) := dk_184 0 77 (dk_at dksX2_proves_1 8 rfl rfl)
theorem dX2_proves_35 : decode cX2_proves 35 = .ok (.aload_n 3, 1) := dk_45 (dk_at dksX2_proves_1 11 rfl rfl)
theorem dX2_proves_36 : decode cX2_proves 36 = .ok (.getfield 147, 3) := dk_180 0 147 (dk_at dksX2_proves_1 12 rfl rfl)
theorem dX2_proves_39 : decode cX2_proves 39 = .ok (.iload_n 2, 1) := dk_28 (dk_at dksX2_proves_1 15 rfl rfl)
theorem dX2_proves_40 : decode cX2_proves 40 = .ok (.dup2, 1) := dk_92 (dk_at dksX2_proves_1 16 rfl rfl)
theorem dX2_proves_41 : decode cX2_proves 41 = .ok (.iaload, 1) := dk_46 (dk_at dksX2_proves_1 17 rfl rfl)
theorem dX2_proves_42 : decode cX2_proves 42 = .ok (.iload 4, 2) := dk_21 4 (dk_at dksX2_proves_1 18 rfl rfl)
theorem dX2_proves_44 : decode cX2_proves 44 = .ok (.iadd, 1) := dk_96 (dk_at dksX2_proves_1 20 rfl rfl)
theorem dX2_proves_45 : decode cX2_proves 45 = .ok (.iastore, 1) := dk_79 (dk_at dksX2_proves_1 21 rfl rfl)
theorem dX2_proves_46 : decode cX2_proves 46 = .ok (.aload_n 3, 1) := dk_45 (dk_at dksX2_proves_1 22 rfl rfl)
theorem dX2_proves_47 : decode cX2_proves 47 = .ok (.getfield 150, 3) := dk_180 0 150 (dk_at dksX2_proves_2 0 rfl rfl)
theorem dX2_proves_50 : decode cX2_proves 50 = .ok (.iload_n 2, 1) := dk_28 (dk_at dksX2_proves_2 3 rfl rfl)
theorem dX2_proves_51 : decode cX2_proves 51 = .ok (.iconst 0, 1) := dk_3 (dk_at dksX2_proves_2 4 rfl rfl)
theorem dX2_proves_52 : decode cX2_proves 52 = .ok (.iastore, 1) := dk_79 (dk_at dksX2_proves_2 5 rfl rfl)
theorem dX2_proves_53 : decode cX2_proves 53 = .ok (.iload 4, 2) := dk_21 4 (dk_at dksX2_proves_2 6 rfl rfl)
theorem dX2_proves_55 : decode cX2_proves 55 = .ok (.ireturn, 1) := dk_172 (dk_at dksX2_proves_2 8 rfl rfl)
abbrev cX2_yearEnds : ByteArray := prog_6_method_14_code
def yX2_yearEnds : MethodName := ⟨RX2, "yearEnds", "()I"⟩
def dkwX2_yearEnds_4 : List UInt8 := [27, 172]
abbrev dktX2_yearEnds_4 : List UInt8 := dkwX2_yearEnds_4 ++ []
def dkwX2_yearEnds_3 : List UInt8 := [60, 167, 255, 206, 42, 89, 180, 0, 60, 27, 96, 181, 0, 60, 42, 89, 180, 0, 57, 4, 96, 181, 0, 57]
abbrev dktX2_yearEnds_3 : List UInt8 := dkwX2_yearEnds_3 ++ dktX2_yearEnds_4
def dkwX2_yearEnds_2 : List UInt8 := [42, 180, 0, 57, 45, 180, 0, 163, 42, 182, 0, 166, 160, 0, 7, 4, 167, 0, 4, 3, 182, 0, 169, 96]
abbrev dktX2_yearEnds_2 : List UInt8 := dkwX2_yearEnds_2 ++ dktX2_yearEnds_3
def dkwX2_yearEnds_1 : List UInt8 := [185, 0, 38, 1, 0, 153, 0, 47, 44, 185, 0, 44, 1, 0, 192, 0, 48, 78, 27, 45, 42, 180, 0, 25]
abbrev dktX2_yearEnds_1 : List UInt8 := dkwX2_yearEnds_1 ++ dktX2_yearEnds_2
def dkwX2_yearEnds_0 : List UInt8 := [42, 42, 180, 0, 18, 184, 0, 160, 181, 0, 18, 3, 60, 42, 180, 0, 12, 185, 0, 32, 1, 0, 77, 44]
abbrev dktX2_yearEnds_0 : List UInt8 := dkwX2_yearEnds_0 ++ dktX2_yearEnds_1
theorem dksX2_yearEnds_0 : cX2_yearEnds.data.toList.drop 0 = dktX2_yearEnds_0 := by decide +kernel
theorem dksX2_yearEnds_1 : cX2_yearEnds.data.toList.drop 24 = dktX2_yearEnds_1 := dk_seg dksX2_yearEnds_0 24 rfl rfl
theorem dksX2_yearEnds_2 : cX2_yearEnds.data.toList.drop 48 = dktX2_yearEnds_2 := dk_seg dksX2_yearEnds_1 24 rfl rfl
theorem dksX2_yearEnds_3 : cX2_yearEnds.data.toList.drop 72 = dktX2_yearEnds_3 := dk_seg dksX2_yearEnds_2 24 rfl rfl
theorem dksX2_yearEnds_4 : cX2_yearEnds.data.toList.drop 96 = dktX2_yearEnds_4 := dk_seg dksX2_yearEnds_3 24 rfl rfl
theorem dX2_yearEnds_0 : decode cX2_yearEnds 0 = .ok (.aload_n 0, 1) := dk_42 (dk_at dksX2_yearEnds_0 0 rfl rfl)
theorem dX2_yearEnds_1 : decode cX2_yearEnds 1 = .ok (.aload_n 0, 1) := dk_42 (dk_at dksX2_yearEnds_0 1 rfl rfl)
theorem dX2_yearEnds_2 : decode cX2_yearEnds 2 = .ok (.getfield 18, 3) := dk_180 0 18 (dk_at dksX2_yearEnds_0 2 rfl rfl)
theorem dX2_yearEnds_5 : decode cX2_yearEnds 5 = .ok (.invokestatic 160, 3) := dk_184 0 160 (dk_at dksX2_yearEnds_0 5 rfl rfl)
theorem dX2_yearEnds_8 : decode cX2_yearEnds 8 = .ok (.putfield 18, 3) := dk_181 0 18 (dk_at dksX2_yearEnds_0 8 rfl rfl)
theorem dX2_yearEnds_11 : decode cX2_yearEnds 11 = .ok (.iconst 0, 1) := dk_3 (dk_at dksX2_yearEnds_0 11 rfl rfl)
theorem dX2_yearEnds_12 : decode cX2_yearEnds 12 = .ok (.istore_n 1, 1) := dk_60 (dk_at dksX2_yearEnds_0 12 rfl rfl)
theorem dX2_yearEnds_13 : decode cX2_yearEnds 13 = .ok (.aload_n 0, 1) := dk_42 (dk_at dksX2_yearEnds_0 13 rfl rfl)
theorem dX2_yearEnds_14 : decode cX2_yearEnds 14 = .ok (.getfield 12, 3) := dk_180 0 12 (dk_at dksX2_yearEnds_0 14 rfl rfl)
theorem dX2_yearEnds_17 : decode cX2_yearEnds 17 = .ok (.invokeinterface 32 1, 5) := by decide +kernel
theorem dX2_yearEnds_22 : decode cX2_yearEnds 22 = .ok (.astore_n 2, 1) := dk_77 (dk_at dksX2_yearEnds_0 22 rfl rfl)
theorem dX2_yearEnds_23 : decode cX2_yearEnds 23 = .ok (.aload_n 2, 1) := dk_44 (dk_at dksX2_yearEnds_0 23 rfl rfl)
theorem dX2_yearEnds_24 : decode cX2_yearEnds 24 = .ok (.invokeinterface 38 1, 5) := by decide +kernel
theorem dX2_yearEnds_29 : decode cX2_yearEnds 29 = .ok (.ifCond .eq 47, 3) := dk_153 0 47 (dk_at dksX2_yearEnds_1 5 rfl rfl)
theorem dX2_yearEnds_32 : decode cX2_yearEnds 32 = .ok (.aload_n 2, 1) := dk_44 (dk_at dksX2_yearEnds_1 8 rfl rfl)
theorem dX2_yearEnds_33 : decode cX2_yearEnds 33 = .ok (.invokeinterface 44 1, 5) := by decide +kernel
theorem dX2_yearEnds_38 : decode cX2_yearEnds 38 = .ok (.checkcast 48, 3) := dk_192 0 48 (dk_at dksX2_yearEnds_1 14 rfl rfl)
theorem dX2_yearEnds_41 : decode cX2_yearEnds 41 = .ok (.astore_n 3, 1) := dk_78 (dk_at dksX2_yearEnds_1 17 rfl rfl)
theorem dX2_yearEnds_42 : decode cX2_yearEnds 42 = .ok (.iload_n 1, 1) := dk_27 (dk_at dksX2_yearEnds_1 18 rfl rfl)
theorem dX2_yearEnds_43 : decode cX2_yearEnds 43 = .ok (.aload_n 3, 1) := dk_45 (dk_at dksX2_yearEnds_1 19 rfl rfl)
theorem dX2_yearEnds_44 : decode cX2_yearEnds 44 = .ok (.aload_n 0, 1) := dk_42 (dk_at dksX2_yearEnds_1 20 rfl rfl)
theorem dX2_yearEnds_45 : decode cX2_yearEnds 45 = .ok (.getfield 25, 3) := dk_180 0 25 (dk_at dksX2_yearEnds_1 21 rfl rfl)
theorem dX2_yearEnds_48 : decode cX2_yearEnds 48 = .ok (.aload_n 0, 1) := dk_42 (dk_at dksX2_yearEnds_2 0 rfl rfl)
theorem dX2_yearEnds_49 : decode cX2_yearEnds 49 = .ok (.getfield 57, 3) := dk_180 0 57 (dk_at dksX2_yearEnds_2 1 rfl rfl)
theorem dX2_yearEnds_52 : decode cX2_yearEnds 52 = .ok (.aload_n 3, 1) := dk_45 (dk_at dksX2_yearEnds_2 4 rfl rfl)
theorem dX2_yearEnds_53 : decode cX2_yearEnds 53 = .ok (.getfield 163, 3) := dk_180 0 163 (dk_at dksX2_yearEnds_2 5 rfl rfl)
theorem dX2_yearEnds_56 : decode cX2_yearEnds 56 = .ok (.aload_n 0, 1) := dk_42 (dk_at dksX2_yearEnds_2 8 rfl rfl)
theorem dX2_yearEnds_57 : decode cX2_yearEnds 57 = .ok (.invokevirtual 166, 3) := dk_182 0 166 (dk_at dksX2_yearEnds_2 9 rfl rfl)
theorem dX2_yearEnds_60 : decode cX2_yearEnds 60 = .ok (.if_icmp .ne 7, 3) := dk_160 0 7 (dk_at dksX2_yearEnds_2 12 rfl rfl)
theorem dX2_yearEnds_63 : decode cX2_yearEnds 63 = .ok (.iconst 1, 1) := dk_4 (dk_at dksX2_yearEnds_2 15 rfl rfl)
theorem dX2_yearEnds_64 : decode cX2_yearEnds 64 = .ok (.goto 4, 3) := dk_167 0 4 (dk_at dksX2_yearEnds_2 16 rfl rfl)
theorem dX2_yearEnds_67 : decode cX2_yearEnds 67 = .ok (.iconst 0, 1) := dk_3 (dk_at dksX2_yearEnds_2 19 rfl rfl)
theorem dX2_yearEnds_68 : decode cX2_yearEnds 68 = .ok (.invokevirtual 169, 3) := dk_182 0 169 (dk_at dksX2_yearEnds_2 20 rfl rfl)
theorem dX2_yearEnds_71 : decode cX2_yearEnds 71 = .ok (.iadd, 1) := dk_96 (dk_at dksX2_yearEnds_2 23 rfl rfl)
theorem dX2_yearEnds_72 : decode cX2_yearEnds 72 = .ok (.istore_n 1, 1) := dk_60 (dk_at dksX2_yearEnds_3 0 rfl rfl)
theorem dX2_yearEnds_73 : decode cX2_yearEnds 73 = .ok (.goto (-50), 3) := dk_167 255 206 (dk_at dksX2_yearEnds_3 1 rfl rfl)
theorem dX2_yearEnds_76 : decode cX2_yearEnds 76 = .ok (.aload_n 0, 1) := dk_42 (dk_at dksX2_yearEnds_3 4 rfl rfl)
theorem dX2_yearEnds_77 : decode cX2_yearEnds 77 = .ok (.dup, 1) := dk_89 (dk_at dksX2_yearEnds_3 5 rfl rfl)
theorem dX2_yearEnds_78 : decode cX2_yearEnds 78 = .ok (.getfield 60, 3) := dk_180 0 60 (dk_at dksX2_yearEnds_3 6 rfl rfl)
theorem dX2_yearEnds_81 : decode cX2_yearEnds 81 = .ok (.iload_n 1, 1) := dk_27 (dk_at dksX2_yearEnds_3 9 rfl rfl)
theorem dX2_yearEnds_82 : decode cX2_yearEnds 82 = .ok (.iadd, 1) := dk_96 (dk_at dksX2_yearEnds_3 10 rfl rfl)
theorem dX2_yearEnds_83 : decode cX2_yearEnds 83 = .ok (.putfield 60, 3) := dk_181 0 60 (dk_at dksX2_yearEnds_3 11 rfl rfl)
theorem dX2_yearEnds_86 : decode cX2_yearEnds 86 = .ok (.aload_n 0, 1) := dk_42 (dk_at dksX2_yearEnds_3 14 rfl rfl)
theorem dX2_yearEnds_87 : decode cX2_yearEnds 87 = .ok (.dup, 1) := dk_89 (dk_at dksX2_yearEnds_3 15 rfl rfl)
theorem dX2_yearEnds_88 : decode cX2_yearEnds 88 = .ok (.getfield 57, 3) := dk_180 0 57 (dk_at dksX2_yearEnds_3 16 rfl rfl)
theorem dX2_yearEnds_91 : decode cX2_yearEnds 91 = .ok (.iconst 1, 1) := dk_4 (dk_at dksX2_yearEnds_3 19 rfl rfl)
theorem dX2_yearEnds_92 : decode cX2_yearEnds 92 = .ok (.iadd, 1) := dk_96 (dk_at dksX2_yearEnds_3 20 rfl rfl)
theorem dX2_yearEnds_93 : decode cX2_yearEnds 93 = .ok (.putfield 57, 3) := dk_181 0 57 (dk_at dksX2_yearEnds_3 21 rfl rfl)
theorem dX2_yearEnds_96 : decode cX2_yearEnds 96 = .ok (.iload_n 1, 1) := dk_27 (dk_at dksX2_yearEnds_4 0 rfl rfl)
theorem dX2_yearEnds_97 : decode cX2_yearEnds 97 = .ok (.ireturn, 1) := dk_172 (dk_at dksX2_yearEnds_4 1 rfl rfl)
abbrev cX2_audited : ByteArray := prog_6_method_13_code
def yX2_audited : MethodName := ⟨RX2, "audited", "()I"⟩
def dkwX2_audited_1 : List UInt8 := [185, 0, 134, 1, 0, 112, 172]
abbrev dktX2_audited_1 : List UInt8 := dkwX2_audited_1 ++ []
def dkwX2_audited_0 : List UInt8 := [42, 180, 0, 12, 185, 0, 157, 1, 0, 153, 0, 7, 2, 167, 0, 17, 42, 180, 0, 18, 42, 180, 0, 12]
abbrev dktX2_audited_0 : List UInt8 := dkwX2_audited_0 ++ dktX2_audited_1
theorem dksX2_audited_0 : cX2_audited.data.toList.drop 0 = dktX2_audited_0 := by decide +kernel
theorem dksX2_audited_1 : cX2_audited.data.toList.drop 24 = dktX2_audited_1 := dk_seg dksX2_audited_0 24 rfl rfl
theorem dX2_audited_0 : decode cX2_audited 0 = .ok (.aload_n 0, 1) := dk_42 (dk_at dksX2_audited_0 0 rfl rfl)
theorem dX2_audited_1 : decode cX2_audited 1 = .ok (.getfield 12, 3) := dk_180 0 12 (dk_at dksX2_audited_0 1 rfl rfl)
theorem dX2_audited_4 : decode cX2_audited 4 = .ok (.invokeinterface 157 1, 5) := by decide +kernel
theorem dX2_audited_9 : decode cX2_audited 9 = .ok (.ifCond .eq 7, 3) := dk_153 0 7 (dk_at dksX2_audited_0 9 rfl rfl)
theorem dX2_audited_12 : decode cX2_audited 12 = .ok (.iconst (-1), 1) := dk_2 (dk_at dksX2_audited_0 12 rfl rfl)
theorem dX2_audited_13 : decode cX2_audited 13 = .ok (.goto 17, 3) := dk_167 0 17 (dk_at dksX2_audited_0 13 rfl rfl)
theorem dX2_audited_16 : decode cX2_audited 16 = .ok (.aload_n 0, 1) := dk_42 (dk_at dksX2_audited_0 16 rfl rfl)
theorem dX2_audited_17 : decode cX2_audited 17 = .ok (.getfield 18, 3) := dk_180 0 18 (dk_at dksX2_audited_0 17 rfl rfl)
theorem dX2_audited_20 : decode cX2_audited 20 = .ok (.aload_n 0, 1) := dk_42 (dk_at dksX2_audited_0 20 rfl rfl)
theorem dX2_audited_21 : decode cX2_audited 21 = .ok (.getfield 12, 3) := dk_180 0 12 (dk_at dksX2_audited_0 21 rfl rfl)
theorem dX2_audited_24 : decode cX2_audited 24 = .ok (.invokeinterface 134 1, 5) := by decide +kernel
theorem dX2_audited_29 : decode cX2_audited 29 = .ok (.irem, 1) := dk_112 (dk_at dksX2_audited_1 5 rfl rfl)
theorem dX2_audited_30 : decode cX2_audited 30 = .ok (.ireturn, 1) := dk_172 (dk_at dksX2_audited_1 6 rfl rfl)
abbrev cX2_isBalanced : ByteArray := prog_6_method_26_code
def yX2_isBalanced : MethodName := ⟨RX2, "isBalanced", "()Z"⟩
def dkwX2_isBalanced_5 : List UInt8 := [167, 0, 4, 3, 126, 60, 167, 255, 202, 27, 172]
abbrev dktX2_isBalanced_5 : List UInt8 := dkwX2_isBalanced_5 ++ []
def dkwX2_isBalanced_4 : List UInt8 := [45, 180, 0, 143, 182, 0, 211, 45, 42, 180, 0, 25, 45, 180, 0, 143, 182, 0, 214, 160, 0, 7, 4]
abbrev dktX2_isBalanced_4 : List UInt8 := dkwX2_isBalanced_4 ++ dktX2_isBalanced_5
def dkwX2_isBalanced_3 : List UInt8 := [185, 0, 38, 1, 0, 153, 0, 51, 44, 185, 0, 44, 1, 0, 192, 0, 48, 78, 27, 45, 42, 180, 0, 25]
abbrev dktX2_isBalanced_3 : List UInt8 := dkwX2_isBalanced_3 ++ dktX2_isBalanced_4
def dkwX2_isBalanced_2 : List UInt8 := [160, 0, 7, 4, 167, 0, 4, 3, 126, 60, 42, 180, 0, 12, 185, 0, 32, 1, 0, 77, 44]
abbrev dktX2_isBalanced_2 : List UInt8 := dkwX2_isBalanced_2 ++ dktX2_isBalanced_3
def dkwX2_isBalanced_1 : List UInt8 := [167, 0, 4, 3, 60, 27, 42, 182, 0, 202, 42, 182, 0, 205, 96, 42, 180, 0, 60, 42, 182, 0, 208, 96]
abbrev dktX2_isBalanced_1 : List UInt8 := dkwX2_isBalanced_1 ++ dktX2_isBalanced_2
def dkwX2_isBalanced_0 : List UInt8 := [42, 180, 0, 63, 42, 182, 0, 199, 42, 180, 0, 60, 96, 42, 180, 0, 66, 96, 160, 0, 7, 4]
abbrev dktX2_isBalanced_0 : List UInt8 := dkwX2_isBalanced_0 ++ dktX2_isBalanced_1
theorem dksX2_isBalanced_0 : cX2_isBalanced.data.toList.drop 0 = dktX2_isBalanced_0 := by decide +kernel
theorem dksX2_isBalanced_1 : cX2_isBalanced.data.toList.drop 22 = dktX2_isBalanced_1 := dk_seg dksX2_isBalanced_0 22 rfl rfl
theorem dksX2_isBalanced_2 : cX2_isBalanced.data.toList.drop 46 = dktX2_isBalanced_2 := dk_seg dksX2_isBalanced_1 24 rfl rfl
theorem dksX2_isBalanced_3 : cX2_isBalanced.data.toList.drop 67 = dktX2_isBalanced_3 := dk_seg dksX2_isBalanced_2 21 rfl rfl
theorem dksX2_isBalanced_4 : cX2_isBalanced.data.toList.drop 91 = dktX2_isBalanced_4 := dk_seg dksX2_isBalanced_3 24 rfl rfl
theorem dksX2_isBalanced_5 : cX2_isBalanced.data.toList.drop 114 = dktX2_isBalanced_5 := dk_seg dksX2_isBalanced_4 23 rfl rfl
theorem dX2_isBalanced_0 : decode cX2_isBalanced 0 = .ok (.aload_n 0, 1) := dk_42 (dk_at dksX2_isBalanced_0 0 rfl rfl)
theorem dX2_isBalanced_1 : decode cX2_isBalanced 1 = .ok (.getfield 63, 3) := dk_180 0 63 (dk_at dksX2_isBalanced_0 1 rfl rfl)
theorem dX2_isBalanced_4 : decode cX2_isBalanced 4 = .ok (.aload_n 0, 1) := dk_42 (dk_at dksX2_isBalanced_0 4 rfl rfl)
theorem dX2_isBalanced_5 : decode cX2_isBalanced 5 = .ok (.invokevirtual 199, 3) := dk_182 0 199 (dk_at dksX2_isBalanced_0 5 rfl rfl)
theorem dX2_isBalanced_8 : decode cX2_isBalanced 8 = .ok (.aload_n 0, 1) := dk_42 (dk_at dksX2_isBalanced_0 8 rfl rfl)
theorem dX2_isBalanced_9 : decode cX2_isBalanced 9 = .ok (.getfield 60, 3) := dk_180 0 60 (dk_at dksX2_isBalanced_0 9 rfl rfl)
theorem dX2_isBalanced_12 : decode cX2_isBalanced 12 = .ok (.iadd, 1) := dk_96 (dk_at dksX2_isBalanced_0 12 rfl rfl)
theorem dX2_isBalanced_13 : decode cX2_isBalanced 13 = .ok (.aload_n 0, 1) := dk_42 (dk_at dksX2_isBalanced_0 13 rfl rfl)
theorem dX2_isBalanced_14 : decode cX2_isBalanced 14 = .ok (.getfield 66, 3) := dk_180 0 66 (dk_at dksX2_isBalanced_0 14 rfl rfl)
theorem dX2_isBalanced_17 : decode cX2_isBalanced 17 = .ok (.iadd, 1) := dk_96 (dk_at dksX2_isBalanced_0 17 rfl rfl)
theorem dX2_isBalanced_18 : decode cX2_isBalanced 18 = .ok (.if_icmp .ne 7, 3) := dk_160 0 7 (dk_at dksX2_isBalanced_0 18 rfl rfl)
theorem dX2_isBalanced_21 : decode cX2_isBalanced 21 = .ok (.iconst 1, 1) := dk_4 (dk_at dksX2_isBalanced_0 21 rfl rfl)
theorem dX2_isBalanced_22 : decode cX2_isBalanced 22 = .ok (.goto 4, 3) := dk_167 0 4 (dk_at dksX2_isBalanced_1 0 rfl rfl)
theorem dX2_isBalanced_25 : decode cX2_isBalanced 25 = .ok (.iconst 0, 1) := dk_3 (dk_at dksX2_isBalanced_1 3 rfl rfl)
theorem dX2_isBalanced_26 : decode cX2_isBalanced 26 = .ok (.istore_n 1, 1) := dk_60 (dk_at dksX2_isBalanced_1 4 rfl rfl)
theorem dX2_isBalanced_27 : decode cX2_isBalanced 27 = .ok (.iload_n 1, 1) := dk_27 (dk_at dksX2_isBalanced_1 5 rfl rfl)
theorem dX2_isBalanced_28 : decode cX2_isBalanced 28 = .ok (.aload_n 0, 1) := dk_42 (dk_at dksX2_isBalanced_1 6 rfl rfl)
theorem dX2_isBalanced_29 : decode cX2_isBalanced 29 = .ok (.invokevirtual 202, 3) := dk_182 0 202 (dk_at dksX2_isBalanced_1 7 rfl rfl)
theorem dX2_isBalanced_32 : decode cX2_isBalanced 32 = .ok (.aload_n 0, 1) := dk_42 (dk_at dksX2_isBalanced_1 10 rfl rfl)
theorem dX2_isBalanced_33 : decode cX2_isBalanced 33 = .ok (.invokevirtual 205, 3) := dk_182 0 205 (dk_at dksX2_isBalanced_1 11 rfl rfl)
theorem dX2_isBalanced_36 : decode cX2_isBalanced 36 = .ok (.iadd, 1) := dk_96 (dk_at dksX2_isBalanced_1 14 rfl rfl)
theorem dX2_isBalanced_37 : decode cX2_isBalanced 37 = .ok (.aload_n 0, 1) := dk_42 (dk_at dksX2_isBalanced_1 15 rfl rfl)
theorem dX2_isBalanced_38 : decode cX2_isBalanced 38 = .ok (.getfield 60, 3) := dk_180 0 60 (dk_at dksX2_isBalanced_1 16 rfl rfl)
theorem dX2_isBalanced_41 : decode cX2_isBalanced 41 = .ok (.aload_n 0, 1) := dk_42 (dk_at dksX2_isBalanced_1 19 rfl rfl)
theorem dX2_isBalanced_42 : decode cX2_isBalanced 42 = .ok (.invokevirtual 208, 3) := dk_182 0 208 (dk_at dksX2_isBalanced_1 20 rfl rfl)
theorem dX2_isBalanced_45 : decode cX2_isBalanced 45 = .ok (.iadd, 1) := dk_96 (dk_at dksX2_isBalanced_1 23 rfl rfl)
theorem dX2_isBalanced_46 : decode cX2_isBalanced 46 = .ok (.if_icmp .ne 7, 3) := dk_160 0 7 (dk_at dksX2_isBalanced_2 0 rfl rfl)
theorem dX2_isBalanced_49 : decode cX2_isBalanced 49 = .ok (.iconst 1, 1) := dk_4 (dk_at dksX2_isBalanced_2 3 rfl rfl)
theorem dX2_isBalanced_50 : decode cX2_isBalanced 50 = .ok (.goto 4, 3) := dk_167 0 4 (dk_at dksX2_isBalanced_2 4 rfl rfl)
theorem dX2_isBalanced_53 : decode cX2_isBalanced 53 = .ok (.iconst 0, 1) := dk_3 (dk_at dksX2_isBalanced_2 7 rfl rfl)
theorem dX2_isBalanced_54 : decode cX2_isBalanced 54 = .ok (.iand, 1) := dk_126 (dk_at dksX2_isBalanced_2 8 rfl rfl)
theorem dX2_isBalanced_55 : decode cX2_isBalanced 55 = .ok (.istore_n 1, 1) := dk_60 (dk_at dksX2_isBalanced_2 9 rfl rfl)
theorem dX2_isBalanced_56 : decode cX2_isBalanced 56 = .ok (.aload_n 0, 1) := dk_42 (dk_at dksX2_isBalanced_2 10 rfl rfl)
theorem dX2_isBalanced_57 : decode cX2_isBalanced 57 = .ok (.getfield 12, 3) := dk_180 0 12 (dk_at dksX2_isBalanced_2 11 rfl rfl)
theorem dX2_isBalanced_60 : decode cX2_isBalanced 60 = .ok (.invokeinterface 32 1, 5) := by decide +kernel
theorem dX2_isBalanced_65 : decode cX2_isBalanced 65 = .ok (.astore_n 2, 1) := dk_77 (dk_at dksX2_isBalanced_2 19 rfl rfl)
theorem dX2_isBalanced_66 : decode cX2_isBalanced 66 = .ok (.aload_n 2, 1) := dk_44 (dk_at dksX2_isBalanced_2 20 rfl rfl)
theorem dX2_isBalanced_67 : decode cX2_isBalanced 67 = .ok (.invokeinterface 38 1, 5) := by decide +kernel
theorem dX2_isBalanced_72 : decode cX2_isBalanced 72 = .ok (.ifCond .eq 51, 3) := dk_153 0 51 (dk_at dksX2_isBalanced_3 5 rfl rfl)
theorem dX2_isBalanced_75 : decode cX2_isBalanced 75 = .ok (.aload_n 2, 1) := dk_44 (dk_at dksX2_isBalanced_3 8 rfl rfl)
theorem dX2_isBalanced_76 : decode cX2_isBalanced 76 = .ok (.invokeinterface 44 1, 5) := by decide +kernel
theorem dX2_isBalanced_81 : decode cX2_isBalanced 81 = .ok (.checkcast 48, 3) := dk_192 0 48 (dk_at dksX2_isBalanced_3 14 rfl rfl)
theorem dX2_isBalanced_84 : decode cX2_isBalanced 84 = .ok (.astore_n 3, 1) := dk_78 (dk_at dksX2_isBalanced_3 17 rfl rfl)
theorem dX2_isBalanced_85 : decode cX2_isBalanced 85 = .ok (.iload_n 1, 1) := dk_27 (dk_at dksX2_isBalanced_3 18 rfl rfl)
theorem dX2_isBalanced_86 : decode cX2_isBalanced 86 = .ok (.aload_n 3, 1) := dk_45 (dk_at dksX2_isBalanced_3 19 rfl rfl)
theorem dX2_isBalanced_87 : decode cX2_isBalanced 87 = .ok (.aload_n 0, 1) := dk_42 (dk_at dksX2_isBalanced_3 20 rfl rfl)
theorem dX2_isBalanced_88 : decode cX2_isBalanced 88 = .ok (.getfield 25, 3) := dk_180 0 25 (dk_at dksX2_isBalanced_3 21 rfl rfl)
theorem dX2_isBalanced_91 : decode cX2_isBalanced 91 = .ok (.aload_n 3, 1) := dk_45 (dk_at dksX2_isBalanced_4 0 rfl rfl)
theorem dX2_isBalanced_92 : decode cX2_isBalanced 92 = .ok (.getfield 143, 3) := dk_180 0 143 (dk_at dksX2_isBalanced_4 1 rfl rfl)
theorem dX2_isBalanced_95 : decode cX2_isBalanced 95 = .ok (.invokevirtual 211, 3) := dk_182 0 211 (dk_at dksX2_isBalanced_4 4 rfl rfl)
theorem dX2_isBalanced_98 : decode cX2_isBalanced 98 = .ok (.aload_n 3, 1) := dk_45 (dk_at dksX2_isBalanced_4 7 rfl rfl)
theorem dX2_isBalanced_99 : decode cX2_isBalanced 99 = .ok (.aload_n 0, 1) := dk_42 (dk_at dksX2_isBalanced_4 8 rfl rfl)
theorem dX2_isBalanced_100 : decode cX2_isBalanced 100 = .ok (.getfield 25, 3) := dk_180 0 25 (dk_at dksX2_isBalanced_4 9 rfl rfl)
theorem dX2_isBalanced_103 : decode cX2_isBalanced 103 = .ok (.aload_n 3, 1) := dk_45 (dk_at dksX2_isBalanced_4 12 rfl rfl)
theorem dX2_isBalanced_104 : decode cX2_isBalanced 104 = .ok (.getfield 143, 3) := dk_180 0 143 (dk_at dksX2_isBalanced_4 13 rfl rfl)
theorem dX2_isBalanced_107 : decode cX2_isBalanced 107 = .ok (.invokevirtual 214, 3) := dk_182 0 214 (dk_at dksX2_isBalanced_4 16 rfl rfl)
theorem dX2_isBalanced_110 : decode cX2_isBalanced 110 = .ok (.if_icmp .ne 7, 3) := dk_160 0 7 (dk_at dksX2_isBalanced_4 19 rfl rfl)
theorem dX2_isBalanced_113 : decode cX2_isBalanced 113 = .ok (.iconst 1, 1) := dk_4 (dk_at dksX2_isBalanced_4 22 rfl rfl)
theorem dX2_isBalanced_114 : decode cX2_isBalanced 114 = .ok (.goto 4, 3) := dk_167 0 4 (dk_at dksX2_isBalanced_5 0 rfl rfl)
theorem dX2_isBalanced_117 : decode cX2_isBalanced 117 = .ok (.iconst 0, 1) := dk_3 (dk_at dksX2_isBalanced_5 3 rfl rfl)
theorem dX2_isBalanced_118 : decode cX2_isBalanced 118 = .ok (.iand, 1) := dk_126 (dk_at dksX2_isBalanced_5 4 rfl rfl)
theorem dX2_isBalanced_119 : decode cX2_isBalanced 119 = .ok (.istore_n 1, 1) := dk_60 (dk_at dksX2_isBalanced_5 5 rfl rfl)
theorem dX2_isBalanced_120 : decode cX2_isBalanced 120 = .ok (.goto (-54), 3) := dk_167 255 202 (dk_at dksX2_isBalanced_5 6 rfl rfl)
theorem dX2_isBalanced_123 : decode cX2_isBalanced 123 = .ok (.iload_n 1, 1) := dk_27 (dk_at dksX2_isBalanced_5 9 rfl rfl)
theorem dX2_isBalanced_124 : decode cX2_isBalanced 124 = .ok (.ireturn, 1) := dk_172 (dk_at dksX2_isBalanced_5 10 rfl rfl)
abbrev cX2_sumOfCoins : ByteArray := prog_6_method_21_code
def yX2_sumOfCoins : MethodName := ⟨RX2, "sumOfCoins", "()I"⟩
def dkwX2_sumOfCoins_1 : List UInt8 := [185, 0, 44, 1, 0, 192, 0, 48, 78, 27, 45, 180, 0, 146, 96, 60, 167, 255, 230, 27, 172]
abbrev dktX2_sumOfCoins_1 : List UInt8 := dkwX2_sumOfCoins_1 ++ []
def dkwX2_sumOfCoins_0 : List UInt8 := [3, 60, 42, 180, 0, 12, 185, 0, 32, 1, 0, 77, 44, 185, 0, 38, 1, 0, 153, 0, 23, 44]
abbrev dktX2_sumOfCoins_0 : List UInt8 := dkwX2_sumOfCoins_0 ++ dktX2_sumOfCoins_1
theorem dksX2_sumOfCoins_0 : cX2_sumOfCoins.data.toList.drop 0 = dktX2_sumOfCoins_0 := by decide +kernel
theorem dksX2_sumOfCoins_1 : cX2_sumOfCoins.data.toList.drop 22 = dktX2_sumOfCoins_1 := dk_seg dksX2_sumOfCoins_0 22 rfl rfl
theorem dX2_sumOfCoins_0 : decode cX2_sumOfCoins 0 = .ok (.iconst 0, 1) := dk_3 (dk_at dksX2_sumOfCoins_0 0 rfl rfl)
theorem dX2_sumOfCoins_1 : decode cX2_sumOfCoins 1 = .ok (.istore_n 1, 1) := dk_60 (dk_at dksX2_sumOfCoins_0 1 rfl rfl)
theorem dX2_sumOfCoins_2 : decode cX2_sumOfCoins 2 = .ok (.aload_n 0, 1) := dk_42 (dk_at dksX2_sumOfCoins_0 2 rfl rfl)
theorem dX2_sumOfCoins_3 : decode cX2_sumOfCoins 3 = .ok (.getfield 12, 3) := dk_180 0 12 (dk_at dksX2_sumOfCoins_0 3 rfl rfl)
theorem dX2_sumOfCoins_6 : decode cX2_sumOfCoins 6 = .ok (.invokeinterface 32 1, 5) := by decide +kernel
theorem dX2_sumOfCoins_11 : decode cX2_sumOfCoins 11 = .ok (.astore_n 2, 1) := dk_77 (dk_at dksX2_sumOfCoins_0 11 rfl rfl)
theorem dX2_sumOfCoins_12 : decode cX2_sumOfCoins 12 = .ok (.aload_n 2, 1) := dk_44 (dk_at dksX2_sumOfCoins_0 12 rfl rfl)
theorem dX2_sumOfCoins_13 : decode cX2_sumOfCoins 13 = .ok (.invokeinterface 38 1, 5) := by decide +kernel
theorem dX2_sumOfCoins_18 : decode cX2_sumOfCoins 18 = .ok (.ifCond .eq 23, 3) := dk_153 0 23 (dk_at dksX2_sumOfCoins_0 18 rfl rfl)
theorem dX2_sumOfCoins_21 : decode cX2_sumOfCoins 21 = .ok (.aload_n 2, 1) := dk_44 (dk_at dksX2_sumOfCoins_0 21 rfl rfl)
theorem dX2_sumOfCoins_22 : decode cX2_sumOfCoins 22 = .ok (.invokeinterface 44 1, 5) := by decide +kernel
theorem dX2_sumOfCoins_27 : decode cX2_sumOfCoins 27 = .ok (.checkcast 48, 3) := dk_192 0 48 (dk_at dksX2_sumOfCoins_1 5 rfl rfl)
theorem dX2_sumOfCoins_30 : decode cX2_sumOfCoins 30 = .ok (.astore_n 3, 1) := dk_78 (dk_at dksX2_sumOfCoins_1 8 rfl rfl)
theorem dX2_sumOfCoins_31 : decode cX2_sumOfCoins 31 = .ok (.iload_n 1, 1) := dk_27 (dk_at dksX2_sumOfCoins_1 9 rfl rfl)
theorem dX2_sumOfCoins_32 : decode cX2_sumOfCoins 32 = .ok (.aload_n 3, 1) := dk_45 (dk_at dksX2_sumOfCoins_1 10 rfl rfl)
theorem dX2_sumOfCoins_33 : decode cX2_sumOfCoins 33 = .ok (.getfield 146, 3) := dk_180 0 146 (dk_at dksX2_sumOfCoins_1 11 rfl rfl)
theorem dX2_sumOfCoins_36 : decode cX2_sumOfCoins 36 = .ok (.iadd, 1) := dk_96 (dk_at dksX2_sumOfCoins_1 14 rfl rfl)
theorem dX2_sumOfCoins_37 : decode cX2_sumOfCoins 37 = .ok (.istore_n 1, 1) := dk_60 (dk_at dksX2_sumOfCoins_1 15 rfl rfl)
theorem dX2_sumOfCoins_38 : decode cX2_sumOfCoins 38 = .ok (.goto (-26), 3) := dk_167 255 230 (dk_at dksX2_sumOfCoins_1 16 rfl rfl)
theorem dX2_sumOfCoins_41 : decode cX2_sumOfCoins 41 = .ok (.iload_n 1, 1) := dk_27 (dk_at dksX2_sumOfCoins_1 19 rfl rfl)
theorem dX2_sumOfCoins_42 : decode cX2_sumOfCoins 42 = .ok (.ireturn, 1) := dk_172 (dk_at dksX2_sumOfCoins_1 20 rfl rfl)
abbrev cX2_sumOfTaxes : ByteArray := prog_6_method_23_code
def yX2_sumOfTaxes : MethodName := ⟨RX2, "sumOfTaxes", "()I"⟩
def dkwX2_sumOfTaxes_1 : List UInt8 := [185, 0, 44, 1, 0, 192, 0, 48, 78, 27, 45, 180, 0, 190, 96, 60, 167, 255, 230, 27, 172]
abbrev dktX2_sumOfTaxes_1 : List UInt8 := dkwX2_sumOfTaxes_1 ++ []
def dkwX2_sumOfTaxes_0 : List UInt8 := [3, 60, 42, 180, 0, 12, 185, 0, 32, 1, 0, 77, 44, 185, 0, 38, 1, 0, 153, 0, 23, 44]
abbrev dktX2_sumOfTaxes_0 : List UInt8 := dkwX2_sumOfTaxes_0 ++ dktX2_sumOfTaxes_1
theorem dksX2_sumOfTaxes_0 : cX2_sumOfTaxes.data.toList.drop 0 = dktX2_sumOfTaxes_0 := by decide +kernel
theorem dksX2_sumOfTaxes_1 : cX2_sumOfTaxes.data.toList.drop 22 = dktX2_sumOfTaxes_1 := dk_seg dksX2_sumOfTaxes_0 22 rfl rfl
theorem dX2_sumOfTaxes_0 : decode cX2_sumOfTaxes 0 = .ok (.iconst 0, 1) := dk_3 (dk_at dksX2_sumOfTaxes_0 0 rfl rfl)
theorem dX2_sumOfTaxes_1 : decode cX2_sumOfTaxes 1 = .ok (.istore_n 1, 1) := dk_60 (dk_at dksX2_sumOfTaxes_0 1 rfl rfl)
theorem dX2_sumOfTaxes_2 : decode cX2_sumOfTaxes 2 = .ok (.aload_n 0, 1) := dk_42 (dk_at dksX2_sumOfTaxes_0 2 rfl rfl)
theorem dX2_sumOfTaxes_3 : decode cX2_sumOfTaxes 3 = .ok (.getfield 12, 3) := dk_180 0 12 (dk_at dksX2_sumOfTaxes_0 3 rfl rfl)
theorem dX2_sumOfTaxes_6 : decode cX2_sumOfTaxes 6 = .ok (.invokeinterface 32 1, 5) := by decide +kernel
theorem dX2_sumOfTaxes_11 : decode cX2_sumOfTaxes 11 = .ok (.astore_n 2, 1) := dk_77 (dk_at dksX2_sumOfTaxes_0 11 rfl rfl)
theorem dX2_sumOfTaxes_12 : decode cX2_sumOfTaxes 12 = .ok (.aload_n 2, 1) := dk_44 (dk_at dksX2_sumOfTaxes_0 12 rfl rfl)
theorem dX2_sumOfTaxes_13 : decode cX2_sumOfTaxes 13 = .ok (.invokeinterface 38 1, 5) := by decide +kernel
theorem dX2_sumOfTaxes_18 : decode cX2_sumOfTaxes 18 = .ok (.ifCond .eq 23, 3) := dk_153 0 23 (dk_at dksX2_sumOfTaxes_0 18 rfl rfl)
theorem dX2_sumOfTaxes_21 : decode cX2_sumOfTaxes 21 = .ok (.aload_n 2, 1) := dk_44 (dk_at dksX2_sumOfTaxes_0 21 rfl rfl)
theorem dX2_sumOfTaxes_22 : decode cX2_sumOfTaxes 22 = .ok (.invokeinterface 44 1, 5) := by decide +kernel
theorem dX2_sumOfTaxes_27 : decode cX2_sumOfTaxes 27 = .ok (.checkcast 48, 3) := dk_192 0 48 (dk_at dksX2_sumOfTaxes_1 5 rfl rfl)
theorem dX2_sumOfTaxes_30 : decode cX2_sumOfTaxes 30 = .ok (.astore_n 3, 1) := dk_78 (dk_at dksX2_sumOfTaxes_1 8 rfl rfl)
theorem dX2_sumOfTaxes_31 : decode cX2_sumOfTaxes 31 = .ok (.iload_n 1, 1) := dk_27 (dk_at dksX2_sumOfTaxes_1 9 rfl rfl)
theorem dX2_sumOfTaxes_32 : decode cX2_sumOfTaxes 32 = .ok (.aload_n 3, 1) := dk_45 (dk_at dksX2_sumOfTaxes_1 10 rfl rfl)
theorem dX2_sumOfTaxes_33 : decode cX2_sumOfTaxes 33 = .ok (.getfield 190, 3) := dk_180 0 190 (dk_at dksX2_sumOfTaxes_1 11 rfl rfl)
theorem dX2_sumOfTaxes_36 : decode cX2_sumOfTaxes 36 = .ok (.iadd, 1) := dk_96 (dk_at dksX2_sumOfTaxes_1 14 rfl rfl)
theorem dX2_sumOfTaxes_37 : decode cX2_sumOfTaxes 37 = .ok (.istore_n 1, 1) := dk_60 (dk_at dksX2_sumOfTaxes_1 15 rfl rfl)
theorem dX2_sumOfTaxes_38 : decode cX2_sumOfTaxes 38 = .ok (.goto (-26), 3) := dk_167 255 230 (dk_at dksX2_sumOfTaxes_1 16 rfl rfl)
theorem dX2_sumOfTaxes_41 : decode cX2_sumOfTaxes 41 = .ok (.iload_n 1, 1) := dk_27 (dk_at dksX2_sumOfTaxes_1 19 rfl rfl)
theorem dX2_sumOfTaxes_42 : decode cX2_sumOfTaxes 42 = .ok (.ireturn, 1) := dk_172 (dk_at dksX2_sumOfTaxes_1 20 rfl rfl)
abbrev cX2_sumOfFines : ByteArray := prog_6_method_24_code
def yX2_sumOfFines : MethodName := ⟨RX2, "sumOfFines", "()I"⟩
def dkwX2_sumOfFines_1 : List UInt8 := [185, 0, 44, 1, 0, 192, 0, 48, 78, 27, 45, 180, 0, 193, 96, 60, 167, 255, 230, 27, 172]
abbrev dktX2_sumOfFines_1 : List UInt8 := dkwX2_sumOfFines_1 ++ []
def dkwX2_sumOfFines_0 : List UInt8 := [3, 60, 42, 180, 0, 12, 185, 0, 32, 1, 0, 77, 44, 185, 0, 38, 1, 0, 153, 0, 23, 44]
abbrev dktX2_sumOfFines_0 : List UInt8 := dkwX2_sumOfFines_0 ++ dktX2_sumOfFines_1
theorem dksX2_sumOfFines_0 : cX2_sumOfFines.data.toList.drop 0 = dktX2_sumOfFines_0 := by decide +kernel
theorem dksX2_sumOfFines_1 : cX2_sumOfFines.data.toList.drop 22 = dktX2_sumOfFines_1 := dk_seg dksX2_sumOfFines_0 22 rfl rfl
theorem dX2_sumOfFines_0 : decode cX2_sumOfFines 0 = .ok (.iconst 0, 1) := dk_3 (dk_at dksX2_sumOfFines_0 0 rfl rfl)
theorem dX2_sumOfFines_1 : decode cX2_sumOfFines 1 = .ok (.istore_n 1, 1) := dk_60 (dk_at dksX2_sumOfFines_0 1 rfl rfl)
theorem dX2_sumOfFines_2 : decode cX2_sumOfFines 2 = .ok (.aload_n 0, 1) := dk_42 (dk_at dksX2_sumOfFines_0 2 rfl rfl)
theorem dX2_sumOfFines_3 : decode cX2_sumOfFines 3 = .ok (.getfield 12, 3) := dk_180 0 12 (dk_at dksX2_sumOfFines_0 3 rfl rfl)
theorem dX2_sumOfFines_6 : decode cX2_sumOfFines 6 = .ok (.invokeinterface 32 1, 5) := by decide +kernel
theorem dX2_sumOfFines_11 : decode cX2_sumOfFines 11 = .ok (.astore_n 2, 1) := dk_77 (dk_at dksX2_sumOfFines_0 11 rfl rfl)
theorem dX2_sumOfFines_12 : decode cX2_sumOfFines 12 = .ok (.aload_n 2, 1) := dk_44 (dk_at dksX2_sumOfFines_0 12 rfl rfl)
theorem dX2_sumOfFines_13 : decode cX2_sumOfFines 13 = .ok (.invokeinterface 38 1, 5) := by decide +kernel
theorem dX2_sumOfFines_18 : decode cX2_sumOfFines 18 = .ok (.ifCond .eq 23, 3) := dk_153 0 23 (dk_at dksX2_sumOfFines_0 18 rfl rfl)
theorem dX2_sumOfFines_21 : decode cX2_sumOfFines 21 = .ok (.aload_n 2, 1) := dk_44 (dk_at dksX2_sumOfFines_0 21 rfl rfl)
theorem dX2_sumOfFines_22 : decode cX2_sumOfFines 22 = .ok (.invokeinterface 44 1, 5) := by decide +kernel
theorem dX2_sumOfFines_27 : decode cX2_sumOfFines 27 = .ok (.checkcast 48, 3) := dk_192 0 48 (dk_at dksX2_sumOfFines_1 5 rfl rfl)
theorem dX2_sumOfFines_30 : decode cX2_sumOfFines 30 = .ok (.astore_n 3, 1) := dk_78 (dk_at dksX2_sumOfFines_1 8 rfl rfl)
theorem dX2_sumOfFines_31 : decode cX2_sumOfFines 31 = .ok (.iload_n 1, 1) := dk_27 (dk_at dksX2_sumOfFines_1 9 rfl rfl)
theorem dX2_sumOfFines_32 : decode cX2_sumOfFines 32 = .ok (.aload_n 3, 1) := dk_45 (dk_at dksX2_sumOfFines_1 10 rfl rfl)
theorem dX2_sumOfFines_33 : decode cX2_sumOfFines 33 = .ok (.getfield 193, 3) := dk_180 0 193 (dk_at dksX2_sumOfFines_1 11 rfl rfl)
theorem dX2_sumOfFines_36 : decode cX2_sumOfFines 36 = .ok (.iadd, 1) := dk_96 (dk_at dksX2_sumOfFines_1 14 rfl rfl)
theorem dX2_sumOfFines_37 : decode cX2_sumOfFines 37 = .ok (.istore_n 1, 1) := dk_60 (dk_at dksX2_sumOfFines_1 15 rfl rfl)
theorem dX2_sumOfFines_38 : decode cX2_sumOfFines 38 = .ok (.goto (-26), 3) := dk_167 255 230 (dk_at dksX2_sumOfFines_1 16 rfl rfl)
theorem dX2_sumOfFines_41 : decode cX2_sumOfFines 41 = .ok (.iload_n 1, 1) := dk_27 (dk_at dksX2_sumOfFines_1 19 rfl rfl)
theorem dX2_sumOfFines_42 : decode cX2_sumOfFines 42 = .ok (.ireturn, 1) := dk_172 (dk_at dksX2_sumOfFines_1 20 rfl rfl)
abbrev cX2_sumOfDebts : ByteArray := prog_6_method_22_code
def yX2_sumOfDebts : MethodName := ⟨RX2, "sumOfDebts", "()I"⟩
def dkwX2_sumOfDebts_1 : List UInt8 := [185, 0, 44, 1, 0, 192, 0, 48, 78, 27, 45, 180, 0, 183, 96, 60, 167, 255, 230, 27, 172]
abbrev dktX2_sumOfDebts_1 : List UInt8 := dkwX2_sumOfDebts_1 ++ []
def dkwX2_sumOfDebts_0 : List UInt8 := [3, 60, 42, 180, 0, 12, 185, 0, 32, 1, 0, 77, 44, 185, 0, 38, 1, 0, 153, 0, 23, 44]
abbrev dktX2_sumOfDebts_0 : List UInt8 := dkwX2_sumOfDebts_0 ++ dktX2_sumOfDebts_1
theorem dksX2_sumOfDebts_0 : cX2_sumOfDebts.data.toList.drop 0 = dktX2_sumOfDebts_0 := by decide +kernel
theorem dksX2_sumOfDebts_1 : cX2_sumOfDebts.data.toList.drop 22 = dktX2_sumOfDebts_1 := dk_seg dksX2_sumOfDebts_0 22 rfl rfl
theorem dX2_sumOfDebts_0 : decode cX2_sumOfDebts 0 = .ok (.iconst 0, 1) := dk_3 (dk_at dksX2_sumOfDebts_0 0 rfl rfl)
theorem dX2_sumOfDebts_1 : decode cX2_sumOfDebts 1 = .ok (.istore_n 1, 1) := dk_60 (dk_at dksX2_sumOfDebts_0 1 rfl rfl)
theorem dX2_sumOfDebts_2 : decode cX2_sumOfDebts 2 = .ok (.aload_n 0, 1) := dk_42 (dk_at dksX2_sumOfDebts_0 2 rfl rfl)
theorem dX2_sumOfDebts_3 : decode cX2_sumOfDebts 3 = .ok (.getfield 12, 3) := dk_180 0 12 (dk_at dksX2_sumOfDebts_0 3 rfl rfl)
theorem dX2_sumOfDebts_6 : decode cX2_sumOfDebts 6 = .ok (.invokeinterface 32 1, 5) := by decide +kernel
theorem dX2_sumOfDebts_11 : decode cX2_sumOfDebts 11 = .ok (.astore_n 2, 1) := dk_77 (dk_at dksX2_sumOfDebts_0 11 rfl rfl)
theorem dX2_sumOfDebts_12 : decode cX2_sumOfDebts 12 = .ok (.aload_n 2, 1) := dk_44 (dk_at dksX2_sumOfDebts_0 12 rfl rfl)
theorem dX2_sumOfDebts_13 : decode cX2_sumOfDebts 13 = .ok (.invokeinterface 38 1, 5) := by decide +kernel
theorem dX2_sumOfDebts_18 : decode cX2_sumOfDebts 18 = .ok (.ifCond .eq 23, 3) := dk_153 0 23 (dk_at dksX2_sumOfDebts_0 18 rfl rfl)
theorem dX2_sumOfDebts_21 : decode cX2_sumOfDebts 21 = .ok (.aload_n 2, 1) := dk_44 (dk_at dksX2_sumOfDebts_0 21 rfl rfl)
theorem dX2_sumOfDebts_22 : decode cX2_sumOfDebts 22 = .ok (.invokeinterface 44 1, 5) := by decide +kernel
theorem dX2_sumOfDebts_27 : decode cX2_sumOfDebts 27 = .ok (.checkcast 48, 3) := dk_192 0 48 (dk_at dksX2_sumOfDebts_1 5 rfl rfl)
theorem dX2_sumOfDebts_30 : decode cX2_sumOfDebts 30 = .ok (.astore_n 3, 1) := dk_78 (dk_at dksX2_sumOfDebts_1 8 rfl rfl)
theorem dX2_sumOfDebts_31 : decode cX2_sumOfDebts 31 = .ok (.iload_n 1, 1) := dk_27 (dk_at dksX2_sumOfDebts_1 9 rfl rfl)
theorem dX2_sumOfDebts_32 : decode cX2_sumOfDebts 32 = .ok (.aload_n 3, 1) := dk_45 (dk_at dksX2_sumOfDebts_1 10 rfl rfl)
theorem dX2_sumOfDebts_33 : decode cX2_sumOfDebts 33 = .ok (.getfield 183, 3) := dk_180 0 183 (dk_at dksX2_sumOfDebts_1 11 rfl rfl)
theorem dX2_sumOfDebts_36 : decode cX2_sumOfDebts 36 = .ok (.iadd, 1) := dk_96 (dk_at dksX2_sumOfDebts_1 14 rfl rfl)
theorem dX2_sumOfDebts_37 : decode cX2_sumOfDebts 37 = .ok (.istore_n 1, 1) := dk_60 (dk_at dksX2_sumOfDebts_1 15 rfl rfl)
theorem dX2_sumOfDebts_38 : decode cX2_sumOfDebts 38 = .ok (.goto (-26), 3) := dk_167 255 230 (dk_at dksX2_sumOfDebts_1 16 rfl rfl)
theorem dX2_sumOfDebts_41 : decode cX2_sumOfDebts 41 = .ok (.iload_n 1, 1) := dk_27 (dk_at dksX2_sumOfDebts_1 19 rfl rfl)
theorem dX2_sumOfDebts_42 : decode cX2_sumOfDebts 42 = .ok (.ireturn, 1) := dk_172 (dk_at dksX2_sumOfDebts_1 20 rfl rfl)
abbrev cX2_auditCosts : ByteArray := prog_6_method_16_code
def yX2_auditCosts : MethodName := ⟨RX2, "auditCosts", "(LCoinTaxes$Citizen;)I"⟩
def dkwX2_auditCosts_1 : List UInt8 := [180, 0, 143, 182, 0, 179, 29, 96, 43, 42, 180, 0, 25, 43, 180, 0, 143, 182, 0, 179, 100, 172]
abbrev dktX2_auditCosts_1 : List UInt8 := dkwX2_auditCosts_1 ++ []
def dkwX2_auditCosts_0 : List UInt8 := [187, 0, 48, 89, 43, 183, 0, 50, 77, 44, 182, 0, 176, 16, 10, 108, 62, 44, 42, 180, 0, 25, 44]
abbrev dktX2_auditCosts_0 : List UInt8 := dkwX2_auditCosts_0 ++ dktX2_auditCosts_1
theorem dksX2_auditCosts_0 : cX2_auditCosts.data.toList.drop 0 = dktX2_auditCosts_0 := by decide +kernel
theorem dksX2_auditCosts_1 : cX2_auditCosts.data.toList.drop 23 = dktX2_auditCosts_1 := dk_seg dksX2_auditCosts_0 23 rfl rfl
theorem dX2_auditCosts_0 : decode cX2_auditCosts 0 = .ok (.new 48, 3) := dk_187 0 48 (dk_at dksX2_auditCosts_0 0 rfl rfl)
theorem dX2_auditCosts_3 : decode cX2_auditCosts 3 = .ok (.dup, 1) := dk_89 (dk_at dksX2_auditCosts_0 3 rfl rfl)
theorem dX2_auditCosts_4 : decode cX2_auditCosts 4 = .ok (.aload_n 1, 1) := dk_43 (dk_at dksX2_auditCosts_0 4 rfl rfl)
theorem dX2_auditCosts_5 : decode cX2_auditCosts 5 = .ok (.invokespecial 50, 3) := dk_183 0 50 (dk_at dksX2_auditCosts_0 5 rfl rfl)
theorem dX2_auditCosts_8 : decode cX2_auditCosts 8 = .ok (.astore_n 2, 1) := dk_77 (dk_at dksX2_auditCosts_0 8 rfl rfl)
theorem dX2_auditCosts_9 : decode cX2_auditCosts 9 = .ok (.aload_n 2, 1) := dk_44 (dk_at dksX2_auditCosts_0 9 rfl rfl)
theorem dX2_auditCosts_10 : decode cX2_auditCosts 10 = .ok (.invokevirtual 176, 3) := dk_182 0 176 (dk_at dksX2_auditCosts_0 10 rfl rfl)
theorem dX2_auditCosts_13 : decode cX2_auditCosts 13 = .ok (.bipush 10, 2) := dk_16 10 (dk_at dksX2_auditCosts_0 13 rfl rfl)
theorem dX2_auditCosts_15 : decode cX2_auditCosts 15 = .ok (.idiv, 1) := dk_108 (dk_at dksX2_auditCosts_0 15 rfl rfl)
theorem dX2_auditCosts_16 : decode cX2_auditCosts 16 = .ok (.istore_n 3, 1) := dk_62 (dk_at dksX2_auditCosts_0 16 rfl rfl)
theorem dX2_auditCosts_17 : decode cX2_auditCosts 17 = .ok (.aload_n 2, 1) := dk_44 (dk_at dksX2_auditCosts_0 17 rfl rfl)
theorem dX2_auditCosts_18 : decode cX2_auditCosts 18 = .ok (.aload_n 0, 1) := dk_42 (dk_at dksX2_auditCosts_0 18 rfl rfl)
theorem dX2_auditCosts_19 : decode cX2_auditCosts 19 = .ok (.getfield 25, 3) := dk_180 0 25 (dk_at dksX2_auditCosts_0 19 rfl rfl)
theorem dX2_auditCosts_22 : decode cX2_auditCosts 22 = .ok (.aload_n 2, 1) := dk_44 (dk_at dksX2_auditCosts_0 22 rfl rfl)
theorem dX2_auditCosts_23 : decode cX2_auditCosts 23 = .ok (.getfield 143, 3) := dk_180 0 143 (dk_at dksX2_auditCosts_1 0 rfl rfl)
theorem dX2_auditCosts_26 : decode cX2_auditCosts 26 = .ok (.invokevirtual 179, 3) := dk_182 0 179 (dk_at dksX2_auditCosts_1 3 rfl rfl)
theorem dX2_auditCosts_29 : decode cX2_auditCosts 29 = .ok (.iload_n 3, 1) := dk_29 (dk_at dksX2_auditCosts_1 6 rfl rfl)
theorem dX2_auditCosts_30 : decode cX2_auditCosts 30 = .ok (.iadd, 1) := dk_96 (dk_at dksX2_auditCosts_1 7 rfl rfl)
theorem dX2_auditCosts_31 : decode cX2_auditCosts 31 = .ok (.aload_n 1, 1) := dk_43 (dk_at dksX2_auditCosts_1 8 rfl rfl)
theorem dX2_auditCosts_32 : decode cX2_auditCosts 32 = .ok (.aload_n 0, 1) := dk_42 (dk_at dksX2_auditCosts_1 9 rfl rfl)
theorem dX2_auditCosts_33 : decode cX2_auditCosts 33 = .ok (.getfield 25, 3) := dk_180 0 25 (dk_at dksX2_auditCosts_1 10 rfl rfl)
theorem dX2_auditCosts_36 : decode cX2_auditCosts 36 = .ok (.aload_n 1, 1) := dk_43 (dk_at dksX2_auditCosts_1 13 rfl rfl)
theorem dX2_auditCosts_37 : decode cX2_auditCosts 37 = .ok (.getfield 143, 3) := dk_180 0 143 (dk_at dksX2_auditCosts_1 14 rfl rfl)
theorem dX2_auditCosts_40 : decode cX2_auditCosts 40 = .ok (.invokevirtual 179, 3) := dk_182 0 179 (dk_at dksX2_auditCosts_1 17 rfl rfl)
theorem dX2_auditCosts_43 : decode cX2_auditCosts 43 = .ok (.isub, 1) := dk_100 (dk_at dksX2_auditCosts_1 20 rfl rfl)
theorem dX2_auditCosts_44 : decode cX2_auditCosts 44 = .ok (.ireturn, 1) := dk_172 (dk_at dksX2_auditCosts_1 21 rfl rfl)
abbrev cX2_left : ByteArray := prog_6_method_17_code
def yX2_left : MethodName := ⟨RX2, "left", "(LCoinTaxes$Citizen;I)I"⟩
def dkwX2_left_0 : List UInt8 := [28, 43, 42, 180, 0, 25, 28, 182, 0, 179, 100, 172]
abbrev dktX2_left_0 : List UInt8 := dkwX2_left_0 ++ []
theorem dksX2_left_0 : cX2_left.data.toList.drop 0 = dktX2_left_0 := by decide +kernel
theorem dX2_left_0 : decode cX2_left 0 = .ok (.iload_n 2, 1) := dk_28 (dk_at dksX2_left_0 0 rfl rfl)
theorem dX2_left_1 : decode cX2_left 1 = .ok (.aload_n 1, 1) := dk_43 (dk_at dksX2_left_0 1 rfl rfl)
theorem dX2_left_2 : decode cX2_left 2 = .ok (.aload_n 0, 1) := dk_42 (dk_at dksX2_left_0 2 rfl rfl)
theorem dX2_left_3 : decode cX2_left 3 = .ok (.getfield 25, 3) := dk_180 0 25 (dk_at dksX2_left_0 3 rfl rfl)
theorem dX2_left_6 : decode cX2_left 6 = .ok (.iload_n 2, 1) := dk_28 (dk_at dksX2_left_0 6 rfl rfl)
theorem dX2_left_7 : decode cX2_left 7 = .ok (.invokevirtual 179, 3) := dk_182 0 179 (dk_at dksX2_left_0 7 rfl rfl)
theorem dX2_left_10 : decode cX2_left 10 = .ok (.isub, 1) := dk_100 (dk_at dksX2_left_0 10 rfl rfl)
theorem dX2_left_11 : decode cX2_left 11 = .ok (.ireturn, 1) := dk_172 (dk_at dksX2_left_0 11 rfl rfl)
abbrev cX2_auditIn : ByteArray := prog_6_method_15_code
def yX2_auditIn : MethodName := ⟨RX2, "auditIn", "(I)I"⟩
def dkwX2_auditIn_1 : List UInt8 := [181, 0, 18, 132, 3, 1, 167, 255, 237, 44, 182, 0, 166, 172]
abbrev dktX2_auditIn_1 : List UInt8 := dkwX2_auditIn_1 ++ []
def dkwX2_auditIn_0 : List UInt8 := [187, 0, 13, 89, 42, 183, 0, 173, 77, 3, 62, 29, 27, 162, 0, 20, 44, 44, 180, 0, 18, 184, 0, 160]
abbrev dktX2_auditIn_0 : List UInt8 := dkwX2_auditIn_0 ++ dktX2_auditIn_1
theorem dksX2_auditIn_0 : cX2_auditIn.data.toList.drop 0 = dktX2_auditIn_0 := by decide +kernel
theorem dksX2_auditIn_1 : cX2_auditIn.data.toList.drop 24 = dktX2_auditIn_1 := dk_seg dksX2_auditIn_0 24 rfl rfl
theorem dX2_auditIn_0 : decode cX2_auditIn 0 = .ok (.new 13, 3) := dk_187 0 13 (dk_at dksX2_auditIn_0 0 rfl rfl)
theorem dX2_auditIn_3 : decode cX2_auditIn 3 = .ok (.dup, 1) := dk_89 (dk_at dksX2_auditIn_0 3 rfl rfl)
theorem dX2_auditIn_4 : decode cX2_auditIn 4 = .ok (.aload_n 0, 1) := dk_42 (dk_at dksX2_auditIn_0 4 rfl rfl)
theorem dX2_auditIn_5 : decode cX2_auditIn 5 = .ok (.invokespecial 173, 3) := dk_183 0 173 (dk_at dksX2_auditIn_0 5 rfl rfl)
theorem dX2_auditIn_8 : decode cX2_auditIn 8 = .ok (.astore_n 2, 1) := dk_77 (dk_at dksX2_auditIn_0 8 rfl rfl)
theorem dX2_auditIn_9 : decode cX2_auditIn 9 = .ok (.iconst 0, 1) := dk_3 (dk_at dksX2_auditIn_0 9 rfl rfl)
theorem dX2_auditIn_10 : decode cX2_auditIn 10 = .ok (.istore_n 3, 1) := dk_62 (dk_at dksX2_auditIn_0 10 rfl rfl)
theorem dX2_auditIn_11 : decode cX2_auditIn 11 = .ok (.iload_n 3, 1) := dk_29 (dk_at dksX2_auditIn_0 11 rfl rfl)
theorem dX2_auditIn_12 : decode cX2_auditIn 12 = .ok (.iload_n 1, 1) := dk_27 (dk_at dksX2_auditIn_0 12 rfl rfl)
theorem dX2_auditIn_13 : decode cX2_auditIn 13 = .ok (.if_icmp .ge 20, 3) := dk_162 0 20 (dk_at dksX2_auditIn_0 13 rfl rfl)
theorem dX2_auditIn_16 : decode cX2_auditIn 16 = .ok (.aload_n 2, 1) := dk_44 (dk_at dksX2_auditIn_0 16 rfl rfl)
theorem dX2_auditIn_17 : decode cX2_auditIn 17 = .ok (.aload_n 2, 1) := dk_44 (dk_at dksX2_auditIn_0 17 rfl rfl)
theorem dX2_auditIn_18 : decode cX2_auditIn 18 = .ok (.getfield 18, 3) := dk_180 0 18 (dk_at dksX2_auditIn_0 18 rfl rfl)
theorem dX2_auditIn_21 : decode cX2_auditIn 21 = .ok (.invokestatic 160, 3) := dk_184 0 160 (dk_at dksX2_auditIn_0 21 rfl rfl)
theorem dX2_auditIn_24 : decode cX2_auditIn 24 = .ok (.putfield 18, 3) := dk_181 0 18 (dk_at dksX2_auditIn_1 0 rfl rfl)
theorem dX2_auditIn_27 : decode cX2_auditIn 27 = .ok (.iinc 3 1, 3) := dk_132 3 1 (dk_at dksX2_auditIn_1 3 rfl rfl)
theorem dX2_auditIn_30 : decode cX2_auditIn 30 = .ok (.goto (-19), 3) := dk_167 255 237 (dk_at dksX2_auditIn_1 6 rfl rfl)
theorem dX2_auditIn_33 : decode cX2_auditIn 33 = .ok (.aload_n 2, 1) := dk_44 (dk_at dksX2_auditIn_1 9 rfl rfl)
theorem dX2_auditIn_34 : decode cX2_auditIn 34 = .ok (.invokevirtual 166, 3) := dk_182 0 166 (dk_at dksX2_auditIn_1 10 rfl rfl)
theorem dX2_auditIn_37 : decode cX2_auditIn 37 = .ok (.ireturn, 1) := dk_172 (dk_at dksX2_auditIn_1 13 rfl rfl)
abbrev cX2_ranked : ByteArray := prog_6_method_19_code
def yX2_ranked : MethodName := ⟨RX2, "ranked", "(I)I"⟩
def dkwX2_ranked_4 : List UInt8 := [160, 0, 8, 45, 180, 0, 163, 172, 167, 255, 168, 2, 172]
abbrev dktX2_ranked_4 : List UInt8 := dkwX2_ranked_4 ++ []
def dkwX2_ranked_3 : List UInt8 := [25, 6, 45, 184, 0, 186, 153, 0, 7, 4, 167, 0, 4, 3, 96, 54, 4, 167, 255, 215, 21, 4, 27]
abbrev dktX2_ranked_3 : List UInt8 := dkwX2_ranked_3 ++ dktX2_ranked_4
def dkwX2_ranked_2 : List UInt8 := [25, 5, 185, 0, 38, 1, 0, 153, 0, 37, 25, 5, 185, 0, 44, 1, 0, 192, 0, 48, 58, 6, 21, 4]
abbrev dktX2_ranked_2 : List UInt8 := dkwX2_ranked_2 ++ dktX2_ranked_3
def dkwX2_ranked_1 : List UInt8 := [185, 0, 44, 1, 0, 192, 0, 48, 78, 3, 54, 4, 42, 180, 0, 12, 185, 0, 32, 1, 0, 58, 5]
abbrev dktX2_ranked_1 : List UInt8 := dkwX2_ranked_1 ++ dktX2_ranked_2
def dkwX2_ranked_0 : List UInt8 := [42, 180, 0, 12, 185, 0, 32, 1, 0, 77, 44, 185, 0, 38, 1, 0, 153, 0, 85, 44]
abbrev dktX2_ranked_0 : List UInt8 := dkwX2_ranked_0 ++ dktX2_ranked_1
theorem dksX2_ranked_0 : cX2_ranked.data.toList.drop 0 = dktX2_ranked_0 := by decide +kernel
theorem dksX2_ranked_1 : cX2_ranked.data.toList.drop 20 = dktX2_ranked_1 := dk_seg dksX2_ranked_0 20 rfl rfl
theorem dksX2_ranked_2 : cX2_ranked.data.toList.drop 43 = dktX2_ranked_2 := dk_seg dksX2_ranked_1 23 rfl rfl
theorem dksX2_ranked_3 : cX2_ranked.data.toList.drop 67 = dktX2_ranked_3 := dk_seg dksX2_ranked_2 24 rfl rfl
theorem dksX2_ranked_4 : cX2_ranked.data.toList.drop 90 = dktX2_ranked_4 := dk_seg dksX2_ranked_3 23 rfl rfl
theorem dX2_ranked_0 : decode cX2_ranked 0 = .ok (.aload_n 0, 1) := dk_42 (dk_at dksX2_ranked_0 0 rfl rfl)
theorem dX2_ranked_1 : decode cX2_ranked 1 = .ok (.getfield 12, 3) := dk_180 0 12 (dk_at dksX2_ranked_0 1 rfl rfl)
theorem dX2_ranked_4 : decode cX2_ranked 4 = .ok (.invokeinterface 32 1, 5) := by decide +kernel
theorem dX2_ranked_9 : decode cX2_ranked 9 = .ok (.astore_n 2, 1) := dk_77 (dk_at dksX2_ranked_0 9 rfl rfl)
theorem dX2_ranked_10 : decode cX2_ranked 10 = .ok (.aload_n 2, 1) := dk_44 (dk_at dksX2_ranked_0 10 rfl rfl)
theorem dX2_ranked_11 : decode cX2_ranked 11 = .ok (.invokeinterface 38 1, 5) := by decide +kernel
theorem dX2_ranked_16 : decode cX2_ranked 16 = .ok (.ifCond .eq 85, 3) := dk_153 0 85 (dk_at dksX2_ranked_0 16 rfl rfl)
theorem dX2_ranked_19 : decode cX2_ranked 19 = .ok (.aload_n 2, 1) := dk_44 (dk_at dksX2_ranked_0 19 rfl rfl)
theorem dX2_ranked_20 : decode cX2_ranked 20 = .ok (.invokeinterface 44 1, 5) := by decide +kernel
theorem dX2_ranked_25 : decode cX2_ranked 25 = .ok (.checkcast 48, 3) := dk_192 0 48 (dk_at dksX2_ranked_1 5 rfl rfl)
theorem dX2_ranked_28 : decode cX2_ranked 28 = .ok (.astore_n 3, 1) := dk_78 (dk_at dksX2_ranked_1 8 rfl rfl)
theorem dX2_ranked_29 : decode cX2_ranked 29 = .ok (.iconst 0, 1) := dk_3 (dk_at dksX2_ranked_1 9 rfl rfl)
theorem dX2_ranked_30 : decode cX2_ranked 30 = .ok (.istore 4, 2) := dk_54 4 (dk_at dksX2_ranked_1 10 rfl rfl)
theorem dX2_ranked_32 : decode cX2_ranked 32 = .ok (.aload_n 0, 1) := dk_42 (dk_at dksX2_ranked_1 12 rfl rfl)
theorem dX2_ranked_33 : decode cX2_ranked 33 = .ok (.getfield 12, 3) := dk_180 0 12 (dk_at dksX2_ranked_1 13 rfl rfl)
theorem dX2_ranked_36 : decode cX2_ranked 36 = .ok (.invokeinterface 32 1, 5) := by decide +kernel
theorem dX2_ranked_41 : decode cX2_ranked 41 = .ok (.astore 5, 2) := dk_58 5 (dk_at dksX2_ranked_1 21 rfl rfl)
theorem dX2_ranked_43 : decode cX2_ranked 43 = .ok (.aload 5, 2) := dk_25 5 (dk_at dksX2_ranked_2 0 rfl rfl)
theorem dX2_ranked_45 : decode cX2_ranked 45 = .ok (.invokeinterface 38 1, 5) := by decide +kernel
theorem dX2_ranked_50 : decode cX2_ranked 50 = .ok (.ifCond .eq 37, 3) := dk_153 0 37 (dk_at dksX2_ranked_2 7 rfl rfl)
theorem dX2_ranked_53 : decode cX2_ranked 53 = .ok (.aload 5, 2) := dk_25 5 (dk_at dksX2_ranked_2 10 rfl rfl)
theorem dX2_ranked_55 : decode cX2_ranked 55 = .ok (.invokeinterface 44 1, 5) := by decide +kernel
theorem dX2_ranked_60 : decode cX2_ranked 60 = .ok (.checkcast 48, 3) := dk_192 0 48 (dk_at dksX2_ranked_2 17 rfl rfl)
theorem dX2_ranked_63 : decode cX2_ranked 63 = .ok (.astore 6, 2) := dk_58 6 (dk_at dksX2_ranked_2 20 rfl rfl)
theorem dX2_ranked_65 : decode cX2_ranked 65 = .ok (.iload 4, 2) := dk_21 4 (dk_at dksX2_ranked_2 22 rfl rfl)
theorem dX2_ranked_67 : decode cX2_ranked 67 = .ok (.aload 6, 2) := dk_25 6 (dk_at dksX2_ranked_3 0 rfl rfl)
theorem dX2_ranked_69 : decode cX2_ranked 69 = .ok (.aload_n 3, 1) := dk_45 (dk_at dksX2_ranked_3 2 rfl rfl)
theorem dX2_ranked_70 : decode cX2_ranked 70 = .ok (.invokestatic 186, 3) := dk_184 0 186 (dk_at dksX2_ranked_3 3 rfl rfl)
theorem dX2_ranked_73 : decode cX2_ranked 73 = .ok (.ifCond .eq 7, 3) := dk_153 0 7 (dk_at dksX2_ranked_3 6 rfl rfl)
theorem dX2_ranked_76 : decode cX2_ranked 76 = .ok (.iconst 1, 1) := dk_4 (dk_at dksX2_ranked_3 9 rfl rfl)
theorem dX2_ranked_77 : decode cX2_ranked 77 = .ok (.goto 4, 3) := dk_167 0 4 (dk_at dksX2_ranked_3 10 rfl rfl)
theorem dX2_ranked_80 : decode cX2_ranked 80 = .ok (.iconst 0, 1) := dk_3 (dk_at dksX2_ranked_3 13 rfl rfl)
theorem dX2_ranked_81 : decode cX2_ranked 81 = .ok (.iadd, 1) := dk_96 (dk_at dksX2_ranked_3 14 rfl rfl)
theorem dX2_ranked_82 : decode cX2_ranked 82 = .ok (.istore 4, 2) := dk_54 4 (dk_at dksX2_ranked_3 15 rfl rfl)
theorem dX2_ranked_84 : decode cX2_ranked 84 = .ok (.goto (-41), 3) := dk_167 255 215 (dk_at dksX2_ranked_3 17 rfl rfl)
theorem dX2_ranked_87 : decode cX2_ranked 87 = .ok (.iload 4, 2) := dk_21 4 (dk_at dksX2_ranked_3 20 rfl rfl)
theorem dX2_ranked_89 : decode cX2_ranked 89 = .ok (.iload_n 1, 1) := dk_27 (dk_at dksX2_ranked_3 22 rfl rfl)
theorem dX2_ranked_90 : decode cX2_ranked 90 = .ok (.if_icmp .ne 8, 3) := dk_160 0 8 (dk_at dksX2_ranked_4 0 rfl rfl)
theorem dX2_ranked_93 : decode cX2_ranked 93 = .ok (.aload_n 3, 1) := dk_45 (dk_at dksX2_ranked_4 3 rfl rfl)
theorem dX2_ranked_94 : decode cX2_ranked 94 = .ok (.getfield 163, 3) := dk_180 0 163 (dk_at dksX2_ranked_4 4 rfl rfl)
theorem dX2_ranked_97 : decode cX2_ranked 97 = .ok (.ireturn, 1) := dk_172 (dk_at dksX2_ranked_4 7 rfl rfl)
theorem dX2_ranked_98 : decode cX2_ranked 98 = .ok (.goto (-88), 3) := dk_167 255 168 (dk_at dksX2_ranked_4 8 rfl rfl)
theorem dX2_ranked_101 : decode cX2_ranked 101 = .ok (.iconst (-1), 1) := dk_2 (dk_at dksX2_ranked_4 11 rfl rfl)
theorem dX2_ranked_102 : decode cX2_ranked 102 = .ok (.ireturn, 1) := dk_172 (dk_at dksX2_ranked_4 12 rfl rfl)
abbrev cX2_isAhead : ByteArray := prog_6_method_18_code
def yX2_isAhead : MethodName := ⟨RX2, "isAhead", "(LCoinTaxes$Citizen;LCoinTaxes$Citizen;)Z"⟩
def dkwX2_isAhead_3 : List UInt8 := [180, 0, 163, 162, 0, 7, 4, 167, 0, 4, 3, 172]
abbrev dktX2_isAhead_3 : List UInt8 := dkwX2_isAhead_3 ++ []
def dkwX2_isAhead_2 : List UInt8 := [180, 0, 143, 43, 180, 0, 143, 164, 0, 7, 4, 167, 0, 23, 3, 167, 0, 19, 42, 180, 0, 163, 43]
abbrev dktX2_isAhead_2 : List UInt8 := dkwX2_isAhead_2 ++ dktX2_isAhead_3
def dkwX2_isAhead_1 : List UInt8 := [28, 158, 0, 7, 4, 167, 0, 4, 3, 172, 42, 180, 0, 143, 43, 180, 0, 143, 159, 0, 22, 42]
abbrev dktX2_isAhead_1 : List UInt8 := dkwX2_isAhead_1 ++ dktX2_isAhead_2
def dkwX2_isAhead_0 : List UInt8 := [42, 180, 0, 146, 42, 180, 0, 183, 100, 43, 180, 0, 146, 43, 180, 0, 183, 100, 100, 61, 28, 153, 0, 13]
abbrev dktX2_isAhead_0 : List UInt8 := dkwX2_isAhead_0 ++ dktX2_isAhead_1
theorem dksX2_isAhead_0 : cX2_isAhead.data.toList.drop 0 = dktX2_isAhead_0 := by decide +kernel
theorem dksX2_isAhead_1 : cX2_isAhead.data.toList.drop 24 = dktX2_isAhead_1 := dk_seg dksX2_isAhead_0 24 rfl rfl
theorem dksX2_isAhead_2 : cX2_isAhead.data.toList.drop 46 = dktX2_isAhead_2 := dk_seg dksX2_isAhead_1 22 rfl rfl
theorem dksX2_isAhead_3 : cX2_isAhead.data.toList.drop 69 = dktX2_isAhead_3 := dk_seg dksX2_isAhead_2 23 rfl rfl
theorem dX2_isAhead_0 : decode cX2_isAhead 0 = .ok (.aload_n 0, 1) := dk_42 (dk_at dksX2_isAhead_0 0 rfl rfl)
theorem dX2_isAhead_1 : decode cX2_isAhead 1 = .ok (.getfield 146, 3) := dk_180 0 146 (dk_at dksX2_isAhead_0 1 rfl rfl)
theorem dX2_isAhead_4 : decode cX2_isAhead 4 = .ok (.aload_n 0, 1) := dk_42 (dk_at dksX2_isAhead_0 4 rfl rfl)
theorem dX2_isAhead_5 : decode cX2_isAhead 5 = .ok (.getfield 183, 3) := dk_180 0 183 (dk_at dksX2_isAhead_0 5 rfl rfl)
theorem dX2_isAhead_8 : decode cX2_isAhead 8 = .ok (.isub, 1) := dk_100 (dk_at dksX2_isAhead_0 8 rfl rfl)
theorem dX2_isAhead_9 : decode cX2_isAhead 9 = .ok (.aload_n 1, 1) := dk_43 (dk_at dksX2_isAhead_0 9 rfl rfl)
theorem dX2_isAhead_10 : decode cX2_isAhead 10 = .ok (.getfield 146, 3) := dk_180 0 146 (dk_at dksX2_isAhead_0 10 rfl rfl)
theorem dX2_isAhead_13 : decode cX2_isAhead 13 = .ok (.aload_n 1, 1) := dk_43 (dk_at dksX2_isAhead_0 13 rfl rfl)
theorem dX2_isAhead_14 : decode cX2_isAhead 14 = .ok (.getfield 183, 3) := dk_180 0 183 (dk_at dksX2_isAhead_0 14 rfl rfl)
theorem dX2_isAhead_17 : decode cX2_isAhead 17 = .ok (.isub, 1) := dk_100 (dk_at dksX2_isAhead_0 17 rfl rfl)
theorem dX2_isAhead_18 : decode cX2_isAhead 18 = .ok (.isub, 1) := dk_100 (dk_at dksX2_isAhead_0 18 rfl rfl)
theorem dX2_isAhead_19 : decode cX2_isAhead 19 = .ok (.istore_n 2, 1) := dk_61 (dk_at dksX2_isAhead_0 19 rfl rfl)
theorem dX2_isAhead_20 : decode cX2_isAhead 20 = .ok (.iload_n 2, 1) := dk_28 (dk_at dksX2_isAhead_0 20 rfl rfl)
theorem dX2_isAhead_21 : decode cX2_isAhead 21 = .ok (.ifCond .eq 13, 3) := dk_153 0 13 (dk_at dksX2_isAhead_0 21 rfl rfl)
theorem dX2_isAhead_24 : decode cX2_isAhead 24 = .ok (.iload_n 2, 1) := dk_28 (dk_at dksX2_isAhead_1 0 rfl rfl)
theorem dX2_isAhead_25 : decode cX2_isAhead 25 = .ok (.ifCond .le 7, 3) := dk_158 0 7 (dk_at dksX2_isAhead_1 1 rfl rfl)
theorem dX2_isAhead_28 : decode cX2_isAhead 28 = .ok (.iconst 1, 1) := dk_4 (dk_at dksX2_isAhead_1 4 rfl rfl)
theorem dX2_isAhead_29 : decode cX2_isAhead 29 = .ok (.goto 4, 3) := dk_167 0 4 (dk_at dksX2_isAhead_1 5 rfl rfl)
theorem dX2_isAhead_32 : decode cX2_isAhead 32 = .ok (.iconst 0, 1) := dk_3 (dk_at dksX2_isAhead_1 8 rfl rfl)
theorem dX2_isAhead_33 : decode cX2_isAhead 33 = .ok (.ireturn, 1) := dk_172 (dk_at dksX2_isAhead_1 9 rfl rfl)
theorem dX2_isAhead_34 : decode cX2_isAhead 34 = .ok (.aload_n 0, 1) := dk_42 (dk_at dksX2_isAhead_1 10 rfl rfl)
theorem dX2_isAhead_35 : decode cX2_isAhead 35 = .ok (.getfield 143, 3) := dk_180 0 143 (dk_at dksX2_isAhead_1 11 rfl rfl)
theorem dX2_isAhead_38 : decode cX2_isAhead 38 = .ok (.aload_n 1, 1) := dk_43 (dk_at dksX2_isAhead_1 14 rfl rfl)
theorem dX2_isAhead_39 : decode cX2_isAhead 39 = .ok (.getfield 143, 3) := dk_180 0 143 (dk_at dksX2_isAhead_1 15 rfl rfl)
theorem dX2_isAhead_42 : decode cX2_isAhead 42 = .ok (.if_icmp .eq 22, 3) := dk_159 0 22 (dk_at dksX2_isAhead_1 18 rfl rfl)
theorem dX2_isAhead_45 : decode cX2_isAhead 45 = .ok (.aload_n 0, 1) := dk_42 (dk_at dksX2_isAhead_1 21 rfl rfl)
theorem dX2_isAhead_46 : decode cX2_isAhead 46 = .ok (.getfield 143, 3) := dk_180 0 143 (dk_at dksX2_isAhead_2 0 rfl rfl)
theorem dX2_isAhead_49 : decode cX2_isAhead 49 = .ok (.aload_n 1, 1) := dk_43 (dk_at dksX2_isAhead_2 3 rfl rfl)
theorem dX2_isAhead_50 : decode cX2_isAhead 50 = .ok (.getfield 143, 3) := dk_180 0 143 (dk_at dksX2_isAhead_2 4 rfl rfl)
theorem dX2_isAhead_53 : decode cX2_isAhead 53 = .ok (.if_icmp .le 7, 3) := dk_164 0 7 (dk_at dksX2_isAhead_2 7 rfl rfl)
theorem dX2_isAhead_56 : decode cX2_isAhead 56 = .ok (.iconst 1, 1) := dk_4 (dk_at dksX2_isAhead_2 10 rfl rfl)
theorem dX2_isAhead_57 : decode cX2_isAhead 57 = .ok (.goto 23, 3) := dk_167 0 23 (dk_at dksX2_isAhead_2 11 rfl rfl)
theorem dX2_isAhead_60 : decode cX2_isAhead 60 = .ok (.iconst 0, 1) := dk_3 (dk_at dksX2_isAhead_2 14 rfl rfl)
theorem dX2_isAhead_61 : decode cX2_isAhead 61 = .ok (.goto 19, 3) := dk_167 0 19 (dk_at dksX2_isAhead_2 15 rfl rfl)
theorem dX2_isAhead_64 : decode cX2_isAhead 64 = .ok (.aload_n 0, 1) := dk_42 (dk_at dksX2_isAhead_2 18 rfl rfl)
theorem dX2_isAhead_65 : decode cX2_isAhead 65 = .ok (.getfield 163, 3) := dk_180 0 163 (dk_at dksX2_isAhead_2 19 rfl rfl)
theorem dX2_isAhead_68 : decode cX2_isAhead 68 = .ok (.aload_n 1, 1) := dk_43 (dk_at dksX2_isAhead_2 22 rfl rfl)
theorem dX2_isAhead_69 : decode cX2_isAhead 69 = .ok (.getfield 163, 3) := dk_180 0 163 (dk_at dksX2_isAhead_3 0 rfl rfl)
theorem dX2_isAhead_72 : decode cX2_isAhead 72 = .ok (.if_icmp .ge 7, 3) := dk_162 0 7 (dk_at dksX2_isAhead_3 3 rfl rfl)
theorem dX2_isAhead_75 : decode cX2_isAhead 75 = .ok (.iconst 1, 1) := dk_4 (dk_at dksX2_isAhead_3 6 rfl rfl)
theorem dX2_isAhead_76 : decode cX2_isAhead 76 = .ok (.goto 4, 3) := dk_167 0 4 (dk_at dksX2_isAhead_3 7 rfl rfl)
theorem dX2_isAhead_79 : decode cX2_isAhead 79 = .ok (.iconst 0, 1) := dk_3 (dk_at dksX2_isAhead_3 10 rfl rfl)
theorem dX2_isAhead_80 : decode cX2_isAhead 80 = .ok (.ireturn, 1) := dk_172 (dk_at dksX2_isAhead_3 11 rfl rfl)
abbrev cX2_sumOfIncomes : ByteArray := prog_6_method_20_code
def yX2_sumOfIncomes : MethodName := ⟨RX2, "sumOfIncomes", "()I"⟩
def dkwX2_sumOfIncomes_1 : List UInt8 := [185, 0, 44, 1, 0, 192, 0, 48, 78, 27, 45, 180, 0, 143, 96, 60, 167, 255, 230, 27, 172]
abbrev dktX2_sumOfIncomes_1 : List UInt8 := dkwX2_sumOfIncomes_1 ++ []
def dkwX2_sumOfIncomes_0 : List UInt8 := [3, 60, 42, 180, 0, 12, 185, 0, 32, 1, 0, 77, 44, 185, 0, 38, 1, 0, 153, 0, 23, 44]
abbrev dktX2_sumOfIncomes_0 : List UInt8 := dkwX2_sumOfIncomes_0 ++ dktX2_sumOfIncomes_1
theorem dksX2_sumOfIncomes_0 : cX2_sumOfIncomes.data.toList.drop 0 = dktX2_sumOfIncomes_0 := by decide +kernel
theorem dksX2_sumOfIncomes_1 : cX2_sumOfIncomes.data.toList.drop 22 = dktX2_sumOfIncomes_1 := dk_seg dksX2_sumOfIncomes_0 22 rfl rfl
theorem dX2_sumOfIncomes_0 : decode cX2_sumOfIncomes 0 = .ok (.iconst 0, 1) := dk_3 (dk_at dksX2_sumOfIncomes_0 0 rfl rfl)
theorem dX2_sumOfIncomes_1 : decode cX2_sumOfIncomes 1 = .ok (.istore_n 1, 1) := dk_60 (dk_at dksX2_sumOfIncomes_0 1 rfl rfl)
theorem dX2_sumOfIncomes_2 : decode cX2_sumOfIncomes 2 = .ok (.aload_n 0, 1) := dk_42 (dk_at dksX2_sumOfIncomes_0 2 rfl rfl)
theorem dX2_sumOfIncomes_3 : decode cX2_sumOfIncomes 3 = .ok (.getfield 12, 3) := dk_180 0 12 (dk_at dksX2_sumOfIncomes_0 3 rfl rfl)
theorem dX2_sumOfIncomes_6 : decode cX2_sumOfIncomes 6 = .ok (.invokeinterface 32 1, 5) := by decide +kernel
theorem dX2_sumOfIncomes_11 : decode cX2_sumOfIncomes 11 = .ok (.astore_n 2, 1) := dk_77 (dk_at dksX2_sumOfIncomes_0 11 rfl rfl)
theorem dX2_sumOfIncomes_12 : decode cX2_sumOfIncomes 12 = .ok (.aload_n 2, 1) := dk_44 (dk_at dksX2_sumOfIncomes_0 12 rfl rfl)
theorem dX2_sumOfIncomes_13 : decode cX2_sumOfIncomes 13 = .ok (.invokeinterface 38 1, 5) := by decide +kernel
theorem dX2_sumOfIncomes_18 : decode cX2_sumOfIncomes 18 = .ok (.ifCond .eq 23, 3) := dk_153 0 23 (dk_at dksX2_sumOfIncomes_0 18 rfl rfl)
theorem dX2_sumOfIncomes_21 : decode cX2_sumOfIncomes 21 = .ok (.aload_n 2, 1) := dk_44 (dk_at dksX2_sumOfIncomes_0 21 rfl rfl)
theorem dX2_sumOfIncomes_22 : decode cX2_sumOfIncomes 22 = .ok (.invokeinterface 44 1, 5) := by decide +kernel
theorem dX2_sumOfIncomes_27 : decode cX2_sumOfIncomes 27 = .ok (.checkcast 48, 3) := dk_192 0 48 (dk_at dksX2_sumOfIncomes_1 5 rfl rfl)
theorem dX2_sumOfIncomes_30 : decode cX2_sumOfIncomes 30 = .ok (.astore_n 3, 1) := dk_78 (dk_at dksX2_sumOfIncomes_1 8 rfl rfl)
theorem dX2_sumOfIncomes_31 : decode cX2_sumOfIncomes 31 = .ok (.iload_n 1, 1) := dk_27 (dk_at dksX2_sumOfIncomes_1 9 rfl rfl)
theorem dX2_sumOfIncomes_32 : decode cX2_sumOfIncomes 32 = .ok (.aload_n 3, 1) := dk_45 (dk_at dksX2_sumOfIncomes_1 10 rfl rfl)
theorem dX2_sumOfIncomes_33 : decode cX2_sumOfIncomes 33 = .ok (.getfield 143, 3) := dk_180 0 143 (dk_at dksX2_sumOfIncomes_1 11 rfl rfl)
theorem dX2_sumOfIncomes_36 : decode cX2_sumOfIncomes 36 = .ok (.iadd, 1) := dk_96 (dk_at dksX2_sumOfIncomes_1 14 rfl rfl)
theorem dX2_sumOfIncomes_37 : decode cX2_sumOfIncomes 37 = .ok (.istore_n 1, 1) := dk_60 (dk_at dksX2_sumOfIncomes_1 15 rfl rfl)
theorem dX2_sumOfIncomes_38 : decode cX2_sumOfIncomes 38 = .ok (.goto (-26), 3) := dk_167 255 230 (dk_at dksX2_sumOfIncomes_1 16 rfl rfl)
theorem dX2_sumOfIncomes_41 : decode cX2_sumOfIncomes 41 = .ok (.iload_n 1, 1) := dk_27 (dk_at dksX2_sumOfIncomes_1 19 rfl rfl)
theorem dX2_sumOfIncomes_42 : decode cX2_sumOfIncomes 42 = .ok (.ireturn, 1) := dk_172 (dk_at dksX2_sumOfIncomes_1 20 rfl rfl)
abbrev cX2_sumOfCarried : ByteArray := prog_6_method_25_code
def yX2_sumOfCarried : MethodName := ⟨RX2, "sumOfCarried", "()I"⟩
def dkwX2_sumOfCarried_1 : List UInt8 := [185, 0, 44, 1, 0, 192, 0, 48, 78, 27, 45, 182, 0, 196, 96, 60, 167, 255, 230, 27, 172]
abbrev dktX2_sumOfCarried_1 : List UInt8 := dkwX2_sumOfCarried_1 ++ []
def dkwX2_sumOfCarried_0 : List UInt8 := [3, 60, 42, 180, 0, 12, 185, 0, 32, 1, 0, 77, 44, 185, 0, 38, 1, 0, 153, 0, 23, 44]
abbrev dktX2_sumOfCarried_0 : List UInt8 := dkwX2_sumOfCarried_0 ++ dktX2_sumOfCarried_1
theorem dksX2_sumOfCarried_0 : cX2_sumOfCarried.data.toList.drop 0 = dktX2_sumOfCarried_0 := by decide +kernel
theorem dksX2_sumOfCarried_1 : cX2_sumOfCarried.data.toList.drop 22 = dktX2_sumOfCarried_1 := dk_seg dksX2_sumOfCarried_0 22 rfl rfl
theorem dX2_sumOfCarried_0 : decode cX2_sumOfCarried 0 = .ok (.iconst 0, 1) := dk_3 (dk_at dksX2_sumOfCarried_0 0 rfl rfl)
theorem dX2_sumOfCarried_1 : decode cX2_sumOfCarried 1 = .ok (.istore_n 1, 1) := dk_60 (dk_at dksX2_sumOfCarried_0 1 rfl rfl)
theorem dX2_sumOfCarried_2 : decode cX2_sumOfCarried 2 = .ok (.aload_n 0, 1) := dk_42 (dk_at dksX2_sumOfCarried_0 2 rfl rfl)
theorem dX2_sumOfCarried_3 : decode cX2_sumOfCarried 3 = .ok (.getfield 12, 3) := dk_180 0 12 (dk_at dksX2_sumOfCarried_0 3 rfl rfl)
theorem dX2_sumOfCarried_6 : decode cX2_sumOfCarried 6 = .ok (.invokeinterface 32 1, 5) := by decide +kernel
theorem dX2_sumOfCarried_11 : decode cX2_sumOfCarried 11 = .ok (.astore_n 2, 1) := dk_77 (dk_at dksX2_sumOfCarried_0 11 rfl rfl)
theorem dX2_sumOfCarried_12 : decode cX2_sumOfCarried 12 = .ok (.aload_n 2, 1) := dk_44 (dk_at dksX2_sumOfCarried_0 12 rfl rfl)
theorem dX2_sumOfCarried_13 : decode cX2_sumOfCarried 13 = .ok (.invokeinterface 38 1, 5) := by decide +kernel
theorem dX2_sumOfCarried_18 : decode cX2_sumOfCarried 18 = .ok (.ifCond .eq 23, 3) := dk_153 0 23 (dk_at dksX2_sumOfCarried_0 18 rfl rfl)
theorem dX2_sumOfCarried_21 : decode cX2_sumOfCarried 21 = .ok (.aload_n 2, 1) := dk_44 (dk_at dksX2_sumOfCarried_0 21 rfl rfl)
theorem dX2_sumOfCarried_22 : decode cX2_sumOfCarried 22 = .ok (.invokeinterface 44 1, 5) := by decide +kernel
theorem dX2_sumOfCarried_27 : decode cX2_sumOfCarried 27 = .ok (.checkcast 48, 3) := dk_192 0 48 (dk_at dksX2_sumOfCarried_1 5 rfl rfl)
theorem dX2_sumOfCarried_30 : decode cX2_sumOfCarried 30 = .ok (.astore_n 3, 1) := dk_78 (dk_at dksX2_sumOfCarried_1 8 rfl rfl)
theorem dX2_sumOfCarried_31 : decode cX2_sumOfCarried 31 = .ok (.iload_n 1, 1) := dk_27 (dk_at dksX2_sumOfCarried_1 9 rfl rfl)
theorem dX2_sumOfCarried_32 : decode cX2_sumOfCarried 32 = .ok (.aload_n 3, 1) := dk_45 (dk_at dksX2_sumOfCarried_1 10 rfl rfl)
theorem dX2_sumOfCarried_33 : decode cX2_sumOfCarried 33 = .ok (.invokevirtual 196, 3) := dk_182 0 196 (dk_at dksX2_sumOfCarried_1 11 rfl rfl)
theorem dX2_sumOfCarried_36 : decode cX2_sumOfCarried 36 = .ok (.iadd, 1) := dk_96 (dk_at dksX2_sumOfCarried_1 14 rfl rfl)
theorem dX2_sumOfCarried_37 : decode cX2_sumOfCarried 37 = .ok (.istore_n 1, 1) := dk_60 (dk_at dksX2_sumOfCarried_1 15 rfl rfl)
theorem dX2_sumOfCarried_38 : decode cX2_sumOfCarried 38 = .ok (.goto (-26), 3) := dk_167 255 230 (dk_at dksX2_sumOfCarried_1 16 rfl rfl)
theorem dX2_sumOfCarried_41 : decode cX2_sumOfCarried 41 = .ok (.iload_n 1, 1) := dk_27 (dk_at dksX2_sumOfCarried_1 19 rfl rfl)
theorem dX2_sumOfCarried_42 : decode cX2_sumOfCarried 42 = .ok (.ireturn, 1) := dk_172 (dk_at dksX2_sumOfCarried_1 20 rfl rfl)
theorem q92 : (Jvm.Cond.initialized "CoinTaxes$Office") ∈ lw_all := lw_g (lw_at lw_m1 2 rfl) rfl
theorem q150 : (Jvm.Cond.instantiable "CoinTaxes$Office" (7 : Nat)) ∈ lw_all := lw_g (lw_at lw_m1 60 rfl) rfl
theorem q152 : (Jvm.Cond.instanceMethod ({ cls := "CoinTaxes$Office", name := "<init>", desc := "()V" } : Jvm.MethodName)) ∈ lw_all := lw_g (lw_at lw_m1 62 rfl) rfl
theorem q153 : (Jvm.Cond.code ({ cls := "CoinTaxes$Office", name := "<init>", desc := "()V" } : Jvm.MethodName) prog_6_method_1_code (1 : Nat) (Option.none : Option Jvm.ClassFile.FieldType)) ∈ lw_all := lw_g (lw_at lw_m1 63 rfl) rfl
theorem q154 : (Jvm.Cond.methodLink "CoinTaxes$Office" (3 : Nat) ({ cls := "java/lang/Object", name := "<init>", desc := "()V" } : Jvm.MethodName)) ∈ lw_all := lw_g (lw_at lw_m1 64 rfl) rfl
theorem q155 : (Jvm.Cond.classLink "CoinTaxes$Office" (9 : Nat) "java/util/ArrayList") ∈ lw_all := lw_g (lw_at lw_m1 65 rfl) rfl
theorem q157 : (Jvm.Cond.methodLink "CoinTaxes$Office" (11 : Nat) ({ cls := "java/util/ArrayList", name := "<init>", desc := "()V" } : Jvm.MethodName)) ∈ lw_all := lw_g (lw_at lw_m1 67 rfl) rfl
theorem q188 : (Jvm.Cond.classLink "CoinTaxes$Office" (22 : Nat) "CoinTaxes$Law") ∈ lw_all := lw_g (lw_at lw_m1 98 rfl) rfl
theorem q190 : (Jvm.Cond.methodLink "CoinTaxes$Office" (24 : Nat) ({ cls := "CoinTaxes$Law", name := "<init>", desc := "()V" } : Jvm.MethodName)) ∈ lw_all := lw_g (lw_at lw_m1 100 rfl) rfl
theorem q223 : (Jvm.Cond.fieldLinkNest "CoinTaxes$Office" (115 : Nat) "CoinTaxes$Bracket" "edge" "I" "CoinTaxes") ∈ lw_tbl := lw_at lw_m1 133 rfl
theorem q226 : (Jvm.Cond.fieldLinkNest "CoinTaxes$Office" (108 : Nat) "CoinTaxes$Bracket" "rate" "I" "CoinTaxes") ∈ lw_tbl := lw_at lw_m1 136 rfl
theorem q265 : (Jvm.Cond.fieldLinkNest "CoinTaxes$Office" (81 : Nat) "CoinTaxes$Law" "brackets" "Ljava/util/LinkedList;" "CoinTaxes") ∈ lw_tbl := lw_at lw_m1 175 rfl
theorem q269 : (Jvm.Cond.fieldLinkNest "CoinTaxes$Office" (130 : Nat) "CoinTaxes$Law" "caps" "[I" "CoinTaxes") ∈ lw_tbl := lw_at lw_m1 179 rfl
theorem q271 : (Jvm.Cond.fieldLinkNest "CoinTaxes$Office" (121 : Nat) "CoinTaxes$Law" "credit" "I" "CoinTaxes") ∈ lw_tbl := lw_at lw_m1 181 rfl
theorem q274 : (Jvm.Cond.fieldLinkNest "CoinTaxes$Office" (124 : Nat) "CoinTaxes$Law" "from" "I" "CoinTaxes") ∈ lw_tbl := lw_at lw_m1 184 rfl
theorem q277 : (Jvm.Cond.fieldLinkNest "CoinTaxes$Office" (127 : Nat) "CoinTaxes$Law" "slope" "I" "CoinTaxes") ∈ lw_tbl := lw_at lw_m1 187 rfl
theorem q290 : (Jvm.Cond.fieldLink "CoinTaxes$Office" (25 : Nat) "CoinTaxes$Office" "law" "LCoinTaxes$Law;") ∈ lw_all := lw_g (lw_at lw_m1 200 rfl) rfl
theorem q292 : (Jvm.Cond.fieldLink "CoinTaxes$Office" (12 : Nat) "CoinTaxes$Office" "citizens" "Ljava/util/List;") ∈ lw_all := lw_g (lw_at lw_m1 202 rfl) rfl
theorem q294 : (Jvm.Cond.fieldLink "CoinTaxes$Office" (57 : Nat) "CoinTaxes$Office" "year" "I") ∈ lw_all := lw_g (lw_at lw_m1 204 rfl) rfl
theorem q296 : (Jvm.Cond.fieldLink "CoinTaxes$Office" (18 : Nat) "CoinTaxes$Office" "lot" "I") ∈ lw_all := lw_g (lw_at lw_m1 206 rfl) rfl
theorem q298 : (Jvm.Cond.fieldLink "CoinTaxes$Office" (60 : Nat) "CoinTaxes$Office" "coins" "I") ∈ lw_all := lw_g (lw_at lw_m1 208 rfl) rfl
theorem q300 : (Jvm.Cond.fieldLink "CoinTaxes$Office" (63 : Nat) "CoinTaxes$Office" "earned" "I") ∈ lw_all := lw_g (lw_at lw_m1 210 rfl) rfl
theorem q302 : (Jvm.Cond.fieldLink "CoinTaxes$Office" (66 : Nat) "CoinTaxes$Office" "spent" "I") ∈ lw_all := lw_g (lw_at lw_m1 212 rfl) rfl
theorem q304 : (Jvm.Cond.laysFinal "CoinTaxes$Office" "CoinTaxes$Office" "law" "LCoinTaxes$Law;") ∈ lw_all := lw_g (lw_at lw_m1 214 rfl) rfl
theorem q305 : (Jvm.Cond.soleField "CoinTaxes$Office" "law") ∈ lw_all := lw_g (lw_at lw_m1 215 rfl) rfl
theorem q306 : (Jvm.Cond.laysFinal "CoinTaxes$Office" "CoinTaxes$Office" "citizens" "Ljava/util/List;") ∈ lw_all := lw_g (lw_at lw_m1 216 rfl) rfl
theorem q307 : (Jvm.Cond.soleField "CoinTaxes$Office" "citizens") ∈ lw_all := lw_g (lw_at lw_m1 217 rfl) rfl
theorem q308 : (Jvm.Cond.lays "CoinTaxes$Office" "CoinTaxes$Office" "year" "I") ∈ lw_all := lw_g (lw_at lw_m1 218 rfl) rfl
theorem q309 : (Jvm.Cond.soleField "CoinTaxes$Office" "year") ∈ lw_all := lw_g (lw_at lw_m1 219 rfl) rfl
theorem q310 : (Jvm.Cond.lays "CoinTaxes$Office" "CoinTaxes$Office" "lot" "I") ∈ lw_all := lw_g (lw_at lw_m1 220 rfl) rfl
theorem q311 : (Jvm.Cond.soleField "CoinTaxes$Office" "lot") ∈ lw_all := lw_g (lw_at lw_m1 221 rfl) rfl
theorem q312 : (Jvm.Cond.lays "CoinTaxes$Office" "CoinTaxes$Office" "coins" "I") ∈ lw_all := lw_g (lw_at lw_m1 222 rfl) rfl
theorem q313 : (Jvm.Cond.soleField "CoinTaxes$Office" "coins") ∈ lw_all := lw_g (lw_at lw_m1 223 rfl) rfl
theorem q314 : (Jvm.Cond.lays "CoinTaxes$Office" "CoinTaxes$Office" "earned" "I") ∈ lw_all := lw_g (lw_at lw_m1 224 rfl) rfl
theorem q315 : (Jvm.Cond.soleField "CoinTaxes$Office" "earned") ∈ lw_all := lw_g (lw_at lw_m1 225 rfl) rfl
theorem q316 : (Jvm.Cond.lays "CoinTaxes$Office" "CoinTaxes$Office" "spent" "I") ∈ lw_all := lw_g (lw_at lw_m1 226 rfl) rfl
theorem q317 : (Jvm.Cond.soleField "CoinTaxes$Office" "spent") ∈ lw_all := lw_g (lw_at lw_m1 227 rfl) rfl
theorem q318 : (Jvm.Cond.superclass "CoinTaxes$Office" "java/lang/Object") ∈ lw_all := lw_g (lw_at lw_m1 228 rfl) rfl
theorem q431 : (Jvm.Cond.instanceMethod ({ cls := "CoinTaxes$Office", name := "<init>", desc := "(LCoinTaxes$Office;)V" } : Jvm.MethodName)) ∈ lw_all := lw_g (lw_at lw_m2 101 rfl) rfl
theorem q432 : (Jvm.Cond.code ({ cls := "CoinTaxes$Office", name := "<init>", desc := "(LCoinTaxes$Office;)V" } : Jvm.MethodName) prog_6_method_2_code (4 : Nat) (Option.none : Option Jvm.ClassFile.FieldType)) ∈ lw_all := lw_g (lw_at lw_m2 102 rfl) rfl
theorem q433 : (Jvm.Cond.methodLink "CoinTaxes$Office" (29 : Nat) ({ cls := "CoinTaxes$Law", name := "<init>", desc := "(LCoinTaxes$Law;)V" } : Jvm.MethodName)) ∈ lw_all := lw_g (lw_at lw_m2 103 rfl) rfl
theorem q970 : (Jvm.Cond.selects "CoinTaxes$Office" ({ cls := "java/lang/Object", name := "getClass", desc := "()Ljava/lang/Class;" } : Jvm.MethodName) ({ cls := "java/lang/Object", name := "getClass", desc := "()Ljava/lang/Class;" } : Jvm.MethodName)) ∈ lw_all := lw_g (lw_at lw_m4 160 rfl) rfl
theorem q1087 : (Jvm.Cond.interfaceEntry "CoinTaxes$Office" (32 : Nat)) ∈ lw_tbl := lw_at lw_m5 37 rfl
theorem q1088 : (Jvm.Cond.methodLink "CoinTaxes$Office" (32 : Nat) ({ cls := "java/util/List", name := "iterator", desc := "()Ljava/util/Iterator;" } : Jvm.MethodName)) ∈ lw_all := lw_g (lw_at lw_m5 38 rfl) rfl
theorem q1109 : (Jvm.Cond.interfaceEntry "CoinTaxes$Office" (38 : Nat)) ∈ lw_tbl := lw_at lw_m5 59 rfl
theorem q1110 : (Jvm.Cond.methodLink "CoinTaxes$Office" (38 : Nat) ({ cls := "java/util/Iterator", name := "hasNext", desc := "()Z" } : Jvm.MethodName)) ∈ lw_all := lw_g (lw_at lw_m5 60 rfl) rfl
theorem q1111 : (Jvm.Cond.interfaceEntry "CoinTaxes$Office" (44 : Nat)) ∈ lw_tbl := lw_at lw_m5 61 rfl
theorem q1112 : (Jvm.Cond.methodLink "CoinTaxes$Office" (44 : Nat) ({ cls := "java/util/Iterator", name := "next", desc := "()Ljava/lang/Object;" } : Jvm.MethodName)) ∈ lw_all := lw_g (lw_at lw_m5 62 rfl) rfl
theorem q1113 : (Jvm.Cond.classLink "CoinTaxes$Office" (48 : Nat) "CoinTaxes$Citizen") ∈ lw_all := lw_g (lw_at lw_m5 63 rfl) rfl
theorem q1115 : (Jvm.Cond.methodLink "CoinTaxes$Office" (50 : Nat) ({ cls := "CoinTaxes$Citizen", name := "<init>", desc := "(LCoinTaxes$Citizen;)V" } : Jvm.MethodName)) ∈ lw_all := lw_g (lw_at lw_m5 65 rfl) rfl
theorem q1149 : (Jvm.Cond.fieldLinkNest "CoinTaxes$Office" (163 : Nat) "CoinTaxes$Citizen" "number" "I" "CoinTaxes") ∈ lw_tbl := lw_at lw_m5 99 rfl
theorem q1151 : (Jvm.Cond.fieldLinkNest "CoinTaxes$Office" (147 : Nat) "CoinTaxes$Citizen" "proved" "[I" "CoinTaxes") ∈ lw_tbl := lw_at lw_m5 101 rfl
theorem q1154 : (Jvm.Cond.fieldLinkNest "CoinTaxes$Office" (150 : Nat) "CoinTaxes$Citizen" "bare" "[I" "CoinTaxes") ∈ lw_tbl := lw_at lw_m5 104 rfl
theorem q1159 : (Jvm.Cond.fieldLinkNest "CoinTaxes$Office" (143 : Nat) "CoinTaxes$Citizen" "income" "I" "CoinTaxes") ∈ lw_tbl := lw_at lw_m5 109 rfl
theorem q1162 : (Jvm.Cond.fieldLinkNest "CoinTaxes$Office" (146 : Nat) "CoinTaxes$Citizen" "coins" "I" "CoinTaxes") ∈ lw_tbl := lw_at lw_m5 112 rfl
theorem q1165 : (Jvm.Cond.fieldLinkNest "CoinTaxes$Office" (183 : Nat) "CoinTaxes$Citizen" "debt" "I" "CoinTaxes") ∈ lw_tbl := lw_at lw_m5 115 rfl
theorem q1168 : (Jvm.Cond.fieldLinkNest "CoinTaxes$Office" (190 : Nat) "CoinTaxes$Citizen" "taxes" "I" "CoinTaxes") ∈ lw_tbl := lw_at lw_m5 118 rfl
theorem q1171 : (Jvm.Cond.fieldLinkNest "CoinTaxes$Office" (193 : Nat) "CoinTaxes$Citizen" "fines" "I" "CoinTaxes") ∈ lw_tbl := lw_at lw_m5 121 rfl
theorem q1332 : (Jvm.Cond.interfaceEntry "CoinTaxes$Office" (53 : Nat)) ∈ lw_tbl := lw_at lw_m6 42 rfl
theorem q1333 : (Jvm.Cond.methodLink "CoinTaxes$Office" (53 : Nat) ({ cls := "java/util/List", name := "add", desc := "(Ljava/lang/Object;)Z" } : Jvm.MethodName)) ∈ lw_all := lw_g (lw_at lw_m6 43 rfl) rfl
theorem q1443 : (Jvm.Cond.instanceMethod ({ cls := "CoinTaxes$Office", name := "tellsBracket", desc := "(II)I" } : Jvm.MethodName)) ∈ lw_all := lw_g (lw_at lw_m6 153 rfl) rfl
theorem q1444 : (Jvm.Cond.selects "CoinTaxes$Office" ({ cls := "CoinTaxes$Office", name := "tellsBracket", desc := "(II)I" } : Jvm.MethodName) ({ cls := "CoinTaxes$Office", name := "tellsBracket", desc := "(II)I" } : Jvm.MethodName)) ∈ lw_all := lw_g (lw_at lw_m6 154 rfl) rfl
theorem q1445 : (Jvm.Cond.code ({ cls := "CoinTaxes$Office", name := "tellsBracket", desc := "(II)I" } : Jvm.MethodName) prog_6_method_3_code (4 : Nat) (Option.some Jvm.ClassFile.FieldType.int)) ∈ lw_all := lw_g (lw_at lw_m6 155 rfl) rfl
theorem q1446 : (Jvm.Cond.methodLinkNest "CoinTaxes$Office" (69 : Nat) ({ cls := "CoinTaxes", name := "checkRange", desc := "(III)V" } : Jvm.MethodName) "CoinTaxes") ∈ lw_tbl := lw_at lw_m6 156 rfl
theorem q1484 : (Jvm.Cond.methodLink "CoinTaxes$Office" (73 : Nat) ({ cls := "CoinTaxes$Law", name := "withEdge", desc := "(I)I" } : Jvm.MethodName)) ∈ lw_all := lw_g (lw_at lw_m6 194 rfl) rfl
theorem q1490 : (Jvm.Cond.methodLinkNest "CoinTaxes$Office" (77 : Nat) ({ cls := "CoinTaxes", name := "check", desc := "(ZII)V" } : Jvm.MethodName) "CoinTaxes") ∈ lw_tbl := lw_at lw_m6 200 rfl
theorem q1491 : (Jvm.Cond.methodLink "CoinTaxes$Office" (85 : Nat) ({ cls := "java/util/LinkedList", name := "size", desc := "()I" } : Jvm.MethodName)) ∈ lw_all := lw_g (lw_at lw_m6 201 rfl) rfl
theorem q1492 : (Jvm.Cond.methodLink "CoinTaxes$Office" (91 : Nat) ({ cls := "CoinTaxes$Law", name := "placeOf", desc := "(I)I" } : Jvm.MethodName)) ∈ lw_all := lw_g (lw_at lw_m6 202 rfl) rfl
theorem q1496 : (Jvm.Cond.classLink "CoinTaxes$Office" (94 : Nat) "CoinTaxes$Bracket") ∈ lw_all := lw_g (lw_at lw_m6 206 rfl) rfl
theorem q1497 : (Jvm.Cond.methodLink "CoinTaxes$Office" (96 : Nat) ({ cls := "CoinTaxes$Bracket", name := "<init>", desc := "(II)V" } : Jvm.MethodName)) ∈ lw_all := lw_g (lw_at lw_m6 207 rfl) rfl
theorem q1498 : (Jvm.Cond.methodLink "CoinTaxes$Office" (99 : Nat) ({ cls := "java/util/LinkedList", name := "add", desc := "(ILjava/lang/Object;)V" } : Jvm.MethodName)) ∈ lw_all := lw_g (lw_at lw_m6 208 rfl) rfl
theorem q1507 : (Jvm.Cond.instanceMethod ({ cls := "CoinTaxes$Office", name := "drops", desc := "(I)I" } : Jvm.MethodName)) ∈ lw_all := lw_g (lw_at lw_m6 217 rfl) rfl
theorem q1508 : (Jvm.Cond.selects "CoinTaxes$Office" ({ cls := "CoinTaxes$Office", name := "drops", desc := "(I)I" } : Jvm.MethodName) ({ cls := "CoinTaxes$Office", name := "drops", desc := "(I)I" } : Jvm.MethodName)) ∈ lw_all := lw_g (lw_at lw_m6 218 rfl) rfl
theorem q1509 : (Jvm.Cond.code ({ cls := "CoinTaxes$Office", name := "drops", desc := "(I)I" } : Jvm.MethodName) prog_6_method_4_code (3 : Nat) (Option.some Jvm.ClassFile.FieldType.int)) ∈ lw_all := lw_g (lw_at lw_m6 219 rfl) rfl
theorem q1510 : (Jvm.Cond.methodLinkNest "CoinTaxes$Office" (102 : Nat) ({ cls := "CoinTaxes", name := "checkThere", desc := "(II)V" } : Jvm.MethodName) "CoinTaxes") ∈ lw_tbl := lw_at lw_m6 220 rfl
theorem q1513 : (Jvm.Cond.methodLink "CoinTaxes$Office" (105 : Nat) ({ cls := "java/util/LinkedList", name := "getFirst", desc := "()Ljava/lang/Object;" } : Jvm.MethodName)) ∈ lw_all := lw_g (lw_at lw_m6 223 rfl) rfl
theorem q1519 : (Jvm.Cond.methodLink "CoinTaxes$Office" (111 : Nat) ({ cls := "java/util/LinkedList", name := "remove", desc := "(I)Ljava/lang/Object;" } : Jvm.MethodName)) ∈ lw_all := lw_g (lw_at lw_m6 229 rfl) rfl
theorem q1528 : (Jvm.Cond.instanceMethod ({ cls := "CoinTaxes$Office", name := "tellsRate", desc := "(II)I" } : Jvm.MethodName)) ∈ lw_all := lw_g (lw_at lw_m6 238 rfl) rfl
theorem q1529 : (Jvm.Cond.selects "CoinTaxes$Office" ({ cls := "CoinTaxes$Office", name := "tellsRate", desc := "(II)I" } : Jvm.MethodName) ({ cls := "CoinTaxes$Office", name := "tellsRate", desc := "(II)I" } : Jvm.MethodName)) ∈ lw_all := lw_g (lw_at lw_m6 239 rfl) rfl
theorem q1530 : (Jvm.Cond.code ({ cls := "CoinTaxes$Office", name := "tellsRate", desc := "(II)I" } : Jvm.MethodName) prog_6_method_5_code (5 : Nat) (Option.some Jvm.ClassFile.FieldType.int)) ∈ lw_all := lw_g (lw_at lw_m7 0 rfl) rfl
theorem q1531 : (Jvm.Cond.methodLink "CoinTaxes$Office" (118 : Nat) ({ cls := "java/util/LinkedList", name := "get", desc := "(I)Ljava/lang/Object;" } : Jvm.MethodName)) ∈ lw_all := lw_g (lw_at lw_m7 1 rfl) rfl
theorem q1533 : (Jvm.Cond.instanceMethod ({ cls := "CoinTaxes$Office", name := "tellsCredit", desc := "(III)I" } : Jvm.MethodName)) ∈ lw_all := lw_g (lw_at lw_m7 3 rfl) rfl
theorem q1534 : (Jvm.Cond.selects "CoinTaxes$Office" ({ cls := "CoinTaxes$Office", name := "tellsCredit", desc := "(III)I" } : Jvm.MethodName) ({ cls := "CoinTaxes$Office", name := "tellsCredit", desc := "(III)I" } : Jvm.MethodName)) ∈ lw_all := lw_g (lw_at lw_m7 4 rfl) rfl
theorem q1535 : (Jvm.Cond.code ({ cls := "CoinTaxes$Office", name := "tellsCredit", desc := "(III)I" } : Jvm.MethodName) prog_6_method_6_code (5 : Nat) (Option.some Jvm.ClassFile.FieldType.int)) ∈ lw_all := lw_g (lw_at lw_m7 5 rfl) rfl
theorem q1537 : (Jvm.Cond.instanceMethod ({ cls := "CoinTaxes$Office", name := "tellsCap", desc := "(II)I" } : Jvm.MethodName)) ∈ lw_all := lw_g (lw_at lw_m7 7 rfl) rfl
theorem q1538 : (Jvm.Cond.selects "CoinTaxes$Office" ({ cls := "CoinTaxes$Office", name := "tellsCap", desc := "(II)I" } : Jvm.MethodName) ({ cls := "CoinTaxes$Office", name := "tellsCap", desc := "(II)I" } : Jvm.MethodName)) ∈ lw_all := lw_g (lw_at lw_m7 8 rfl) rfl
theorem q1539 : (Jvm.Cond.code ({ cls := "CoinTaxes$Office", name := "tellsCap", desc := "(II)I" } : Jvm.MethodName) prog_6_method_7_code (4 : Nat) (Option.some Jvm.ClassFile.FieldType.int)) ∈ lw_all := lw_g (lw_at lw_m7 9 rfl) rfl
theorem q1541 : (Jvm.Cond.instanceMethod ({ cls := "CoinTaxes$Office", name := "comes", desc := "()I" } : Jvm.MethodName)) ∈ lw_all := lw_g (lw_at lw_m7 11 rfl) rfl
theorem q1542 : (Jvm.Cond.selects "CoinTaxes$Office" ({ cls := "CoinTaxes$Office", name := "comes", desc := "()I" } : Jvm.MethodName) ({ cls := "CoinTaxes$Office", name := "comes", desc := "()I" } : Jvm.MethodName)) ∈ lw_all := lw_g (lw_at lw_m7 12 rfl) rfl
theorem q1543 : (Jvm.Cond.code ({ cls := "CoinTaxes$Office", name := "comes", desc := "()I" } : Jvm.MethodName) prog_6_method_8_code (1 : Nat) (Option.some Jvm.ClassFile.FieldType.int)) ∈ lw_all := lw_g (lw_at lw_m7 13 rfl) rfl
theorem q1544 : (Jvm.Cond.interfaceEntry "CoinTaxes$Office" (134 : Nat)) ∈ lw_tbl := lw_at lw_m7 14 rfl
theorem q1545 : (Jvm.Cond.methodLink "CoinTaxes$Office" (134 : Nat) ({ cls := "java/util/List", name := "size", desc := "()I" } : Jvm.MethodName)) ∈ lw_all := lw_g (lw_at lw_m7 15 rfl) rfl
theorem q1554 : (Jvm.Cond.methodLink "CoinTaxes$Office" (135 : Nat) ({ cls := "CoinTaxes$Citizen", name := "<init>", desc := "(I)V" } : Jvm.MethodName)) ∈ lw_all := lw_g (lw_at lw_m7 24 rfl) rfl
theorem q1556 : (Jvm.Cond.instanceMethod ({ cls := "CoinTaxes$Office", name := "earns", desc := "(II)I" } : Jvm.MethodName)) ∈ lw_all := lw_g (lw_at lw_m7 26 rfl) rfl
theorem q1557 : (Jvm.Cond.selects "CoinTaxes$Office" ({ cls := "CoinTaxes$Office", name := "earns", desc := "(II)I" } : Jvm.MethodName) ({ cls := "CoinTaxes$Office", name := "earns", desc := "(II)I" } : Jvm.MethodName)) ∈ lw_all := lw_g (lw_at lw_m7 27 rfl) rfl
theorem q1558 : (Jvm.Cond.code ({ cls := "CoinTaxes$Office", name := "earns", desc := "(II)I" } : Jvm.MethodName) prog_6_method_10_code (4 : Nat) (Option.some Jvm.ClassFile.FieldType.int)) ∈ lw_all := lw_g (lw_at lw_m7 28 rfl) rfl
theorem q1559 : (Jvm.Cond.methodLink "CoinTaxes$Office" (139 : Nat) ({ cls := "CoinTaxes$Office", name := "checkCitizen", desc := "(I)LCoinTaxes$Citizen;" } : Jvm.MethodName)) ∈ lw_all := lw_g (lw_at lw_m7 29 rfl) rfl
theorem q1560 : (Jvm.Cond.privateMethod ({ cls := "CoinTaxes$Office", name := "checkCitizen", desc := "(I)LCoinTaxes$Citizen;" } : Jvm.MethodName)) ∈ lw_tbl := lw_at lw_m7 30 rfl
theorem q1561 : (Jvm.Cond.instanceMethod ({ cls := "CoinTaxes$Office", name := "checkCitizen", desc := "(I)LCoinTaxes$Citizen;" } : Jvm.MethodName)) ∈ lw_all := lw_g (lw_at lw_m7 31 rfl) rfl
theorem q1562 : (Jvm.Cond.code ({ cls := "CoinTaxes$Office", name := "checkCitizen", desc := "(I)LCoinTaxes$Citizen;" } : Jvm.MethodName) prog_6_method_9_code (2 : Nat) (Option.some (Jvm.ClassFile.FieldType.object "CoinTaxes$Citizen"))) ∈ lw_all := lw_g (lw_at lw_m7 32 rfl) rfl
theorem q1563 : (Jvm.Cond.interfaceEntry "CoinTaxes$Office" (138 : Nat)) ∈ lw_tbl := lw_at lw_m7 33 rfl
theorem q1564 : (Jvm.Cond.methodLink "CoinTaxes$Office" (138 : Nat) ({ cls := "java/util/List", name := "get", desc := "(I)Ljava/lang/Object;" } : Jvm.MethodName)) ∈ lw_all := lw_g (lw_at lw_m7 34 rfl) rfl
theorem q1574 : (Jvm.Cond.instanceMethod ({ cls := "CoinTaxes$Office", name := "claims", desc := "(IIIZ)I" } : Jvm.MethodName)) ∈ lw_all := lw_g (lw_at lw_m7 44 rfl) rfl
theorem q1575 : (Jvm.Cond.selects "CoinTaxes$Office" ({ cls := "CoinTaxes$Office", name := "claims", desc := "(IIIZ)I" } : Jvm.MethodName) ({ cls := "CoinTaxes$Office", name := "claims", desc := "(IIIZ)I" } : Jvm.MethodName)) ∈ lw_all := lw_g (lw_at lw_m7 45 rfl) rfl
theorem q1576 : (Jvm.Cond.code ({ cls := "CoinTaxes$Office", name := "claims", desc := "(IIIZ)I" } : Jvm.MethodName) prog_6_method_11_code (6 : Nat) (Option.some Jvm.ClassFile.FieldType.int)) ∈ lw_all := lw_g (lw_at lw_m7 46 rfl) rfl
theorem q1577 : (Jvm.Cond.methodLink "CoinTaxes$Office" (153 : Nat) ({ cls := "CoinTaxes$Citizen", name := "counts", desc := "(ILCoinTaxes$Law;)I" } : Jvm.MethodName)) ∈ lw_all := lw_g (lw_at lw_m7 47 rfl) rfl
theorem q1587 : (Jvm.Cond.instanceMethod ({ cls := "CoinTaxes$Office", name := "proves", desc := "(II)I" } : Jvm.MethodName)) ∈ lw_all := lw_g (lw_at lw_m7 57 rfl) rfl
theorem q1588 : (Jvm.Cond.selects "CoinTaxes$Office" ({ cls := "CoinTaxes$Office", name := "proves", desc := "(II)I" } : Jvm.MethodName) ({ cls := "CoinTaxes$Office", name := "proves", desc := "(II)I" } : Jvm.MethodName)) ∈ lw_all := lw_g (lw_at lw_m7 58 rfl) rfl
theorem q1589 : (Jvm.Cond.code ({ cls := "CoinTaxes$Office", name := "proves", desc := "(II)I" } : Jvm.MethodName) prog_6_method_12_code (5 : Nat) (Option.some Jvm.ClassFile.FieldType.int)) ∈ lw_all := lw_g (lw_at lw_m7 59 rfl) rfl
theorem q1591 : (Jvm.Cond.instanceMethod ({ cls := "CoinTaxes$Office", name := "yearEnds", desc := "()I" } : Jvm.MethodName)) ∈ lw_all := lw_g (lw_at lw_m7 61 rfl) rfl
theorem q1592 : (Jvm.Cond.selects "CoinTaxes$Office" ({ cls := "CoinTaxes$Office", name := "yearEnds", desc := "()I" } : Jvm.MethodName) ({ cls := "CoinTaxes$Office", name := "yearEnds", desc := "()I" } : Jvm.MethodName)) ∈ lw_all := lw_g (lw_at lw_m7 62 rfl) rfl
theorem q1593 : (Jvm.Cond.code ({ cls := "CoinTaxes$Office", name := "yearEnds", desc := "()I" } : Jvm.MethodName) prog_6_method_14_code (4 : Nat) (Option.some Jvm.ClassFile.FieldType.int)) ∈ lw_all := lw_g (lw_at lw_m7 63 rfl) rfl
theorem q1594 : (Jvm.Cond.methodLinkNest "CoinTaxes$Office" (160 : Nat) ({ cls := "CoinTaxes", name := "nextLot", desc := "(I)I" } : Jvm.MethodName) "CoinTaxes") ∈ lw_tbl := lw_at lw_m7 64 rfl
theorem q1597 : (Jvm.Cond.methodLink "CoinTaxes$Office" (166 : Nat) ({ cls := "CoinTaxes$Office", name := "audited", desc := "()I" } : Jvm.MethodName)) ∈ lw_all := lw_g (lw_at lw_m7 67 rfl) rfl
theorem q1598 : (Jvm.Cond.privateMethod ({ cls := "CoinTaxes$Office", name := "audited", desc := "()I" } : Jvm.MethodName)) ∈ lw_tbl := lw_at lw_m7 68 rfl
theorem q1599 : (Jvm.Cond.instanceMethod ({ cls := "CoinTaxes$Office", name := "audited", desc := "()I" } : Jvm.MethodName)) ∈ lw_all := lw_g (lw_at lw_m7 69 rfl) rfl
theorem q1600 : (Jvm.Cond.code ({ cls := "CoinTaxes$Office", name := "audited", desc := "()I" } : Jvm.MethodName) prog_6_method_13_code (1 : Nat) (Option.some Jvm.ClassFile.FieldType.int)) ∈ lw_all := lw_g (lw_at lw_m7 70 rfl) rfl
theorem q1601 : (Jvm.Cond.interfaceEntry "CoinTaxes$Office" (157 : Nat)) ∈ lw_tbl := lw_at lw_m7 71 rfl
theorem q1602 : (Jvm.Cond.methodLink "CoinTaxes$Office" (157 : Nat) ({ cls := "java/util/List", name := "isEmpty", desc := "()Z" } : Jvm.MethodName)) ∈ lw_all := lw_g (lw_at lw_m7 72 rfl) rfl
theorem q1616 : (Jvm.Cond.methodLink "CoinTaxes$Office" (169 : Nat) ({ cls := "CoinTaxes$Citizen", name := "yearEnds", desc := "(LCoinTaxes$Law;IZ)I" } : Jvm.MethodName)) ∈ lw_all := lw_g (lw_at lw_m7 86 rfl) rfl
theorem q1821 : (Jvm.Cond.instanceMethod ({ cls := "CoinTaxes$Office", name := "isBalanced", desc := "()Z" } : Jvm.MethodName)) ∈ lw_all := lw_g (lw_at lw_m8 51 rfl) rfl
theorem q1822 : (Jvm.Cond.selects "CoinTaxes$Office" ({ cls := "CoinTaxes$Office", name := "isBalanced", desc := "()Z" } : Jvm.MethodName) ({ cls := "CoinTaxes$Office", name := "isBalanced", desc := "()Z" } : Jvm.MethodName)) ∈ lw_all := lw_g (lw_at lw_m8 52 rfl) rfl
theorem q1823 : (Jvm.Cond.code ({ cls := "CoinTaxes$Office", name := "isBalanced", desc := "()Z" } : Jvm.MethodName) prog_6_method_26_code (4 : Nat) (Option.some Jvm.ClassFile.FieldType.boolean)) ∈ lw_all := lw_g (lw_at lw_m8 53 rfl) rfl
theorem q1824 : (Jvm.Cond.methodLink "CoinTaxes$Office" (199 : Nat) ({ cls := "CoinTaxes$Office", name := "sumOfCoins", desc := "()I" } : Jvm.MethodName)) ∈ lw_all := lw_g (lw_at lw_m8 54 rfl) rfl
theorem q1825 : (Jvm.Cond.instanceMethod ({ cls := "CoinTaxes$Office", name := "sumOfCoins", desc := "()I" } : Jvm.MethodName)) ∈ lw_all := lw_g (lw_at lw_m8 55 rfl) rfl
theorem q1826 : (Jvm.Cond.selects "CoinTaxes$Office" ({ cls := "CoinTaxes$Office", name := "sumOfCoins", desc := "()I" } : Jvm.MethodName) ({ cls := "CoinTaxes$Office", name := "sumOfCoins", desc := "()I" } : Jvm.MethodName)) ∈ lw_all := lw_g (lw_at lw_m8 56 rfl) rfl
theorem q1827 : (Jvm.Cond.code ({ cls := "CoinTaxes$Office", name := "sumOfCoins", desc := "()I" } : Jvm.MethodName) prog_6_method_21_code (4 : Nat) (Option.some Jvm.ClassFile.FieldType.int)) ∈ lw_all := lw_g (lw_at lw_m8 57 rfl) rfl
theorem q1828 : (Jvm.Cond.methodLink "CoinTaxes$Office" (202 : Nat) ({ cls := "CoinTaxes$Office", name := "sumOfTaxes", desc := "()I" } : Jvm.MethodName)) ∈ lw_all := lw_g (lw_at lw_m8 58 rfl) rfl
theorem q1829 : (Jvm.Cond.instanceMethod ({ cls := "CoinTaxes$Office", name := "sumOfTaxes", desc := "()I" } : Jvm.MethodName)) ∈ lw_all := lw_g (lw_at lw_m8 59 rfl) rfl
theorem q1830 : (Jvm.Cond.selects "CoinTaxes$Office" ({ cls := "CoinTaxes$Office", name := "sumOfTaxes", desc := "()I" } : Jvm.MethodName) ({ cls := "CoinTaxes$Office", name := "sumOfTaxes", desc := "()I" } : Jvm.MethodName)) ∈ lw_all := lw_g (lw_at lw_m8 60 rfl) rfl
theorem q1831 : (Jvm.Cond.code ({ cls := "CoinTaxes$Office", name := "sumOfTaxes", desc := "()I" } : Jvm.MethodName) prog_6_method_23_code (4 : Nat) (Option.some Jvm.ClassFile.FieldType.int)) ∈ lw_all := lw_g (lw_at lw_m8 61 rfl) rfl
theorem q1832 : (Jvm.Cond.methodLink "CoinTaxes$Office" (205 : Nat) ({ cls := "CoinTaxes$Office", name := "sumOfFines", desc := "()I" } : Jvm.MethodName)) ∈ lw_all := lw_g (lw_at lw_m8 62 rfl) rfl
theorem q1833 : (Jvm.Cond.instanceMethod ({ cls := "CoinTaxes$Office", name := "sumOfFines", desc := "()I" } : Jvm.MethodName)) ∈ lw_all := lw_g (lw_at lw_m8 63 rfl) rfl
theorem q1834 : (Jvm.Cond.selects "CoinTaxes$Office" ({ cls := "CoinTaxes$Office", name := "sumOfFines", desc := "()I" } : Jvm.MethodName) ({ cls := "CoinTaxes$Office", name := "sumOfFines", desc := "()I" } : Jvm.MethodName)) ∈ lw_all := lw_g (lw_at lw_m8 64 rfl) rfl
theorem q1835 : (Jvm.Cond.code ({ cls := "CoinTaxes$Office", name := "sumOfFines", desc := "()I" } : Jvm.MethodName) prog_6_method_24_code (4 : Nat) (Option.some Jvm.ClassFile.FieldType.int)) ∈ lw_all := lw_g (lw_at lw_m8 65 rfl) rfl
theorem q1836 : (Jvm.Cond.methodLink "CoinTaxes$Office" (208 : Nat) ({ cls := "CoinTaxes$Office", name := "sumOfDebts", desc := "()I" } : Jvm.MethodName)) ∈ lw_all := lw_g (lw_at lw_m8 66 rfl) rfl
theorem q1837 : (Jvm.Cond.instanceMethod ({ cls := "CoinTaxes$Office", name := "sumOfDebts", desc := "()I" } : Jvm.MethodName)) ∈ lw_all := lw_g (lw_at lw_m8 67 rfl) rfl
theorem q1838 : (Jvm.Cond.selects "CoinTaxes$Office" ({ cls := "CoinTaxes$Office", name := "sumOfDebts", desc := "()I" } : Jvm.MethodName) ({ cls := "CoinTaxes$Office", name := "sumOfDebts", desc := "()I" } : Jvm.MethodName)) ∈ lw_all := lw_g (lw_at lw_m8 68 rfl) rfl
theorem q1839 : (Jvm.Cond.code ({ cls := "CoinTaxes$Office", name := "sumOfDebts", desc := "()I" } : Jvm.MethodName) prog_6_method_22_code (4 : Nat) (Option.some Jvm.ClassFile.FieldType.int)) ∈ lw_all := lw_g (lw_at lw_m8 69 rfl) rfl
theorem q1840 : (Jvm.Cond.methodLink "CoinTaxes$Office" (211 : Nat) ({ cls := "CoinTaxes$Citizen", name := "dues", desc := "(LCoinTaxes$Law;I)I" } : Jvm.MethodName)) ∈ lw_all := lw_g (lw_at lw_m8 70 rfl) rfl
theorem q1841 : (Jvm.Cond.methodLink "CoinTaxes$Office" (214 : Nat) ({ cls := "CoinTaxes$Citizen", name := "duesAgain", desc := "(LCoinTaxes$Law;I)I" } : Jvm.MethodName)) ∈ lw_all := lw_g (lw_at lw_m8 71 rfl) rfl
theorem q2116 : (Jvm.Cond.instanceMethod ({ cls := "CoinTaxes$Office", name := "auditCosts", desc := "(LCoinTaxes$Citizen;)I" } : Jvm.MethodName)) ∈ lw_all := lw_g (lw_at lw_m9 106 rfl) rfl
theorem q2117 : (Jvm.Cond.selects "CoinTaxes$Office" ({ cls := "CoinTaxes$Office", name := "auditCosts", desc := "(LCoinTaxes$Citizen;)I" } : Jvm.MethodName) ({ cls := "CoinTaxes$Office", name := "auditCosts", desc := "(LCoinTaxes$Citizen;)I" } : Jvm.MethodName)) ∈ lw_all := lw_g (lw_at lw_m9 107 rfl) rfl
theorem q2118 : (Jvm.Cond.code ({ cls := "CoinTaxes$Office", name := "auditCosts", desc := "(LCoinTaxes$Citizen;)I" } : Jvm.MethodName) prog_6_method_16_code (4 : Nat) (Option.some Jvm.ClassFile.FieldType.int)) ∈ lw_all := lw_g (lw_at lw_m9 108 rfl) rfl
theorem q2119 : (Jvm.Cond.methodLink "CoinTaxes$Office" (176 : Nat) ({ cls := "CoinTaxes$Citizen", name := "strikes", desc := "()I" } : Jvm.MethodName)) ∈ lw_all := lw_g (lw_at lw_m9 109 rfl) rfl
theorem q2120 : (Jvm.Cond.methodLink "CoinTaxes$Office" (179 : Nat) ({ cls := "CoinTaxes$Citizen", name := "tax", desc := "(LCoinTaxes$Law;I)I" } : Jvm.MethodName)) ∈ lw_all := lw_g (lw_at lw_m9 110 rfl) rfl
theorem q2129 : (Jvm.Cond.instanceMethod ({ cls := "CoinTaxes$Office", name := "left", desc := "(LCoinTaxes$Citizen;I)I" } : Jvm.MethodName)) ∈ lw_all := lw_g (lw_at lw_m9 119 rfl) rfl
theorem q2130 : (Jvm.Cond.selects "CoinTaxes$Office" ({ cls := "CoinTaxes$Office", name := "left", desc := "(LCoinTaxes$Citizen;I)I" } : Jvm.MethodName) ({ cls := "CoinTaxes$Office", name := "left", desc := "(LCoinTaxes$Citizen;I)I" } : Jvm.MethodName)) ∈ lw_all := lw_g (lw_at lw_m9 120 rfl) rfl
theorem q2131 : (Jvm.Cond.code ({ cls := "CoinTaxes$Office", name := "left", desc := "(LCoinTaxes$Citizen;I)I" } : Jvm.MethodName) prog_6_method_17_code (3 : Nat) (Option.some Jvm.ClassFile.FieldType.int)) ∈ lw_all := lw_g (lw_at lw_m9 121 rfl) rfl
theorem q2159 : (Jvm.Cond.instanceMethod ({ cls := "CoinTaxes$Office", name := "auditIn", desc := "(I)I" } : Jvm.MethodName)) ∈ lw_all := lw_g (lw_at lw_m9 149 rfl) rfl
theorem q2160 : (Jvm.Cond.selects "CoinTaxes$Office" ({ cls := "CoinTaxes$Office", name := "auditIn", desc := "(I)I" } : Jvm.MethodName) ({ cls := "CoinTaxes$Office", name := "auditIn", desc := "(I)I" } : Jvm.MethodName)) ∈ lw_all := lw_g (lw_at lw_m9 150 rfl) rfl
theorem q2161 : (Jvm.Cond.code ({ cls := "CoinTaxes$Office", name := "auditIn", desc := "(I)I" } : Jvm.MethodName) prog_6_method_15_code (4 : Nat) (Option.some Jvm.ClassFile.FieldType.int)) ∈ lw_all := lw_g (lw_at lw_m9 151 rfl) rfl
theorem q2162 : (Jvm.Cond.classLink "CoinTaxes$Office" (13 : Nat) "CoinTaxes$Office") ∈ lw_all := lw_g (lw_at lw_m9 152 rfl) rfl
theorem q2163 : (Jvm.Cond.methodLink "CoinTaxes$Office" (173 : Nat) ({ cls := "CoinTaxes$Office", name := "<init>", desc := "(LCoinTaxes$Office;)V" } : Jvm.MethodName)) ∈ lw_all := lw_g (lw_at lw_m9 153 rfl) rfl
theorem q2175 : (Jvm.Cond.instanceMethod ({ cls := "CoinTaxes$Office", name := "ranked", desc := "(I)I" } : Jvm.MethodName)) ∈ lw_all := lw_g (lw_at lw_m9 165 rfl) rfl
theorem q2176 : (Jvm.Cond.selects "CoinTaxes$Office" ({ cls := "CoinTaxes$Office", name := "ranked", desc := "(I)I" } : Jvm.MethodName) ({ cls := "CoinTaxes$Office", name := "ranked", desc := "(I)I" } : Jvm.MethodName)) ∈ lw_all := lw_g (lw_at lw_m9 166 rfl) rfl
theorem q2177 : (Jvm.Cond.code ({ cls := "CoinTaxes$Office", name := "ranked", desc := "(I)I" } : Jvm.MethodName) prog_6_method_19_code (7 : Nat) (Option.some Jvm.ClassFile.FieldType.int)) ∈ lw_all := lw_g (lw_at lw_m9 167 rfl) rfl
theorem q2178 : (Jvm.Cond.methodLink "CoinTaxes$Office" (186 : Nat) ({ cls := "CoinTaxes$Office", name := "isAhead", desc := "(LCoinTaxes$Citizen;LCoinTaxes$Citizen;)Z" } : Jvm.MethodName)) ∈ lw_all := lw_g (lw_at lw_m9 168 rfl) rfl
theorem q2179 : (Jvm.Cond.static ({ cls := "CoinTaxes$Office", name := "isAhead", desc := "(LCoinTaxes$Citizen;LCoinTaxes$Citizen;)Z" } : Jvm.MethodName)) ∈ lw_all := lw_g (lw_at lw_m9 169 rfl) rfl
theorem q2180 : (Jvm.Cond.code ({ cls := "CoinTaxes$Office", name := "isAhead", desc := "(LCoinTaxes$Citizen;LCoinTaxes$Citizen;)Z" } : Jvm.MethodName) prog_6_method_18_code (3 : Nat) (Option.some Jvm.ClassFile.FieldType.boolean)) ∈ lw_all := lw_g (lw_at lw_m9 170 rfl) rfl
theorem q2474 : (Jvm.Cond.instanceMethod ({ cls := "CoinTaxes$Office", name := "sumOfIncomes", desc := "()I" } : Jvm.MethodName)) ∈ lw_all := lw_g (lw_at lw_m10 224 rfl) rfl
theorem q2475 : (Jvm.Cond.selects "CoinTaxes$Office" ({ cls := "CoinTaxes$Office", name := "sumOfIncomes", desc := "()I" } : Jvm.MethodName) ({ cls := "CoinTaxes$Office", name := "sumOfIncomes", desc := "()I" } : Jvm.MethodName)) ∈ lw_all := lw_g (lw_at lw_m10 225 rfl) rfl
theorem q2476 : (Jvm.Cond.code ({ cls := "CoinTaxes$Office", name := "sumOfIncomes", desc := "()I" } : Jvm.MethodName) prog_6_method_20_code (4 : Nat) (Option.some Jvm.ClassFile.FieldType.int)) ∈ lw_all := lw_g (lw_at lw_m10 226 rfl) rfl
theorem q2488 : (Jvm.Cond.instanceMethod ({ cls := "CoinTaxes$Office", name := "sumOfCarried", desc := "()I" } : Jvm.MethodName)) ∈ lw_all := lw_g (lw_at lw_m10 238 rfl) rfl
theorem q2489 : (Jvm.Cond.selects "CoinTaxes$Office" ({ cls := "CoinTaxes$Office", name := "sumOfCarried", desc := "()I" } : Jvm.MethodName) ({ cls := "CoinTaxes$Office", name := "sumOfCarried", desc := "()I" } : Jvm.MethodName)) ∈ lw_all := lw_g (lw_at lw_m10 239 rfl) rfl
theorem q2490 : (Jvm.Cond.code ({ cls := "CoinTaxes$Office", name := "sumOfCarried", desc := "()I" } : Jvm.MethodName) prog_6_method_25_code (4 : Nat) (Option.some Jvm.ClassFile.FieldType.int)) ∈ lw_all := lw_g (lw_at lw_m11 0 rfl) rfl
theorem q2491 : (Jvm.Cond.methodLink "CoinTaxes$Office" (196 : Nat) ({ cls := "CoinTaxes$Citizen", name := "carriedCoins", desc := "()I" } : Jvm.MethodName)) ∈ lw_all := lw_g (lw_at lw_m11 1 rfl) rfl
theorem q3007 : (Jvm.Cond.castable "CoinTaxes$Office" "java/lang/Object") ∈ lw_tbl := lw_at lw_m13 37 rfl
theorem in_X2 : ∀ w ∈ wsX20, w ∈ lw_all := lw_in wsX20 [304, 306, 308, 310, 312, 314, 316] (by decide +kernel) (by decide +kernel)

/-! CoinTaxes$Law -/
set_option maxRecDepth 100000
def RX3 : String := "CoinTaxes$Law"
def TX3 : u_T := fun k => match k with
  | 0 => ("CoinTaxes$Law", "brackets", "Ljava/util/LinkedList;", true)
  | 1 => ("CoinTaxes$Law", "caps", "[I", true)
  | 2 => ("CoinTaxes$Law", "credit", "I", false)
  | 3 => ("CoinTaxes$Law", "from", "I", false)
  | _ => ("CoinTaxes$Law", "slope", "I", false)
def tyX3 : Nat → FieldType := fun k => match k with
  | 0 => .object "java/util/LinkedList"
  | 1 => .array .int
  | 2 => .int
  | 3 => .int
  | _ => .int
abbrev wsX30 : List Cond := u_ws RX3 TX3 5
theorem nmX3 : ∀ a, a < 5 → ∀ b, b < 5 → a ≠ b → (TX3 a).2.1 ≠ (TX3 b).2.1 := by decide +kernel
theorem tyX3_ok : ∀ k, k < 5 → parseFieldDescriptor (TX3 k).2.2.1 = some (tyX3 k) := by decide +kernel
abbrev cX3_init : ByteArray := prog_5_method_1_code
def yX3_init : MethodName := ⟨RX3, "<init>", "()V"⟩
def dkwX3_init_2 : List UInt8 := [42, 180, 0, 18, 27, 16, 100, 79, 132, 1, 1, 167, 255, 240, 177]
abbrev dktX3_init_2 : List UInt8 := dkwX3_init_2 ++ []
def dkwX3_init_1 : List UInt8 := [180, 0, 12, 187, 0, 22, 89, 3, 16, 10, 183, 0, 24, 182, 0, 27, 87, 3, 60, 27, 6, 162, 0, 17]
abbrev dktX3_init_1 : List UInt8 := dkwX3_init_1 ++ dktX3_init_2
def dkwX3_init_0 : List UInt8 := [42, 183, 0, 3, 42, 187, 0, 9, 89, 183, 0, 11, 181, 0, 12, 42, 6, 188, 10, 181, 0, 18, 42]
abbrev dktX3_init_0 : List UInt8 := dkwX3_init_0 ++ dktX3_init_1
theorem dksX3_init_0 : cX3_init.data.toList.drop 0 = dktX3_init_0 := by decide +kernel
theorem dksX3_init_1 : cX3_init.data.toList.drop 23 = dktX3_init_1 := dk_seg dksX3_init_0 23 rfl rfl
theorem dksX3_init_2 : cX3_init.data.toList.drop 47 = dktX3_init_2 := dk_seg dksX3_init_1 24 rfl rfl
theorem dX3_init_0 : decode cX3_init 0 = .ok (.aload_n 0, 1) := dk_42 (dk_at dksX3_init_0 0 rfl rfl)
theorem dX3_init_1 : decode cX3_init 1 = .ok (.invokespecial 3, 3) := dk_183 0 3 (dk_at dksX3_init_0 1 rfl rfl)
theorem dX3_init_4 : decode cX3_init 4 = .ok (.aload_n 0, 1) := dk_42 (dk_at dksX3_init_0 4 rfl rfl)
theorem dX3_init_5 : decode cX3_init 5 = .ok (.new 9, 3) := dk_187 0 9 (dk_at dksX3_init_0 5 rfl rfl)
theorem dX3_init_8 : decode cX3_init 8 = .ok (.dup, 1) := dk_89 (dk_at dksX3_init_0 8 rfl rfl)
theorem dX3_init_9 : decode cX3_init 9 = .ok (.invokespecial 11, 3) := dk_183 0 11 (dk_at dksX3_init_0 9 rfl rfl)
theorem dX3_init_12 : decode cX3_init 12 = .ok (.putfield 12, 3) := dk_181 0 12 (dk_at dksX3_init_0 12 rfl rfl)
theorem dX3_init_15 : decode cX3_init 15 = .ok (.aload_n 0, 1) := dk_42 (dk_at dksX3_init_0 15 rfl rfl)
theorem dX3_init_16 : decode cX3_init 16 = .ok (.iconst 3, 1) := dk_6 (dk_at dksX3_init_0 16 rfl rfl)
theorem dX3_init_17 : decode cX3_init 17 = .ok (.newarray .int, 2) := dk_188_10 (dk_at dksX3_init_0 17 rfl rfl)
theorem dX3_init_19 : decode cX3_init 19 = .ok (.putfield 18, 3) := dk_181 0 18 (dk_at dksX3_init_0 19 rfl rfl)
theorem dX3_init_22 : decode cX3_init 22 = .ok (.aload_n 0, 1) := dk_42 (dk_at dksX3_init_0 22 rfl rfl)
theorem dX3_init_23 : decode cX3_init 23 = .ok (.getfield 12, 3) := dk_180 0 12 (dk_at dksX3_init_1 0 rfl rfl)
theorem dX3_init_26 : decode cX3_init 26 = .ok (.new 22, 3) := dk_187 0 22 (dk_at dksX3_init_1 3 rfl rfl)
theorem dX3_init_29 : decode cX3_init 29 = .ok (.dup, 1) := dk_89 (dk_at dksX3_init_1 6 rfl rfl)
theorem dX3_init_30 : decode cX3_init 30 = .ok (.iconst 0, 1) := dk_3 (dk_at dksX3_init_1 7 rfl rfl)
theorem dX3_init_31 : decode cX3_init 31 = .ok (.bipush 10, 2) := dk_16 10 (dk_at dksX3_init_1 8 rfl rfl)
theorem dX3_init_33 : decode cX3_init 33 = .ok (.invokespecial 24, 3) := dk_183 0 24 (dk_at dksX3_init_1 10 rfl rfl)
theorem dX3_init_36 : decode cX3_init 36 = .ok (.invokevirtual 27, 3) := dk_182 0 27 (dk_at dksX3_init_1 13 rfl rfl)
theorem dX3_init_39 : decode cX3_init 39 = .ok (.pop, 1) := dk_87 (dk_at dksX3_init_1 16 rfl rfl)
theorem dX3_init_40 : decode cX3_init 40 = .ok (.iconst 0, 1) := dk_3 (dk_at dksX3_init_1 17 rfl rfl)
theorem dX3_init_41 : decode cX3_init 41 = .ok (.istore_n 1, 1) := dk_60 (dk_at dksX3_init_1 18 rfl rfl)
theorem dX3_init_42 : decode cX3_init 42 = .ok (.iload_n 1, 1) := dk_27 (dk_at dksX3_init_1 19 rfl rfl)
theorem dX3_init_43 : decode cX3_init 43 = .ok (.iconst 3, 1) := dk_6 (dk_at dksX3_init_1 20 rfl rfl)
theorem dX3_init_44 : decode cX3_init 44 = .ok (.if_icmp .ge 17, 3) := dk_162 0 17 (dk_at dksX3_init_1 21 rfl rfl)
theorem dX3_init_47 : decode cX3_init 47 = .ok (.aload_n 0, 1) := dk_42 (dk_at dksX3_init_2 0 rfl rfl)
theorem dX3_init_48 : decode cX3_init 48 = .ok (.getfield 18, 3) := dk_180 0 18 (dk_at dksX3_init_2 1 rfl rfl)
theorem dX3_init_51 : decode cX3_init 51 = .ok (.iload_n 1, 1) := dk_27 (dk_at dksX3_init_2 4 rfl rfl)
theorem dX3_init_52 : decode cX3_init 52 = .ok (.bipush 100, 2) := dk_16 100 (dk_at dksX3_init_2 5 rfl rfl)
theorem dX3_init_54 : decode cX3_init 54 = .ok (.iastore, 1) := dk_79 (dk_at dksX3_init_2 7 rfl rfl)
theorem dX3_init_55 : decode cX3_init 55 = .ok (.iinc 1 1, 3) := dk_132 1 1 (dk_at dksX3_init_2 8 rfl rfl)
theorem dX3_init_58 : decode cX3_init 58 = .ok (.goto (-16), 3) := dk_167 255 240 (dk_at dksX3_init_2 11 rfl rfl)
theorem dX3_init_61 : decode cX3_init 61 = .ok (.return_, 1) := dk_177 (dk_at dksX3_init_2 14 rfl rfl)
abbrev cX3_init_2 : ByteArray := prog_5_method_2_code
def yX3_init_2 : MethodName := ⟨RX3, "<init>", "(LCoinTaxes$Law;)V"⟩
def dkwX3_init_2_4 : List UInt8 := [180, 0, 58, 181, 0, 58, 42, 43, 180, 0, 61, 181, 0, 61, 177]
abbrev dktX3_init_2_4 : List UInt8 := dkwX3_init_2_4 ++ []
def dkwX3_init_2_3 : List UInt8 := [180, 0, 18, 3, 42, 180, 0, 18, 3, 6, 184, 0, 48, 42, 43, 180, 0, 54, 181, 0, 54, 42, 43]
abbrev dktX3_init_2_3 : List UInt8 := dkwX3_init_2_3 ++ dktX3_init_2_4
def dkwX3_init_2_2 : List UInt8 := [192, 0, 22, 78, 42, 180, 0, 12, 187, 0, 22, 89, 45, 183, 0, 45, 182, 0, 27, 87, 167, 255, 221, 43]
abbrev dktX3_init_2_2 : List UInt8 := dkwX3_init_2_2 ++ dktX3_init_2_3
def dkwX3_init_2_1 : List UInt8 := [180, 0, 12, 182, 0, 31, 77, 44, 185, 0, 35, 1, 0, 153, 0, 32, 44, 185, 0, 41, 1, 0]
abbrev dktX3_init_2_1 : List UInt8 := dkwX3_init_2_1 ++ dktX3_init_2_2
def dkwX3_init_2_0 : List UInt8 := [42, 183, 0, 3, 42, 187, 0, 9, 89, 183, 0, 11, 181, 0, 12, 42, 6, 188, 10, 181, 0, 18, 43]
abbrev dktX3_init_2_0 : List UInt8 := dkwX3_init_2_0 ++ dktX3_init_2_1
theorem dksX3_init_2_0 : cX3_init_2.data.toList.drop 0 = dktX3_init_2_0 := by decide +kernel
theorem dksX3_init_2_1 : cX3_init_2.data.toList.drop 23 = dktX3_init_2_1 := dk_seg dksX3_init_2_0 23 rfl rfl
theorem dksX3_init_2_2 : cX3_init_2.data.toList.drop 45 = dktX3_init_2_2 := dk_seg dksX3_init_2_1 22 rfl rfl
theorem dksX3_init_2_3 : cX3_init_2.data.toList.drop 69 = dktX3_init_2_3 := dk_seg dksX3_init_2_2 24 rfl rfl
theorem dksX3_init_2_4 : cX3_init_2.data.toList.drop 92 = dktX3_init_2_4 := dk_seg dksX3_init_2_3 23 rfl rfl
theorem dX3_init_2_0 : decode cX3_init_2 0 = .ok (.aload_n 0, 1) := dk_42 (dk_at dksX3_init_2_0 0 rfl rfl)
theorem dX3_init_2_1 : decode cX3_init_2 1 = .ok (.invokespecial 3, 3) := dk_183 0 3 (dk_at dksX3_init_2_0 1 rfl rfl)
theorem dX3_init_2_4 : decode cX3_init_2 4 = .ok (.aload_n 0, 1) := dk_42 (dk_at dksX3_init_2_0 4 rfl rfl)
theorem dX3_init_2_5 : decode cX3_init_2 5 = .ok (.new 9, 3) := dk_187 0 9 (dk_at dksX3_init_2_0 5 rfl rfl)
theorem dX3_init_2_8 : decode cX3_init_2 8 = .ok (.dup, 1) := dk_89 (dk_at dksX3_init_2_0 8 rfl rfl)
theorem dX3_init_2_9 : decode cX3_init_2 9 = .ok (.invokespecial 11, 3) := dk_183 0 11 (dk_at dksX3_init_2_0 9 rfl rfl)
theorem dX3_init_2_12 : decode cX3_init_2 12 = .ok (.putfield 12, 3) := dk_181 0 12 (dk_at dksX3_init_2_0 12 rfl rfl)
theorem dX3_init_2_15 : decode cX3_init_2 15 = .ok (.aload_n 0, 1) := dk_42 (dk_at dksX3_init_2_0 15 rfl rfl)
theorem dX3_init_2_16 : decode cX3_init_2 16 = .ok (.iconst 3, 1) := dk_6 (dk_at dksX3_init_2_0 16 rfl rfl)
theorem dX3_init_2_17 : decode cX3_init_2 17 = .ok (.newarray .int, 2) := dk_188_10 (dk_at dksX3_init_2_0 17 rfl rfl)
theorem dX3_init_2_19 : decode cX3_init_2 19 = .ok (.putfield 18, 3) := dk_181 0 18 (dk_at dksX3_init_2_0 19 rfl rfl)
theorem dX3_init_2_22 : decode cX3_init_2 22 = .ok (.aload_n 1, 1) := dk_43 (dk_at dksX3_init_2_0 22 rfl rfl)
theorem dX3_init_2_23 : decode cX3_init_2 23 = .ok (.getfield 12, 3) := dk_180 0 12 (dk_at dksX3_init_2_1 0 rfl rfl)
theorem dX3_init_2_26 : decode cX3_init_2 26 = .ok (.invokevirtual 31, 3) := dk_182 0 31 (dk_at dksX3_init_2_1 3 rfl rfl)
theorem dX3_init_2_29 : decode cX3_init_2 29 = .ok (.astore_n 2, 1) := dk_77 (dk_at dksX3_init_2_1 6 rfl rfl)
theorem dX3_init_2_30 : decode cX3_init_2 30 = .ok (.aload_n 2, 1) := dk_44 (dk_at dksX3_init_2_1 7 rfl rfl)
theorem dX3_init_2_31 : decode cX3_init_2 31 = .ok (.invokeinterface 35 1, 5) := by decide +kernel
theorem dX3_init_2_36 : decode cX3_init_2 36 = .ok (.ifCond .eq 32, 3) := dk_153 0 32 (dk_at dksX3_init_2_1 13 rfl rfl)
theorem dX3_init_2_39 : decode cX3_init_2 39 = .ok (.aload_n 2, 1) := dk_44 (dk_at dksX3_init_2_1 16 rfl rfl)
theorem dX3_init_2_40 : decode cX3_init_2 40 = .ok (.invokeinterface 41 1, 5) := by decide +kernel
theorem dX3_init_2_45 : decode cX3_init_2 45 = .ok (.checkcast 22, 3) := dk_192 0 22 (dk_at dksX3_init_2_2 0 rfl rfl)
theorem dX3_init_2_48 : decode cX3_init_2 48 = .ok (.astore_n 3, 1) := dk_78 (dk_at dksX3_init_2_2 3 rfl rfl)
theorem dX3_init_2_49 : decode cX3_init_2 49 = .ok (.aload_n 0, 1) := dk_42 (dk_at dksX3_init_2_2 4 rfl rfl)
theorem dX3_init_2_50 : decode cX3_init_2 50 = .ok (.getfield 12, 3) := dk_180 0 12 (dk_at dksX3_init_2_2 5 rfl rfl)
theorem dX3_init_2_53 : decode cX3_init_2 53 = .ok (.new 22, 3) := dk_187 0 22 (dk_at dksX3_init_2_2 8 rfl rfl)
theorem dX3_init_2_56 : decode cX3_init_2 56 = .ok (.dup, 1) := dk_89 (dk_at dksX3_init_2_2 11 rfl rfl)
theorem dX3_init_2_57 : decode cX3_init_2 57 = .ok (.aload_n 3, 1) := dk_45 (dk_at dksX3_init_2_2 12 rfl rfl)
theorem dX3_init_2_58 : decode cX3_init_2 58 = .ok (.invokespecial 45, 3) := dk_183 0 45 (dk_at dksX3_init_2_2 13 rfl rfl)
theorem dX3_init_2_61 : decode cX3_init_2 61 = .ok (.invokevirtual 27, 3) := dk_182 0 27 (dk_at dksX3_init_2_2 16 rfl rfl)
theorem dX3_init_2_64 : decode cX3_init_2 64 = .ok (.pop, 1) := dk_87 (dk_at dksX3_init_2_2 19 rfl rfl)
theorem dX3_init_2_65 : decode cX3_init_2 65 = .ok (.goto (-35), 3) := dk_167 255 221 (dk_at dksX3_init_2_2 20 rfl rfl)
theorem dX3_init_2_68 : decode cX3_init_2 68 = .ok (.aload_n 1, 1) := dk_43 (dk_at dksX3_init_2_2 23 rfl rfl)
theorem dX3_init_2_69 : decode cX3_init_2 69 = .ok (.getfield 18, 3) := dk_180 0 18 (dk_at dksX3_init_2_3 0 rfl rfl)
theorem dX3_init_2_72 : decode cX3_init_2 72 = .ok (.iconst 0, 1) := dk_3 (dk_at dksX3_init_2_3 3 rfl rfl)
theorem dX3_init_2_73 : decode cX3_init_2 73 = .ok (.aload_n 0, 1) := dk_42 (dk_at dksX3_init_2_3 4 rfl rfl)
theorem dX3_init_2_74 : decode cX3_init_2 74 = .ok (.getfield 18, 3) := dk_180 0 18 (dk_at dksX3_init_2_3 5 rfl rfl)
theorem dX3_init_2_77 : decode cX3_init_2 77 = .ok (.iconst 0, 1) := dk_3 (dk_at dksX3_init_2_3 8 rfl rfl)
theorem dX3_init_2_78 : decode cX3_init_2 78 = .ok (.iconst 3, 1) := dk_6 (dk_at dksX3_init_2_3 9 rfl rfl)
theorem dX3_init_2_79 : decode cX3_init_2 79 = .ok (.invokestatic 48, 3) := dk_184 0 48 (dk_at dksX3_init_2_3 10 rfl rfl)
theorem dX3_init_2_82 : decode cX3_init_2 82 = .ok (.aload_n 0, 1) := dk_42 (dk_at dksX3_init_2_3 13 rfl rfl)
theorem dX3_init_2_83 : decode cX3_init_2 83 = .ok (.aload_n 1, 1) := dk_43 (dk_at dksX3_init_2_3 14 rfl rfl)
theorem dX3_init_2_84 : decode cX3_init_2 84 = .ok (.getfield 54, 3) := dk_180 0 54 (dk_at dksX3_init_2_3 15 rfl rfl)
theorem dX3_init_2_87 : decode cX3_init_2 87 = .ok (.putfield 54, 3) := dk_181 0 54 (dk_at dksX3_init_2_3 18 rfl rfl)
theorem dX3_init_2_90 : decode cX3_init_2 90 = .ok (.aload_n 0, 1) := dk_42 (dk_at dksX3_init_2_3 21 rfl rfl)
theorem dX3_init_2_91 : decode cX3_init_2 91 = .ok (.aload_n 1, 1) := dk_43 (dk_at dksX3_init_2_3 22 rfl rfl)
theorem dX3_init_2_92 : decode cX3_init_2 92 = .ok (.getfield 58, 3) := dk_180 0 58 (dk_at dksX3_init_2_4 0 rfl rfl)
theorem dX3_init_2_95 : decode cX3_init_2 95 = .ok (.putfield 58, 3) := dk_181 0 58 (dk_at dksX3_init_2_4 3 rfl rfl)
theorem dX3_init_2_98 : decode cX3_init_2 98 = .ok (.aload_n 0, 1) := dk_42 (dk_at dksX3_init_2_4 6 rfl rfl)
theorem dX3_init_2_99 : decode cX3_init_2 99 = .ok (.aload_n 1, 1) := dk_43 (dk_at dksX3_init_2_4 7 rfl rfl)
theorem dX3_init_2_100 : decode cX3_init_2 100 = .ok (.getfield 61, 3) := dk_180 0 61 (dk_at dksX3_init_2_4 8 rfl rfl)
theorem dX3_init_2_103 : decode cX3_init_2 103 = .ok (.putfield 61, 3) := dk_181 0 61 (dk_at dksX3_init_2_4 11 rfl rfl)
theorem dX3_init_2_106 : decode cX3_init_2 106 = .ok (.return_, 1) := dk_177 (dk_at dksX3_init_2_4 14 rfl rfl)
abbrev cX3_withEdge : ByteArray := prog_5_method_3_code
def yX3_withEdge : MethodName := ⟨RX3, "withEdge", "(I)I"⟩
def dkwX3_withEdge_1 : List UInt8 := [180, 0, 72, 27, 160, 0, 5, 28, 172, 132, 2, 1, 167, 255, 222, 2, 172]
abbrev dktX3_withEdge_1 : List UInt8 := dkwX3_withEdge_1 ++ []
def dkwX3_withEdge_0 : List UInt8 := [3, 61, 28, 42, 180, 0, 12, 182, 0, 64, 162, 0, 29, 42, 180, 0, 12, 28, 182, 0, 68, 192, 0, 22]
abbrev dktX3_withEdge_0 : List UInt8 := dkwX3_withEdge_0 ++ dktX3_withEdge_1
theorem dksX3_withEdge_0 : cX3_withEdge.data.toList.drop 0 = dktX3_withEdge_0 := by decide +kernel
theorem dksX3_withEdge_1 : cX3_withEdge.data.toList.drop 24 = dktX3_withEdge_1 := dk_seg dksX3_withEdge_0 24 rfl rfl
theorem dX3_withEdge_0 : decode cX3_withEdge 0 = .ok (.iconst 0, 1) := dk_3 (dk_at dksX3_withEdge_0 0 rfl rfl)
theorem dX3_withEdge_1 : decode cX3_withEdge 1 = .ok (.istore_n 2, 1) := dk_61 (dk_at dksX3_withEdge_0 1 rfl rfl)
theorem dX3_withEdge_2 : decode cX3_withEdge 2 = .ok (.iload_n 2, 1) := dk_28 (dk_at dksX3_withEdge_0 2 rfl rfl)
theorem dX3_withEdge_3 : decode cX3_withEdge 3 = .ok (.aload_n 0, 1) := dk_42 (dk_at dksX3_withEdge_0 3 rfl rfl)
theorem dX3_withEdge_4 : decode cX3_withEdge 4 = .ok (.getfield 12, 3) := dk_180 0 12 (dk_at dksX3_withEdge_0 4 rfl rfl)
theorem dX3_withEdge_7 : decode cX3_withEdge 7 = .ok (.invokevirtual 64, 3) := dk_182 0 64 (dk_at dksX3_withEdge_0 7 rfl rfl)
theorem dX3_withEdge_10 : decode cX3_withEdge 10 = .ok (.if_icmp .ge 29, 3) := dk_162 0 29 (dk_at dksX3_withEdge_0 10 rfl rfl)
theorem dX3_withEdge_13 : decode cX3_withEdge 13 = .ok (.aload_n 0, 1) := dk_42 (dk_at dksX3_withEdge_0 13 rfl rfl)
theorem dX3_withEdge_14 : decode cX3_withEdge 14 = .ok (.getfield 12, 3) := dk_180 0 12 (dk_at dksX3_withEdge_0 14 rfl rfl)
theorem dX3_withEdge_17 : decode cX3_withEdge 17 = .ok (.iload_n 2, 1) := dk_28 (dk_at dksX3_withEdge_0 17 rfl rfl)
theorem dX3_withEdge_18 : decode cX3_withEdge 18 = .ok (.invokevirtual 68, 3) := dk_182 0 68 (dk_at dksX3_withEdge_0 18 rfl rfl)
theorem dX3_withEdge_21 : decode cX3_withEdge 21 = .ok (.checkcast 22, 3) := dk_192 0 22 (dk_at dksX3_withEdge_0 21 rfl rfl)
theorem dX3_withEdge_24 : decode cX3_withEdge 24 = .ok (.getfield 72, 3) := dk_180 0 72 (dk_at dksX3_withEdge_1 0 rfl rfl)
theorem dX3_withEdge_27 : decode cX3_withEdge 27 = .ok (.iload_n 1, 1) := dk_27 (dk_at dksX3_withEdge_1 3 rfl rfl)
theorem dX3_withEdge_28 : decode cX3_withEdge 28 = .ok (.if_icmp .ne 5, 3) := dk_160 0 5 (dk_at dksX3_withEdge_1 4 rfl rfl)
theorem dX3_withEdge_31 : decode cX3_withEdge 31 = .ok (.iload_n 2, 1) := dk_28 (dk_at dksX3_withEdge_1 7 rfl rfl)
theorem dX3_withEdge_32 : decode cX3_withEdge 32 = .ok (.ireturn, 1) := dk_172 (dk_at dksX3_withEdge_1 8 rfl rfl)
theorem dX3_withEdge_33 : decode cX3_withEdge 33 = .ok (.iinc 2 1, 3) := dk_132 2 1 (dk_at dksX3_withEdge_1 9 rfl rfl)
theorem dX3_withEdge_36 : decode cX3_withEdge 36 = .ok (.goto (-34), 3) := dk_167 255 222 (dk_at dksX3_withEdge_1 12 rfl rfl)
theorem dX3_withEdge_39 : decode cX3_withEdge 39 = .ok (.iconst (-1), 1) := dk_2 (dk_at dksX3_withEdge_1 15 rfl rfl)
theorem dX3_withEdge_40 : decode cX3_withEdge 40 = .ok (.ireturn, 1) := dk_172 (dk_at dksX3_withEdge_1 16 rfl rfl)
abbrev cX3_placeOf : ByteArray := prog_5_method_4_code
def yX3_placeOf : MethodName := ⟨RX3, "placeOf", "(I)I"⟩
def dkwX3_placeOf_1 : List UInt8 := [27, 164, 0, 9, 132, 2, 255, 167, 255, 233, 28, 172]
abbrev dktX3_placeOf_1 : List UInt8 := dkwX3_placeOf_1 ++ []
def dkwX3_placeOf_0 : List UInt8 := [42, 180, 0, 12, 182, 0, 64, 61, 42, 180, 0, 12, 28, 4, 100, 182, 0, 68, 192, 0, 22, 180, 0, 72]
abbrev dktX3_placeOf_0 : List UInt8 := dkwX3_placeOf_0 ++ dktX3_placeOf_1
theorem dksX3_placeOf_0 : cX3_placeOf.data.toList.drop 0 = dktX3_placeOf_0 := by decide +kernel
theorem dksX3_placeOf_1 : cX3_placeOf.data.toList.drop 24 = dktX3_placeOf_1 := dk_seg dksX3_placeOf_0 24 rfl rfl
theorem dX3_placeOf_0 : decode cX3_placeOf 0 = .ok (.aload_n 0, 1) := dk_42 (dk_at dksX3_placeOf_0 0 rfl rfl)
theorem dX3_placeOf_1 : decode cX3_placeOf 1 = .ok (.getfield 12, 3) := dk_180 0 12 (dk_at dksX3_placeOf_0 1 rfl rfl)
theorem dX3_placeOf_4 : decode cX3_placeOf 4 = .ok (.invokevirtual 64, 3) := dk_182 0 64 (dk_at dksX3_placeOf_0 4 rfl rfl)
theorem dX3_placeOf_7 : decode cX3_placeOf 7 = .ok (.istore_n 2, 1) := dk_61 (dk_at dksX3_placeOf_0 7 rfl rfl)
theorem dX3_placeOf_8 : decode cX3_placeOf 8 = .ok (.aload_n 0, 1) := dk_42 (dk_at dksX3_placeOf_0 8 rfl rfl)
theorem dX3_placeOf_9 : decode cX3_placeOf 9 = .ok (.getfield 12, 3) := dk_180 0 12 (dk_at dksX3_placeOf_0 9 rfl rfl)
theorem dX3_placeOf_12 : decode cX3_placeOf 12 = .ok (.iload_n 2, 1) := dk_28 (dk_at dksX3_placeOf_0 12 rfl rfl)
theorem dX3_placeOf_13 : decode cX3_placeOf 13 = .ok (.iconst 1, 1) := dk_4 (dk_at dksX3_placeOf_0 13 rfl rfl)
theorem dX3_placeOf_14 : decode cX3_placeOf 14 = .ok (.isub, 1) := dk_100 (dk_at dksX3_placeOf_0 14 rfl rfl)
theorem dX3_placeOf_15 : decode cX3_placeOf 15 = .ok (.invokevirtual 68, 3) := dk_182 0 68 (dk_at dksX3_placeOf_0 15 rfl rfl)
theorem dX3_placeOf_18 : decode cX3_placeOf 18 = .ok (.checkcast 22, 3) := dk_192 0 22 (dk_at dksX3_placeOf_0 18 rfl rfl)
theorem dX3_placeOf_21 : decode cX3_placeOf 21 = .ok (.getfield 72, 3) := dk_180 0 72 (dk_at dksX3_placeOf_0 21 rfl rfl)
theorem dX3_placeOf_24 : decode cX3_placeOf 24 = .ok (.iload_n 1, 1) := dk_27 (dk_at dksX3_placeOf_1 0 rfl rfl)
theorem dX3_placeOf_25 : decode cX3_placeOf 25 = .ok (.if_icmp .le 9, 3) := dk_164 0 9 (dk_at dksX3_placeOf_1 1 rfl rfl)
theorem dX3_placeOf_28 : decode cX3_placeOf 28 = .ok (.iinc 2 (-1), 3) := dk_132 2 255 (dk_at dksX3_placeOf_1 4 rfl rfl)
theorem dX3_placeOf_31 : decode cX3_placeOf 31 = .ok (.goto (-23), 3) := dk_167 255 233 (dk_at dksX3_placeOf_1 7 rfl rfl)
theorem dX3_placeOf_34 : decode cX3_placeOf 34 = .ok (.iload_n 2, 1) := dk_28 (dk_at dksX3_placeOf_1 10 rfl rfl)
theorem dX3_placeOf_35 : decode cX3_placeOf 35 = .ok (.ireturn, 1) := dk_172 (dk_at dksX3_placeOf_1 11 rfl rfl)
abbrev cX3_hundredths : ByteArray := prog_5_method_7_code
def yX3_hundredths : MethodName := ⟨RX3, "hundredths", "(I)I"⟩
def dkwX3_hundredths_2 : List UInt8 := [21, 5, 184, 0, 91, 25, 4, 180, 0, 94, 104, 96, 61, 132, 3, 1, 167, 255, 197, 28, 172]
abbrev dktX3_hundredths_2 : List UInt8 := dkwX3_hundredths_2 ++ []
def dkwX3_hundredths_1 : List UInt8 := [192, 0, 22, 58, 4, 27, 42, 29, 182, 0, 82, 184, 0, 85, 25, 4, 180, 0, 72, 100, 54, 5, 28, 3]
abbrev dktX3_hundredths_1 : List UInt8 := dkwX3_hundredths_1 ++ dktX3_hundredths_2
def dkwX3_hundredths_0 : List UInt8 := [3, 61, 3, 62, 29, 42, 180, 0, 12, 182, 0, 64, 162, 0, 54, 42, 180, 0, 12, 29, 182, 0, 68]
abbrev dktX3_hundredths_0 : List UInt8 := dkwX3_hundredths_0 ++ dktX3_hundredths_1
theorem dksX3_hundredths_0 : cX3_hundredths.data.toList.drop 0 = dktX3_hundredths_0 := by decide +kernel
theorem dksX3_hundredths_1 : cX3_hundredths.data.toList.drop 23 = dktX3_hundredths_1 := dk_seg dksX3_hundredths_0 23 rfl rfl
theorem dksX3_hundredths_2 : cX3_hundredths.data.toList.drop 47 = dktX3_hundredths_2 := dk_seg dksX3_hundredths_1 24 rfl rfl
theorem dX3_hundredths_0 : decode cX3_hundredths 0 = .ok (.iconst 0, 1) := dk_3 (dk_at dksX3_hundredths_0 0 rfl rfl)
theorem dX3_hundredths_1 : decode cX3_hundredths 1 = .ok (.istore_n 2, 1) := dk_61 (dk_at dksX3_hundredths_0 1 rfl rfl)
theorem dX3_hundredths_2 : decode cX3_hundredths 2 = .ok (.iconst 0, 1) := dk_3 (dk_at dksX3_hundredths_0 2 rfl rfl)
theorem dX3_hundredths_3 : decode cX3_hundredths 3 = .ok (.istore_n 3, 1) := dk_62 (dk_at dksX3_hundredths_0 3 rfl rfl)
theorem dX3_hundredths_4 : decode cX3_hundredths 4 = .ok (.iload_n 3, 1) := dk_29 (dk_at dksX3_hundredths_0 4 rfl rfl)
theorem dX3_hundredths_5 : decode cX3_hundredths 5 = .ok (.aload_n 0, 1) := dk_42 (dk_at dksX3_hundredths_0 5 rfl rfl)
theorem dX3_hundredths_6 : decode cX3_hundredths 6 = .ok (.getfield 12, 3) := dk_180 0 12 (dk_at dksX3_hundredths_0 6 rfl rfl)
theorem dX3_hundredths_9 : decode cX3_hundredths 9 = .ok (.invokevirtual 64, 3) := dk_182 0 64 (dk_at dksX3_hundredths_0 9 rfl rfl)
theorem dX3_hundredths_12 : decode cX3_hundredths 12 = .ok (.if_icmp .ge 54, 3) := dk_162 0 54 (dk_at dksX3_hundredths_0 12 rfl rfl)
theorem dX3_hundredths_15 : decode cX3_hundredths 15 = .ok (.aload_n 0, 1) := dk_42 (dk_at dksX3_hundredths_0 15 rfl rfl)
theorem dX3_hundredths_16 : decode cX3_hundredths 16 = .ok (.getfield 12, 3) := dk_180 0 12 (dk_at dksX3_hundredths_0 16 rfl rfl)
theorem dX3_hundredths_19 : decode cX3_hundredths 19 = .ok (.iload_n 3, 1) := dk_29 (dk_at dksX3_hundredths_0 19 rfl rfl)
theorem dX3_hundredths_20 : decode cX3_hundredths 20 = .ok (.invokevirtual 68, 3) := dk_182 0 68 (dk_at dksX3_hundredths_0 20 rfl rfl)
theorem dX3_hundredths_23 : decode cX3_hundredths 23 = .ok (.checkcast 22, 3) := dk_192 0 22 (dk_at dksX3_hundredths_1 0 rfl rfl)
theorem dX3_hundredths_26 : decode cX3_hundredths 26 = .ok (.astore 4, 2) := dk_58 4 (dk_at dksX3_hundredths_1 3 rfl rfl)
theorem dX3_hundredths_28 : decode cX3_hundredths 28 = .ok (.iload_n 1, 1) := dk_27 (dk_at dksX3_hundredths_1 5 rfl rfl)
theorem dX3_hundredths_29 : decode cX3_hundredths 29 = .ok (.aload_n 0, 1) := dk_42 (dk_at dksX3_hundredths_1 6 rfl rfl)
theorem dX3_hundredths_30 : decode cX3_hundredths 30 = .ok (.iload_n 3, 1) := dk_29 (dk_at dksX3_hundredths_1 7 rfl rfl)
theorem dX3_hundredths_31 : decode cX3_hundredths 31 = .ok (.invokevirtual 82, 3) := dk_182 0 82 (dk_at dksX3_hundredths_1 8 rfl rfl)
theorem dX3_hundredths_34 : decode cX3_hundredths 34 = .ok (.invokestatic 85, 3) := dk_184 0 85 (dk_at dksX3_hundredths_1 11 rfl rfl)
theorem dX3_hundredths_37 : decode cX3_hundredths 37 = .ok (.aload 4, 2) := dk_25 4 (dk_at dksX3_hundredths_1 14 rfl rfl)
theorem dX3_hundredths_39 : decode cX3_hundredths 39 = .ok (.getfield 72, 3) := dk_180 0 72 (dk_at dksX3_hundredths_1 16 rfl rfl)
theorem dX3_hundredths_42 : decode cX3_hundredths 42 = .ok (.isub, 1) := dk_100 (dk_at dksX3_hundredths_1 19 rfl rfl)
theorem dX3_hundredths_43 : decode cX3_hundredths 43 = .ok (.istore 5, 2) := dk_54 5 (dk_at dksX3_hundredths_1 20 rfl rfl)
theorem dX3_hundredths_45 : decode cX3_hundredths 45 = .ok (.iload_n 2, 1) := dk_28 (dk_at dksX3_hundredths_1 22 rfl rfl)
theorem dX3_hundredths_46 : decode cX3_hundredths 46 = .ok (.iconst 0, 1) := dk_3 (dk_at dksX3_hundredths_1 23 rfl rfl)
theorem dX3_hundredths_47 : decode cX3_hundredths 47 = .ok (.iload 5, 2) := dk_21 5 (dk_at dksX3_hundredths_2 0 rfl rfl)
theorem dX3_hundredths_49 : decode cX3_hundredths 49 = .ok (.invokestatic 91, 3) := dk_184 0 91 (dk_at dksX3_hundredths_2 2 rfl rfl)
theorem dX3_hundredths_52 : decode cX3_hundredths 52 = .ok (.aload 4, 2) := dk_25 4 (dk_at dksX3_hundredths_2 5 rfl rfl)
theorem dX3_hundredths_54 : decode cX3_hundredths 54 = .ok (.getfield 94, 3) := dk_180 0 94 (dk_at dksX3_hundredths_2 7 rfl rfl)
theorem dX3_hundredths_57 : decode cX3_hundredths 57 = .ok (.imul, 1) := dk_104 (dk_at dksX3_hundredths_2 10 rfl rfl)
theorem dX3_hundredths_58 : decode cX3_hundredths 58 = .ok (.iadd, 1) := dk_96 (dk_at dksX3_hundredths_2 11 rfl rfl)
theorem dX3_hundredths_59 : decode cX3_hundredths 59 = .ok (.istore_n 2, 1) := dk_61 (dk_at dksX3_hundredths_2 12 rfl rfl)
theorem dX3_hundredths_60 : decode cX3_hundredths 60 = .ok (.iinc 3 1, 3) := dk_132 3 1 (dk_at dksX3_hundredths_2 13 rfl rfl)
theorem dX3_hundredths_63 : decode cX3_hundredths 63 = .ok (.goto (-59), 3) := dk_167 255 197 (dk_at dksX3_hundredths_2 16 rfl rfl)
theorem dX3_hundredths_66 : decode cX3_hundredths 66 = .ok (.iload_n 2, 1) := dk_28 (dk_at dksX3_hundredths_2 19 rfl rfl)
theorem dX3_hundredths_67 : decode cX3_hundredths 67 = .ok (.ireturn, 1) := dk_172 (dk_at dksX3_hundredths_2 20 rfl rfl)
abbrev cX3_endOf : ByteArray := prog_5_method_6_code
def yX3_endOf : MethodName := ⟨RX3, "endOf", "(I)I"⟩
def dkwX3_endOf_1 : List UInt8 := [192, 0, 22, 180, 0, 72, 167, 0, 5, 18, 81, 172]
abbrev dktX3_endOf_1 : List UInt8 := dkwX3_endOf_1 ++ []
def dkwX3_endOf_0 : List UInt8 := [27, 4, 96, 42, 180, 0, 12, 182, 0, 64, 162, 0, 22, 42, 180, 0, 12, 27, 4, 96, 182, 0, 68]
abbrev dktX3_endOf_0 : List UInt8 := dkwX3_endOf_0 ++ dktX3_endOf_1
theorem dksX3_endOf_0 : cX3_endOf.data.toList.drop 0 = dktX3_endOf_0 := by decide +kernel
theorem dksX3_endOf_1 : cX3_endOf.data.toList.drop 23 = dktX3_endOf_1 := dk_seg dksX3_endOf_0 23 rfl rfl
theorem dX3_endOf_0 : decode cX3_endOf 0 = .ok (.iload_n 1, 1) := dk_27 (dk_at dksX3_endOf_0 0 rfl rfl)
theorem dX3_endOf_1 : decode cX3_endOf 1 = .ok (.iconst 1, 1) := dk_4 (dk_at dksX3_endOf_0 1 rfl rfl)
theorem dX3_endOf_2 : decode cX3_endOf 2 = .ok (.iadd, 1) := dk_96 (dk_at dksX3_endOf_0 2 rfl rfl)
theorem dX3_endOf_3 : decode cX3_endOf 3 = .ok (.aload_n 0, 1) := dk_42 (dk_at dksX3_endOf_0 3 rfl rfl)
theorem dX3_endOf_4 : decode cX3_endOf 4 = .ok (.getfield 12, 3) := dk_180 0 12 (dk_at dksX3_endOf_0 4 rfl rfl)
theorem dX3_endOf_7 : decode cX3_endOf 7 = .ok (.invokevirtual 64, 3) := dk_182 0 64 (dk_at dksX3_endOf_0 7 rfl rfl)
theorem dX3_endOf_10 : decode cX3_endOf 10 = .ok (.if_icmp .ge 22, 3) := dk_162 0 22 (dk_at dksX3_endOf_0 10 rfl rfl)
theorem dX3_endOf_13 : decode cX3_endOf 13 = .ok (.aload_n 0, 1) := dk_42 (dk_at dksX3_endOf_0 13 rfl rfl)
theorem dX3_endOf_14 : decode cX3_endOf 14 = .ok (.getfield 12, 3) := dk_180 0 12 (dk_at dksX3_endOf_0 14 rfl rfl)
theorem dX3_endOf_17 : decode cX3_endOf 17 = .ok (.iload_n 1, 1) := dk_27 (dk_at dksX3_endOf_0 17 rfl rfl)
theorem dX3_endOf_18 : decode cX3_endOf 18 = .ok (.iconst 1, 1) := dk_4 (dk_at dksX3_endOf_0 18 rfl rfl)
theorem dX3_endOf_19 : decode cX3_endOf 19 = .ok (.iadd, 1) := dk_96 (dk_at dksX3_endOf_0 19 rfl rfl)
theorem dX3_endOf_20 : decode cX3_endOf 20 = .ok (.invokevirtual 68, 3) := dk_182 0 68 (dk_at dksX3_endOf_0 20 rfl rfl)
theorem dX3_endOf_23 : decode cX3_endOf 23 = .ok (.checkcast 22, 3) := dk_192 0 22 (dk_at dksX3_endOf_1 0 rfl rfl)
theorem dX3_endOf_26 : decode cX3_endOf 26 = .ok (.getfield 72, 3) := dk_180 0 72 (dk_at dksX3_endOf_1 3 rfl rfl)
theorem dX3_endOf_29 : decode cX3_endOf 29 = .ok (.goto 5, 3) := dk_167 0 5 (dk_at dksX3_endOf_1 6 rfl rfl)
theorem dX3_endOf_32 : decode cX3_endOf 32 = .ok (.ldc 81, 2) := dk_18 81 (dk_at dksX3_endOf_1 9 rfl rfl)
theorem dX3_endOf_34 : decode cX3_endOf 34 = .ok (.ireturn, 1) := dk_172 (dk_at dksX3_endOf_1 11 rfl rfl)
abbrev cX3_creditFor : ByteArray := prog_5_method_9_code
def yX3_creditFor : MethodName := ⟨RX3, "creditFor", "(I)I"⟩
def dkwX3_creditFor_1 : List UInt8 := [28, 100, 184, 0, 91, 172]
abbrev dktX3_creditFor_1 : List UInt8 := dkwX3_creditFor_1 ++ []
def dkwX3_creditFor_0 : List UInt8 := [42, 180, 0, 61, 3, 27, 42, 180, 0, 58, 100, 184, 0, 91, 104, 61, 3, 16, 100, 42, 180, 0, 54, 104]
abbrev dktX3_creditFor_0 : List UInt8 := dkwX3_creditFor_0 ++ dktX3_creditFor_1
theorem dksX3_creditFor_0 : cX3_creditFor.data.toList.drop 0 = dktX3_creditFor_0 := by decide +kernel
theorem dksX3_creditFor_1 : cX3_creditFor.data.toList.drop 24 = dktX3_creditFor_1 := dk_seg dksX3_creditFor_0 24 rfl rfl
theorem dX3_creditFor_0 : decode cX3_creditFor 0 = .ok (.aload_n 0, 1) := dk_42 (dk_at dksX3_creditFor_0 0 rfl rfl)
theorem dX3_creditFor_1 : decode cX3_creditFor 1 = .ok (.getfield 61, 3) := dk_180 0 61 (dk_at dksX3_creditFor_0 1 rfl rfl)
theorem dX3_creditFor_4 : decode cX3_creditFor 4 = .ok (.iconst 0, 1) := dk_3 (dk_at dksX3_creditFor_0 4 rfl rfl)
theorem dX3_creditFor_5 : decode cX3_creditFor 5 = .ok (.iload_n 1, 1) := dk_27 (dk_at dksX3_creditFor_0 5 rfl rfl)
theorem dX3_creditFor_6 : decode cX3_creditFor 6 = .ok (.aload_n 0, 1) := dk_42 (dk_at dksX3_creditFor_0 6 rfl rfl)
theorem dX3_creditFor_7 : decode cX3_creditFor 7 = .ok (.getfield 58, 3) := dk_180 0 58 (dk_at dksX3_creditFor_0 7 rfl rfl)
theorem dX3_creditFor_10 : decode cX3_creditFor 10 = .ok (.isub, 1) := dk_100 (dk_at dksX3_creditFor_0 10 rfl rfl)
theorem dX3_creditFor_11 : decode cX3_creditFor 11 = .ok (.invokestatic 91, 3) := dk_184 0 91 (dk_at dksX3_creditFor_0 11 rfl rfl)
theorem dX3_creditFor_14 : decode cX3_creditFor 14 = .ok (.imul, 1) := dk_104 (dk_at dksX3_creditFor_0 14 rfl rfl)
theorem dX3_creditFor_15 : decode cX3_creditFor 15 = .ok (.istore_n 2, 1) := dk_61 (dk_at dksX3_creditFor_0 15 rfl rfl)
theorem dX3_creditFor_16 : decode cX3_creditFor 16 = .ok (.iconst 0, 1) := dk_3 (dk_at dksX3_creditFor_0 16 rfl rfl)
theorem dX3_creditFor_17 : decode cX3_creditFor 17 = .ok (.bipush 100, 2) := dk_16 100 (dk_at dksX3_creditFor_0 17 rfl rfl)
theorem dX3_creditFor_19 : decode cX3_creditFor 19 = .ok (.aload_n 0, 1) := dk_42 (dk_at dksX3_creditFor_0 19 rfl rfl)
theorem dX3_creditFor_20 : decode cX3_creditFor 20 = .ok (.getfield 54, 3) := dk_180 0 54 (dk_at dksX3_creditFor_0 20 rfl rfl)
theorem dX3_creditFor_23 : decode cX3_creditFor 23 = .ok (.imul, 1) := dk_104 (dk_at dksX3_creditFor_0 23 rfl rfl)
theorem dX3_creditFor_24 : decode cX3_creditFor 24 = .ok (.iload_n 2, 1) := dk_28 (dk_at dksX3_creditFor_1 0 rfl rfl)
theorem dX3_creditFor_25 : decode cX3_creditFor 25 = .ok (.isub, 1) := dk_100 (dk_at dksX3_creditFor_1 1 rfl rfl)
theorem dX3_creditFor_26 : decode cX3_creditFor 26 = .ok (.invokestatic 91, 3) := dk_184 0 91 (dk_at dksX3_creditFor_1 2 rfl rfl)
theorem dX3_creditFor_29 : decode cX3_creditFor 29 = .ok (.ireturn, 1) := dk_172 (dk_at dksX3_creditFor_1 5 rfl rfl)
abbrev cX3_line : ByteArray := prog_5_method_10_code
def yX3_line : MethodName := ⟨RX3, "line", "()Ljava/lang/String;"⟩
def dkwX3_line_3 : List UInt8 := [182, 0, 111, 87, 167, 255, 199, 43, 182, 0, 117, 176]
abbrev dktX3_line_3 : List UInt8 := dkwX3_line_3 ++ []
def dkwX3_line_2 : List UInt8 := [167, 0, 5, 18, 105, 182, 0, 107, 45, 180, 0, 72, 182, 0, 111, 16, 58, 182, 0, 114, 45, 180, 0, 94]
abbrev dktX3_line_2 : List UInt8 := dkwX3_line_2 ++ dktX3_line_3
def dkwX3_line_1 : List UInt8 := [153, 0, 54, 44, 185, 0, 41, 1, 0, 192, 0, 22, 78, 43, 43, 182, 0, 100, 154, 0, 8, 18, 103]
abbrev dktX3_line_1 : List UInt8 := dkwX3_line_1 ++ dktX3_line_2
def dkwX3_line_0 : List UInt8 := [187, 0, 97, 89, 183, 0, 99, 76, 42, 180, 0, 12, 182, 0, 31, 77, 44, 185, 0, 35, 1, 0]
abbrev dktX3_line_0 : List UInt8 := dkwX3_line_0 ++ dktX3_line_1
theorem dksX3_line_0 : cX3_line.data.toList.drop 0 = dktX3_line_0 := by decide +kernel
theorem dksX3_line_1 : cX3_line.data.toList.drop 22 = dktX3_line_1 := dk_seg dksX3_line_0 22 rfl rfl
theorem dksX3_line_2 : cX3_line.data.toList.drop 45 = dktX3_line_2 := dk_seg dksX3_line_1 23 rfl rfl
theorem dksX3_line_3 : cX3_line.data.toList.drop 69 = dktX3_line_3 := dk_seg dksX3_line_2 24 rfl rfl
theorem dX3_line_0 : decode cX3_line 0 = .ok (.new 97, 3) := dk_187 0 97 (dk_at dksX3_line_0 0 rfl rfl)
theorem dX3_line_3 : decode cX3_line 3 = .ok (.dup, 1) := dk_89 (dk_at dksX3_line_0 3 rfl rfl)
theorem dX3_line_4 : decode cX3_line 4 = .ok (.invokespecial 99, 3) := dk_183 0 99 (dk_at dksX3_line_0 4 rfl rfl)
theorem dX3_line_7 : decode cX3_line 7 = .ok (.astore_n 1, 1) := dk_76 (dk_at dksX3_line_0 7 rfl rfl)
theorem dX3_line_8 : decode cX3_line 8 = .ok (.aload_n 0, 1) := dk_42 (dk_at dksX3_line_0 8 rfl rfl)
theorem dX3_line_9 : decode cX3_line 9 = .ok (.getfield 12, 3) := dk_180 0 12 (dk_at dksX3_line_0 9 rfl rfl)
theorem dX3_line_12 : decode cX3_line 12 = .ok (.invokevirtual 31, 3) := dk_182 0 31 (dk_at dksX3_line_0 12 rfl rfl)
theorem dX3_line_15 : decode cX3_line 15 = .ok (.astore_n 2, 1) := dk_77 (dk_at dksX3_line_0 15 rfl rfl)
theorem dX3_line_16 : decode cX3_line 16 = .ok (.aload_n 2, 1) := dk_44 (dk_at dksX3_line_0 16 rfl rfl)
theorem dX3_line_17 : decode cX3_line 17 = .ok (.invokeinterface 35 1, 5) := by decide +kernel
theorem dX3_line_22 : decode cX3_line 22 = .ok (.ifCond .eq 54, 3) := dk_153 0 54 (dk_at dksX3_line_1 0 rfl rfl)
theorem dX3_line_25 : decode cX3_line 25 = .ok (.aload_n 2, 1) := dk_44 (dk_at dksX3_line_1 3 rfl rfl)
theorem dX3_line_26 : decode cX3_line 26 = .ok (.invokeinterface 41 1, 5) := by decide +kernel
theorem dX3_line_31 : decode cX3_line 31 = .ok (.checkcast 22, 3) := dk_192 0 22 (dk_at dksX3_line_1 9 rfl rfl)
theorem dX3_line_34 : decode cX3_line 34 = .ok (.astore_n 3, 1) := dk_78 (dk_at dksX3_line_1 12 rfl rfl)
theorem dX3_line_35 : decode cX3_line 35 = .ok (.aload_n 1, 1) := dk_43 (dk_at dksX3_line_1 13 rfl rfl)
theorem dX3_line_36 : decode cX3_line 36 = .ok (.aload_n 1, 1) := dk_43 (dk_at dksX3_line_1 14 rfl rfl)
theorem dX3_line_37 : decode cX3_line 37 = .ok (.invokevirtual 100, 3) := dk_182 0 100 (dk_at dksX3_line_1 15 rfl rfl)
theorem dX3_line_40 : decode cX3_line 40 = .ok (.ifCond .ne 8, 3) := dk_154 0 8 (dk_at dksX3_line_1 18 rfl rfl)
theorem dX3_line_43 : decode cX3_line 43 = .ok (.ldc 103, 2) := dk_18 103 (dk_at dksX3_line_1 21 rfl rfl)
theorem dX3_line_45 : decode cX3_line 45 = .ok (.goto 5, 3) := dk_167 0 5 (dk_at dksX3_line_2 0 rfl rfl)
theorem dX3_line_48 : decode cX3_line 48 = .ok (.ldc 105, 2) := dk_18 105 (dk_at dksX3_line_2 3 rfl rfl)
theorem dX3_line_50 : decode cX3_line 50 = .ok (.invokevirtual 107, 3) := dk_182 0 107 (dk_at dksX3_line_2 5 rfl rfl)
theorem dX3_line_53 : decode cX3_line 53 = .ok (.aload_n 3, 1) := dk_45 (dk_at dksX3_line_2 8 rfl rfl)
theorem dX3_line_54 : decode cX3_line 54 = .ok (.getfield 72, 3) := dk_180 0 72 (dk_at dksX3_line_2 9 rfl rfl)
theorem dX3_line_57 : decode cX3_line 57 = .ok (.invokevirtual 111, 3) := dk_182 0 111 (dk_at dksX3_line_2 12 rfl rfl)
theorem dX3_line_60 : decode cX3_line 60 = .ok (.bipush 58, 2) := dk_16 58 (dk_at dksX3_line_2 15 rfl rfl)
theorem dX3_line_62 : decode cX3_line 62 = .ok (.invokevirtual 114, 3) := dk_182 0 114 (dk_at dksX3_line_2 17 rfl rfl)
theorem dX3_line_65 : decode cX3_line 65 = .ok (.aload_n 3, 1) := dk_45 (dk_at dksX3_line_2 20 rfl rfl)
theorem dX3_line_66 : decode cX3_line 66 = .ok (.getfield 94, 3) := dk_180 0 94 (dk_at dksX3_line_2 21 rfl rfl)
theorem dX3_line_69 : decode cX3_line 69 = .ok (.invokevirtual 111, 3) := dk_182 0 111 (dk_at dksX3_line_3 0 rfl rfl)
theorem dX3_line_72 : decode cX3_line 72 = .ok (.pop, 1) := dk_87 (dk_at dksX3_line_3 3 rfl rfl)
theorem dX3_line_73 : decode cX3_line 73 = .ok (.goto (-57), 3) := dk_167 255 199 (dk_at dksX3_line_3 4 rfl rfl)
theorem dX3_line_76 : decode cX3_line 76 = .ok (.aload_n 1, 1) := dk_43 (dk_at dksX3_line_3 7 rfl rfl)
theorem dX3_line_77 : decode cX3_line 77 = .ok (.invokevirtual 117, 3) := dk_182 0 117 (dk_at dksX3_line_3 8 rfl rfl)
theorem dX3_line_80 : decode cX3_line 80 = .ok (.areturn, 1) := dk_176 (dk_at dksX3_line_3 11 rfl rfl)
abbrev cX3_hundredthsAgain : ByteArray := prog_5_method_8_code
def yX3_hundredthsAgain : MethodName := ⟨RX3, "hundredthsAgain", "(I)I"⟩
def dkwX3_hundredthsAgain_2 : List UInt8 := [132, 4, 1, 167, 255, 212, 28, 172]
abbrev dktX3_hundredthsAgain_2 : List UInt8 := dkwX3_hundredthsAgain_2 ++ []
def dkwX3_hundredthsAgain_1 : List UInt8 := [4, 167, 0, 4, 3, 96, 62, 28, 42, 180, 0, 12, 29, 182, 0, 68, 192, 0, 22, 180, 0, 94, 96, 61]
abbrev dktX3_hundredthsAgain_1 : List UInt8 := dkwX3_hundredthsAgain_1 ++ dktX3_hundredthsAgain_2
def dkwX3_hundredthsAgain_0 : List UInt8 := [3, 61, 3, 62, 4, 54, 4, 21, 4, 27, 163, 0, 44, 29, 21, 4, 42, 29, 182, 0, 82, 164, 0, 7]
abbrev dktX3_hundredthsAgain_0 : List UInt8 := dkwX3_hundredthsAgain_0 ++ dktX3_hundredthsAgain_1
theorem dksX3_hundredthsAgain_0 : cX3_hundredthsAgain.data.toList.drop 0 = dktX3_hundredthsAgain_0 := by decide +kernel
theorem dksX3_hundredthsAgain_1 : cX3_hundredthsAgain.data.toList.drop 24 = dktX3_hundredthsAgain_1 := dk_seg dksX3_hundredthsAgain_0 24 rfl rfl
theorem dksX3_hundredthsAgain_2 : cX3_hundredthsAgain.data.toList.drop 48 = dktX3_hundredthsAgain_2 := dk_seg dksX3_hundredthsAgain_1 24 rfl rfl
theorem dX3_hundredthsAgain_0 : decode cX3_hundredthsAgain 0 = .ok (.iconst 0, 1) := dk_3 (dk_at dksX3_hundredthsAgain_0 0 rfl rfl)
theorem dX3_hundredthsAgain_1 : decode cX3_hundredthsAgain 1 = .ok (.istore_n 2, 1) := dk_61 (dk_at dksX3_hundredthsAgain_0 1 rfl rfl)
theorem dX3_hundredthsAgain_2 : decode cX3_hundredthsAgain 2 = .ok (.iconst 0, 1) := dk_3 (dk_at dksX3_hundredthsAgain_0 2 rfl rfl)
theorem dX3_hundredthsAgain_3 : decode cX3_hundredthsAgain 3 = .ok (.istore_n 3, 1) := dk_62 (dk_at dksX3_hundredthsAgain_0 3 rfl rfl)
theorem dX3_hundredthsAgain_4 : decode cX3_hundredthsAgain 4 = .ok (.iconst 1, 1) := dk_4 (dk_at dksX3_hundredthsAgain_0 4 rfl rfl)
theorem dX3_hundredthsAgain_5 : decode cX3_hundredthsAgain 5 = .ok (.istore 4, 2) := dk_54 4 (dk_at dksX3_hundredthsAgain_0 5 rfl rfl)
theorem dX3_hundredthsAgain_7 : decode cX3_hundredthsAgain 7 = .ok (.iload 4, 2) := dk_21 4 (dk_at dksX3_hundredthsAgain_0 7 rfl rfl)
theorem dX3_hundredthsAgain_9 : decode cX3_hundredthsAgain 9 = .ok (.iload_n 1, 1) := dk_27 (dk_at dksX3_hundredthsAgain_0 9 rfl rfl)
theorem dX3_hundredthsAgain_10 : decode cX3_hundredthsAgain 10 = .ok (.if_icmp .gt 44, 3) := dk_163 0 44 (dk_at dksX3_hundredthsAgain_0 10 rfl rfl)
theorem dX3_hundredthsAgain_13 : decode cX3_hundredthsAgain 13 = .ok (.iload_n 3, 1) := dk_29 (dk_at dksX3_hundredthsAgain_0 13 rfl rfl)
theorem dX3_hundredthsAgain_14 : decode cX3_hundredthsAgain 14 = .ok (.iload 4, 2) := dk_21 4 (dk_at dksX3_hundredthsAgain_0 14 rfl rfl)
theorem dX3_hundredthsAgain_16 : decode cX3_hundredthsAgain 16 = .ok (.aload_n 0, 1) := dk_42 (dk_at dksX3_hundredthsAgain_0 16 rfl rfl)
theorem dX3_hundredthsAgain_17 : decode cX3_hundredthsAgain 17 = .ok (.iload_n 3, 1) := dk_29 (dk_at dksX3_hundredthsAgain_0 17 rfl rfl)
theorem dX3_hundredthsAgain_18 : decode cX3_hundredthsAgain 18 = .ok (.invokevirtual 82, 3) := dk_182 0 82 (dk_at dksX3_hundredthsAgain_0 18 rfl rfl)
theorem dX3_hundredthsAgain_21 : decode cX3_hundredthsAgain 21 = .ok (.if_icmp .le 7, 3) := dk_164 0 7 (dk_at dksX3_hundredthsAgain_0 21 rfl rfl)
theorem dX3_hundredthsAgain_24 : decode cX3_hundredthsAgain 24 = .ok (.iconst 1, 1) := dk_4 (dk_at dksX3_hundredthsAgain_1 0 rfl rfl)
theorem dX3_hundredthsAgain_25 : decode cX3_hundredthsAgain 25 = .ok (.goto 4, 3) := dk_167 0 4 (dk_at dksX3_hundredthsAgain_1 1 rfl rfl)
theorem dX3_hundredthsAgain_28 : decode cX3_hundredthsAgain 28 = .ok (.iconst 0, 1) := dk_3 (dk_at dksX3_hundredthsAgain_1 4 rfl rfl)
theorem dX3_hundredthsAgain_29 : decode cX3_hundredthsAgain 29 = .ok (.iadd, 1) := dk_96 (dk_at dksX3_hundredthsAgain_1 5 rfl rfl)
theorem dX3_hundredthsAgain_30 : decode cX3_hundredthsAgain 30 = .ok (.istore_n 3, 1) := dk_62 (dk_at dksX3_hundredthsAgain_1 6 rfl rfl)
theorem dX3_hundredthsAgain_31 : decode cX3_hundredthsAgain 31 = .ok (.iload_n 2, 1) := dk_28 (dk_at dksX3_hundredthsAgain_1 7 rfl rfl)
theorem dX3_hundredthsAgain_32 : decode cX3_hundredthsAgain 32 = .ok (.aload_n 0, 1) := dk_42 (dk_at dksX3_hundredthsAgain_1 8 rfl rfl)
theorem dX3_hundredthsAgain_33 : decode cX3_hundredthsAgain 33 = .ok (.getfield 12, 3) := dk_180 0 12 (dk_at dksX3_hundredthsAgain_1 9 rfl rfl)
theorem dX3_hundredthsAgain_36 : decode cX3_hundredthsAgain 36 = .ok (.iload_n 3, 1) := dk_29 (dk_at dksX3_hundredthsAgain_1 12 rfl rfl)
theorem dX3_hundredthsAgain_37 : decode cX3_hundredthsAgain 37 = .ok (.invokevirtual 68, 3) := dk_182 0 68 (dk_at dksX3_hundredthsAgain_1 13 rfl rfl)
theorem dX3_hundredthsAgain_40 : decode cX3_hundredthsAgain 40 = .ok (.checkcast 22, 3) := dk_192 0 22 (dk_at dksX3_hundredthsAgain_1 16 rfl rfl)
theorem dX3_hundredthsAgain_43 : decode cX3_hundredthsAgain 43 = .ok (.getfield 94, 3) := dk_180 0 94 (dk_at dksX3_hundredthsAgain_1 19 rfl rfl)
theorem dX3_hundredthsAgain_46 : decode cX3_hundredthsAgain 46 = .ok (.iadd, 1) := dk_96 (dk_at dksX3_hundredthsAgain_1 22 rfl rfl)
theorem dX3_hundredthsAgain_47 : decode cX3_hundredthsAgain 47 = .ok (.istore_n 2, 1) := dk_61 (dk_at dksX3_hundredthsAgain_1 23 rfl rfl)
theorem dX3_hundredthsAgain_48 : decode cX3_hundredthsAgain 48 = .ok (.iinc 4 1, 3) := dk_132 4 1 (dk_at dksX3_hundredthsAgain_2 0 rfl rfl)
theorem dX3_hundredthsAgain_51 : decode cX3_hundredthsAgain 51 = .ok (.goto (-44), 3) := dk_167 255 212 (dk_at dksX3_hundredthsAgain_2 3 rfl rfl)
theorem dX3_hundredthsAgain_54 : decode cX3_hundredthsAgain 54 = .ok (.iload_n 2, 1) := dk_28 (dk_at dksX3_hundredthsAgain_2 6 rfl rfl)
theorem dX3_hundredthsAgain_55 : decode cX3_hundredthsAgain 55 = .ok (.ireturn, 1) := dk_172 (dk_at dksX3_hundredthsAgain_2 7 rfl rfl)
abbrev cX3_bracketAt : ByteArray := prog_5_method_5_code
def yX3_bracketAt : MethodName := ⟨RX3, "bracketAt", "(I)I"⟩
def dkwX3_bracketAt_0 : List UInt8 := [42, 27, 4, 100, 182, 0, 75, 4, 100, 172]
abbrev dktX3_bracketAt_0 : List UInt8 := dkwX3_bracketAt_0 ++ []
theorem dksX3_bracketAt_0 : cX3_bracketAt.data.toList.drop 0 = dktX3_bracketAt_0 := by decide +kernel
theorem dX3_bracketAt_0 : decode cX3_bracketAt 0 = .ok (.aload_n 0, 1) := dk_42 (dk_at dksX3_bracketAt_0 0 rfl rfl)
theorem dX3_bracketAt_1 : decode cX3_bracketAt 1 = .ok (.iload_n 1, 1) := dk_27 (dk_at dksX3_bracketAt_0 1 rfl rfl)
theorem dX3_bracketAt_2 : decode cX3_bracketAt 2 = .ok (.iconst 1, 1) := dk_4 (dk_at dksX3_bracketAt_0 2 rfl rfl)
theorem dX3_bracketAt_3 : decode cX3_bracketAt 3 = .ok (.isub, 1) := dk_100 (dk_at dksX3_bracketAt_0 3 rfl rfl)
theorem dX3_bracketAt_4 : decode cX3_bracketAt 4 = .ok (.invokevirtual 75, 3) := dk_182 0 75 (dk_at dksX3_bracketAt_0 4 rfl rfl)
theorem dX3_bracketAt_7 : decode cX3_bracketAt 7 = .ok (.iconst 1, 1) := dk_4 (dk_at dksX3_bracketAt_0 7 rfl rfl)
theorem dX3_bracketAt_8 : decode cX3_bracketAt 8 = .ok (.isub, 1) := dk_100 (dk_at dksX3_bracketAt_0 8 rfl rfl)
theorem dX3_bracketAt_9 : decode cX3_bracketAt 9 = .ok (.ireturn, 1) := dk_172 (dk_at dksX3_bracketAt_0 9 rfl rfl)
theorem q96 : (Jvm.Cond.initialized "CoinTaxes$Law") ∈ lw_all := lw_g (lw_at lw_m1 6 rfl) rfl
theorem q189 : (Jvm.Cond.instantiable "CoinTaxes$Law" (5 : Nat)) ∈ lw_all := lw_g (lw_at lw_m1 99 rfl) rfl
theorem q191 : (Jvm.Cond.instanceMethod ({ cls := "CoinTaxes$Law", name := "<init>", desc := "()V" } : Jvm.MethodName)) ∈ lw_all := lw_g (lw_at lw_m1 101 rfl) rfl
theorem q192 : (Jvm.Cond.code ({ cls := "CoinTaxes$Law", name := "<init>", desc := "()V" } : Jvm.MethodName) prog_5_method_1_code (2 : Nat) (Option.none : Option Jvm.ClassFile.FieldType)) ∈ lw_all := lw_g (lw_at lw_m1 102 rfl) rfl
theorem q193 : (Jvm.Cond.methodLink "CoinTaxes$Law" (3 : Nat) ({ cls := "java/lang/Object", name := "<init>", desc := "()V" } : Jvm.MethodName)) ∈ lw_all := lw_g (lw_at lw_m1 103 rfl) rfl
theorem q194 : (Jvm.Cond.classLink "CoinTaxes$Law" (9 : Nat) "java/util/LinkedList") ∈ lw_all := lw_g (lw_at lw_m1 104 rfl) rfl
theorem q196 : (Jvm.Cond.methodLink "CoinTaxes$Law" (11 : Nat) ({ cls := "java/util/LinkedList", name := "<init>", desc := "()V" } : Jvm.MethodName)) ∈ lw_all := lw_g (lw_at lw_m1 106 rfl) rfl
theorem q215 : (Jvm.Cond.classLink "CoinTaxes$Law" (22 : Nat) "CoinTaxes$Bracket") ∈ lw_all := lw_g (lw_at lw_m1 125 rfl) rfl
theorem q217 : (Jvm.Cond.methodLink "CoinTaxes$Law" (24 : Nat) ({ cls := "CoinTaxes$Bracket", name := "<init>", desc := "(II)V" } : Jvm.MethodName)) ∈ lw_all := lw_g (lw_at lw_m1 127 rfl) rfl
theorem q222 : (Jvm.Cond.fieldLinkNest "CoinTaxes$Law" (72 : Nat) "CoinTaxes$Bracket" "edge" "I" "CoinTaxes") ∈ lw_tbl := lw_at lw_m1 132 rfl
theorem q227 : (Jvm.Cond.fieldLinkNest "CoinTaxes$Law" (94 : Nat) "CoinTaxes$Bracket" "rate" "I" "CoinTaxes") ∈ lw_tbl := lw_at lw_m1 137 rfl
theorem q235 : (Jvm.Cond.methodLink "CoinTaxes$Law" (27 : Nat) ({ cls := "java/util/LinkedList", name := "add", desc := "(Ljava/lang/Object;)Z" } : Jvm.MethodName)) ∈ lw_all := lw_g (lw_at lw_m1 145 rfl) rfl
theorem q264 : (Jvm.Cond.fieldLink "CoinTaxes$Law" (12 : Nat) "CoinTaxes$Law" "brackets" "Ljava/util/LinkedList;") ∈ lw_all := lw_g (lw_at lw_m1 174 rfl) rfl
theorem q267 : (Jvm.Cond.fieldLink "CoinTaxes$Law" (18 : Nat) "CoinTaxes$Law" "caps" "[I") ∈ lw_all := lw_g (lw_at lw_m1 177 rfl) rfl
theorem q270 : (Jvm.Cond.fieldLink "CoinTaxes$Law" (54 : Nat) "CoinTaxes$Law" "credit" "I") ∈ lw_all := lw_g (lw_at lw_m1 180 rfl) rfl
theorem q273 : (Jvm.Cond.fieldLink "CoinTaxes$Law" (58 : Nat) "CoinTaxes$Law" "from" "I") ∈ lw_all := lw_g (lw_at lw_m1 183 rfl) rfl
theorem q276 : (Jvm.Cond.fieldLink "CoinTaxes$Law" (61 : Nat) "CoinTaxes$Law" "slope" "I") ∈ lw_all := lw_g (lw_at lw_m1 186 rfl) rfl
theorem q279 : (Jvm.Cond.laysFinal "CoinTaxes$Law" "CoinTaxes$Law" "brackets" "Ljava/util/LinkedList;") ∈ lw_all := lw_g (lw_at lw_m1 189 rfl) rfl
theorem q280 : (Jvm.Cond.soleField "CoinTaxes$Law" "brackets") ∈ lw_all := lw_g (lw_at lw_m1 190 rfl) rfl
theorem q281 : (Jvm.Cond.laysFinal "CoinTaxes$Law" "CoinTaxes$Law" "caps" "[I") ∈ lw_all := lw_g (lw_at lw_m1 191 rfl) rfl
theorem q282 : (Jvm.Cond.soleField "CoinTaxes$Law" "caps") ∈ lw_all := lw_g (lw_at lw_m1 192 rfl) rfl
theorem q283 : (Jvm.Cond.lays "CoinTaxes$Law" "CoinTaxes$Law" "credit" "I") ∈ lw_all := lw_g (lw_at lw_m1 193 rfl) rfl
theorem q284 : (Jvm.Cond.soleField "CoinTaxes$Law" "credit") ∈ lw_all := lw_g (lw_at lw_m1 194 rfl) rfl
theorem q285 : (Jvm.Cond.lays "CoinTaxes$Law" "CoinTaxes$Law" "from" "I") ∈ lw_all := lw_g (lw_at lw_m1 195 rfl) rfl
theorem q286 : (Jvm.Cond.soleField "CoinTaxes$Law" "from") ∈ lw_all := lw_g (lw_at lw_m1 196 rfl) rfl
theorem q287 : (Jvm.Cond.lays "CoinTaxes$Law" "CoinTaxes$Law" "slope" "I") ∈ lw_all := lw_g (lw_at lw_m1 197 rfl) rfl
theorem q288 : (Jvm.Cond.soleField "CoinTaxes$Law" "slope") ∈ lw_all := lw_g (lw_at lw_m1 198 rfl) rfl
theorem q289 : (Jvm.Cond.superclass "CoinTaxes$Law" "java/lang/Object") ∈ lw_all := lw_g (lw_at lw_m1 199 rfl) rfl
theorem q434 : (Jvm.Cond.instanceMethod ({ cls := "CoinTaxes$Law", name := "<init>", desc := "(LCoinTaxes$Law;)V" } : Jvm.MethodName)) ∈ lw_all := lw_g (lw_at lw_m2 104 rfl) rfl
theorem q435 : (Jvm.Cond.code ({ cls := "CoinTaxes$Law", name := "<init>", desc := "(LCoinTaxes$Law;)V" } : Jvm.MethodName) prog_5_method_2_code (4 : Nat) (Option.none : Option Jvm.ClassFile.FieldType)) ∈ lw_all := lw_g (lw_at lw_m2 105 rfl) rfl
theorem q436 : (Jvm.Cond.methodLink "CoinTaxes$Law" (31 : Nat) ({ cls := "java/util/LinkedList", name := "iterator", desc := "()Ljava/util/Iterator;" } : Jvm.MethodName)) ∈ lw_all := lw_g (lw_at lw_m2 106 rfl) rfl
theorem q845 : (Jvm.Cond.interfaceEntry "CoinTaxes$Law" (35 : Nat)) ∈ lw_tbl := lw_at lw_m4 35 rfl
theorem q846 : (Jvm.Cond.methodLink "CoinTaxes$Law" (35 : Nat) ({ cls := "java/util/Iterator", name := "hasNext", desc := "()Z" } : Jvm.MethodName)) ∈ lw_all := lw_g (lw_at lw_m4 36 rfl) rfl
theorem q885 : (Jvm.Cond.interfaceEntry "CoinTaxes$Law" (41 : Nat)) ∈ lw_tbl := lw_at lw_m4 75 rfl
theorem q886 : (Jvm.Cond.methodLink "CoinTaxes$Law" (41 : Nat) ({ cls := "java/util/Iterator", name := "next", desc := "()Ljava/lang/Object;" } : Jvm.MethodName)) ∈ lw_all := lw_g (lw_at lw_m4 76 rfl) rfl
theorem q969 : (Jvm.Cond.selects "CoinTaxes$Law" ({ cls := "java/lang/Object", name := "getClass", desc := "()Ljava/lang/Class;" } : Jvm.MethodName) ({ cls := "java/lang/Object", name := "getClass", desc := "()Ljava/lang/Class;" } : Jvm.MethodName)) ∈ lw_all := lw_g (lw_at lw_m4 159 rfl) rfl
theorem q1082 : (Jvm.Cond.methodLink "CoinTaxes$Law" (45 : Nat) ({ cls := "CoinTaxes$Bracket", name := "<init>", desc := "(LCoinTaxes$Bracket;)V" } : Jvm.MethodName)) ∈ lw_all := lw_g (lw_at lw_m5 32 rfl) rfl
theorem q1086 : (Jvm.Cond.methodLink "CoinTaxes$Law" (48 : Nat) ({ cls := "java/lang/System", name := "arraycopy", desc := "(Ljava/lang/Object;ILjava/lang/Object;II)V" } : Jvm.MethodName)) ∈ lw_all := lw_g (lw_at lw_m5 36 rfl) rfl
theorem q1485 : (Jvm.Cond.instanceMethod ({ cls := "CoinTaxes$Law", name := "withEdge", desc := "(I)I" } : Jvm.MethodName)) ∈ lw_all := lw_g (lw_at lw_m6 195 rfl) rfl
theorem q1486 : (Jvm.Cond.selects "CoinTaxes$Law" ({ cls := "CoinTaxes$Law", name := "withEdge", desc := "(I)I" } : Jvm.MethodName) ({ cls := "CoinTaxes$Law", name := "withEdge", desc := "(I)I" } : Jvm.MethodName)) ∈ lw_all := lw_g (lw_at lw_m6 196 rfl) rfl
theorem q1487 : (Jvm.Cond.code ({ cls := "CoinTaxes$Law", name := "withEdge", desc := "(I)I" } : Jvm.MethodName) prog_5_method_3_code (3 : Nat) (Option.some Jvm.ClassFile.FieldType.int)) ∈ lw_all := lw_g (lw_at lw_m6 197 rfl) rfl
theorem q1488 : (Jvm.Cond.methodLink "CoinTaxes$Law" (64 : Nat) ({ cls := "java/util/LinkedList", name := "size", desc := "()I" } : Jvm.MethodName)) ∈ lw_all := lw_g (lw_at lw_m6 198 rfl) rfl
theorem q1489 : (Jvm.Cond.methodLink "CoinTaxes$Law" (68 : Nat) ({ cls := "java/util/LinkedList", name := "get", desc := "(I)Ljava/lang/Object;" } : Jvm.MethodName)) ∈ lw_all := lw_g (lw_at lw_m6 199 rfl) rfl
theorem q1493 : (Jvm.Cond.instanceMethod ({ cls := "CoinTaxes$Law", name := "placeOf", desc := "(I)I" } : Jvm.MethodName)) ∈ lw_all := lw_g (lw_at lw_m6 203 rfl) rfl
theorem q1494 : (Jvm.Cond.selects "CoinTaxes$Law" ({ cls := "CoinTaxes$Law", name := "placeOf", desc := "(I)I" } : Jvm.MethodName) ({ cls := "CoinTaxes$Law", name := "placeOf", desc := "(I)I" } : Jvm.MethodName)) ∈ lw_all := lw_g (lw_at lw_m6 204 rfl) rfl
theorem q1495 : (Jvm.Cond.code ({ cls := "CoinTaxes$Law", name := "placeOf", desc := "(I)I" } : Jvm.MethodName) prog_5_method_4_code (3 : Nat) (Option.some Jvm.ClassFile.FieldType.int)) ∈ lw_all := lw_g (lw_at lw_m6 205 rfl) rfl
theorem q1663 : (Jvm.Cond.instanceMethod ({ cls := "CoinTaxes$Law", name := "hundredths", desc := "(I)I" } : Jvm.MethodName)) ∈ lw_all := lw_g (lw_at lw_m7 133 rfl) rfl
theorem q1664 : (Jvm.Cond.selects "CoinTaxes$Law" ({ cls := "CoinTaxes$Law", name := "hundredths", desc := "(I)I" } : Jvm.MethodName) ({ cls := "CoinTaxes$Law", name := "hundredths", desc := "(I)I" } : Jvm.MethodName)) ∈ lw_all := lw_g (lw_at lw_m7 134 rfl) rfl
theorem q1665 : (Jvm.Cond.code ({ cls := "CoinTaxes$Law", name := "hundredths", desc := "(I)I" } : Jvm.MethodName) prog_5_method_7_code (6 : Nat) (Option.some Jvm.ClassFile.FieldType.int)) ∈ lw_all := lw_g (lw_at lw_m7 135 rfl) rfl
theorem q1666 : (Jvm.Cond.methodLink "CoinTaxes$Law" (82 : Nat) ({ cls := "CoinTaxes$Law", name := "endOf", desc := "(I)I" } : Jvm.MethodName)) ∈ lw_all := lw_g (lw_at lw_m7 136 rfl) rfl
theorem q1667 : (Jvm.Cond.privateMethod ({ cls := "CoinTaxes$Law", name := "endOf", desc := "(I)I" } : Jvm.MethodName)) ∈ lw_tbl := lw_at lw_m7 137 rfl
theorem q1668 : (Jvm.Cond.instanceMethod ({ cls := "CoinTaxes$Law", name := "endOf", desc := "(I)I" } : Jvm.MethodName)) ∈ lw_all := lw_g (lw_at lw_m7 138 rfl) rfl
theorem q1669 : (Jvm.Cond.code ({ cls := "CoinTaxes$Law", name := "endOf", desc := "(I)I" } : Jvm.MethodName) prog_5_method_6_code (2 : Nat) (Option.some Jvm.ClassFile.FieldType.int)) ∈ lw_all := lw_g (lw_at lw_m7 139 rfl) rfl
theorem q1670 : (Jvm.Cond.constant "CoinTaxes$Law" (81 : Nat) (2147483647 : Int32)) ∈ lw_all := lw_g (lw_at lw_m7 140 rfl) rfl
theorem q1671 : (Jvm.Cond.methodLink "CoinTaxes$Law" (85 : Nat) ({ cls := "java/lang/Math", name := "min", desc := "(II)I" } : Jvm.MethodName)) ∈ lw_all := lw_g (lw_at lw_m7 141 rfl) rfl
theorem q1672 : (Jvm.Cond.methodLink "CoinTaxes$Law" (91 : Nat) ({ cls := "java/lang/Math", name := "max", desc := "(II)I" } : Jvm.MethodName)) ∈ lw_all := lw_g (lw_at lw_m7 142 rfl) rfl
theorem q1674 : (Jvm.Cond.instanceMethod ({ cls := "CoinTaxes$Law", name := "creditFor", desc := "(I)I" } : Jvm.MethodName)) ∈ lw_all := lw_g (lw_at lw_m7 144 rfl) rfl
theorem q1675 : (Jvm.Cond.selects "CoinTaxes$Law" ({ cls := "CoinTaxes$Law", name := "creditFor", desc := "(I)I" } : Jvm.MethodName) ({ cls := "CoinTaxes$Law", name := "creditFor", desc := "(I)I" } : Jvm.MethodName)) ∈ lw_all := lw_g (lw_at lw_m7 145 rfl) rfl
theorem q1676 : (Jvm.Cond.code ({ cls := "CoinTaxes$Law", name := "creditFor", desc := "(I)I" } : Jvm.MethodName) prog_5_method_9_code (3 : Nat) (Option.some Jvm.ClassFile.FieldType.int)) ∈ lw_all := lw_g (lw_at lw_m7 146 rfl) rfl
theorem q1780 : (Jvm.Cond.instanceMethod ({ cls := "CoinTaxes$Law", name := "line", desc := "()Ljava/lang/String;" } : Jvm.MethodName)) ∈ lw_all := lw_g (lw_at lw_m8 10 rfl) rfl
theorem q1781 : (Jvm.Cond.selects "CoinTaxes$Law" ({ cls := "CoinTaxes$Law", name := "line", desc := "()Ljava/lang/String;" } : Jvm.MethodName) ({ cls := "CoinTaxes$Law", name := "line", desc := "()Ljava/lang/String;" } : Jvm.MethodName)) ∈ lw_all := lw_g (lw_at lw_m8 11 rfl) rfl
theorem q1782 : (Jvm.Cond.code ({ cls := "CoinTaxes$Law", name := "line", desc := "()Ljava/lang/String;" } : Jvm.MethodName) prog_5_method_10_code (4 : Nat) (Option.some (Jvm.ClassFile.FieldType.object "java/lang/String"))) ∈ lw_all := lw_g (lw_at lw_m8 12 rfl) rfl
theorem q1783 : (Jvm.Cond.classLink "CoinTaxes$Law" (97 : Nat) "java/lang/StringBuilder") ∈ lw_all := lw_g (lw_at lw_m8 13 rfl) rfl
theorem q1784 : (Jvm.Cond.methodLink "CoinTaxes$Law" (99 : Nat) ({ cls := "java/lang/StringBuilder", name := "<init>", desc := "()V" } : Jvm.MethodName)) ∈ lw_all := lw_g (lw_at lw_m8 14 rfl) rfl
theorem q1785 : (Jvm.Cond.methodLink "CoinTaxes$Law" (100 : Nat) ({ cls := "java/lang/StringBuilder", name := "length", desc := "()I" } : Jvm.MethodName)) ∈ lw_all := lw_g (lw_at lw_m8 15 rfl) rfl
theorem q1786 : (Jvm.Cond.stringRef "CoinTaxes$Law" (103 : Nat) "") ∈ lw_tbl := lw_at lw_m8 16 rfl
theorem q1787 : (Jvm.Cond.stringRef "CoinTaxes$Law" (105 : Nat) " ") ∈ lw_tbl := lw_at lw_m8 17 rfl
theorem q1788 : (Jvm.Cond.methodLink "CoinTaxes$Law" (107 : Nat) ({ cls := "java/lang/StringBuilder", name := "append", desc := "(Ljava/lang/String;)Ljava/lang/StringBuilder;" } : Jvm.MethodName)) ∈ lw_all := lw_g (lw_at lw_m8 18 rfl) rfl
theorem q1789 : (Jvm.Cond.methodLink "CoinTaxes$Law" (111 : Nat) ({ cls := "java/lang/StringBuilder", name := "append", desc := "(I)Ljava/lang/StringBuilder;" } : Jvm.MethodName)) ∈ lw_all := lw_g (lw_at lw_m8 19 rfl) rfl
theorem q1790 : (Jvm.Cond.methodLink "CoinTaxes$Law" (114 : Nat) ({ cls := "java/lang/StringBuilder", name := "append", desc := "(C)Ljava/lang/StringBuilder;" } : Jvm.MethodName)) ∈ lw_all := lw_g (lw_at lw_m8 20 rfl) rfl
theorem q1810 : (Jvm.Cond.methodLink "CoinTaxes$Law" (117 : Nat) ({ cls := "java/lang/StringBuilder", name := "toString", desc := "()Ljava/lang/String;" } : Jvm.MethodName)) ∈ lw_all := lw_g (lw_at lw_m8 40 rfl) rfl
theorem q1846 : (Jvm.Cond.instanceMethod ({ cls := "CoinTaxes$Law", name := "hundredthsAgain", desc := "(I)I" } : Jvm.MethodName)) ∈ lw_all := lw_g (lw_at lw_m8 76 rfl) rfl
theorem q1847 : (Jvm.Cond.selects "CoinTaxes$Law" ({ cls := "CoinTaxes$Law", name := "hundredthsAgain", desc := "(I)I" } : Jvm.MethodName) ({ cls := "CoinTaxes$Law", name := "hundredthsAgain", desc := "(I)I" } : Jvm.MethodName)) ∈ lw_all := lw_g (lw_at lw_m8 77 rfl) rfl
theorem q1848 : (Jvm.Cond.code ({ cls := "CoinTaxes$Law", name := "hundredthsAgain", desc := "(I)I" } : Jvm.MethodName) prog_5_method_8_code (5 : Nat) (Option.some Jvm.ClassFile.FieldType.int)) ∈ lw_all := lw_g (lw_at lw_m8 78 rfl) rfl
theorem q1978 : (Jvm.Cond.instanceMethod ({ cls := "CoinTaxes$Law", name := "bracketAt", desc := "(I)I" } : Jvm.MethodName)) ∈ lw_all := lw_g (lw_at lw_m8 208 rfl) rfl
theorem q1979 : (Jvm.Cond.selects "CoinTaxes$Law" ({ cls := "CoinTaxes$Law", name := "bracketAt", desc := "(I)I" } : Jvm.MethodName) ({ cls := "CoinTaxes$Law", name := "bracketAt", desc := "(I)I" } : Jvm.MethodName)) ∈ lw_all := lw_g (lw_at lw_m8 209 rfl) rfl
theorem q1980 : (Jvm.Cond.code ({ cls := "CoinTaxes$Law", name := "bracketAt", desc := "(I)I" } : Jvm.MethodName) prog_5_method_5_code (2 : Nat) (Option.some Jvm.ClassFile.FieldType.int)) ∈ lw_all := lw_g (lw_at lw_m8 210 rfl) rfl
theorem q1981 : (Jvm.Cond.methodLink "CoinTaxes$Law" (75 : Nat) ({ cls := "CoinTaxes$Law", name := "placeOf", desc := "(I)I" } : Jvm.MethodName)) ∈ lw_all := lw_g (lw_at lw_m8 211 rfl) rfl
theorem q3009 : (Jvm.Cond.castable "CoinTaxes$Law" "java/lang/Object") ∈ lw_tbl := lw_at lw_m13 39 rfl
theorem in_X3 : ∀ w ∈ wsX30, w ∈ lw_all := lw_in wsX30 [279, 281, 283, 285, 287] (by decide +kernel) (by decide +kernel)

/-! CoinTaxes$Bracket -/
set_option maxRecDepth 100000
def RX4 : String := "CoinTaxes$Bracket"
def TX4 : u_T := fun k => match k with
  | 0 => ("CoinTaxes$Bracket", "edge", "I", true)
  | _ => ("CoinTaxes$Bracket", "rate", "I", false)
def tyX4 : Nat → FieldType := fun k => match k with
  | 0 => .int
  | _ => .int
abbrev wsX40 : List Cond := u_ws RX4 TX4 2
theorem nmX4 : ∀ a, a < 2 → ∀ b, b < 2 → a ≠ b → (TX4 a).2.1 ≠ (TX4 b).2.1 := by decide +kernel
theorem tyX4_ok : ∀ k, k < 2 → parseFieldDescriptor (TX4 k).2.2.1 = some (tyX4 k) := by decide +kernel
abbrev cX4_init : ByteArray := prog_2_method_1_code
def yX4_init : MethodName := ⟨RX4, "<init>", "(II)V"⟩
def dkwX4_init_0 : List UInt8 := [42, 183, 0, 1, 42, 27, 181, 0, 7, 42, 28, 181, 0, 13, 177]
abbrev dktX4_init_0 : List UInt8 := dkwX4_init_0 ++ []
theorem dksX4_init_0 : cX4_init.data.toList.drop 0 = dktX4_init_0 := by decide +kernel
theorem dX4_init_0 : decode cX4_init 0 = .ok (.aload_n 0, 1) := dk_42 (dk_at dksX4_init_0 0 rfl rfl)
theorem dX4_init_1 : decode cX4_init 1 = .ok (.invokespecial 1, 3) := dk_183 0 1 (dk_at dksX4_init_0 1 rfl rfl)
theorem dX4_init_4 : decode cX4_init 4 = .ok (.aload_n 0, 1) := dk_42 (dk_at dksX4_init_0 4 rfl rfl)
theorem dX4_init_5 : decode cX4_init 5 = .ok (.iload_n 1, 1) := dk_27 (dk_at dksX4_init_0 5 rfl rfl)
theorem dX4_init_6 : decode cX4_init 6 = .ok (.putfield 7, 3) := dk_181 0 7 (dk_at dksX4_init_0 6 rfl rfl)
theorem dX4_init_9 : decode cX4_init 9 = .ok (.aload_n 0, 1) := dk_42 (dk_at dksX4_init_0 9 rfl rfl)
theorem dX4_init_10 : decode cX4_init 10 = .ok (.iload_n 2, 1) := dk_28 (dk_at dksX4_init_0 10 rfl rfl)
theorem dX4_init_11 : decode cX4_init 11 = .ok (.putfield 13, 3) := dk_181 0 13 (dk_at dksX4_init_0 11 rfl rfl)
theorem dX4_init_14 : decode cX4_init 14 = .ok (.return_, 1) := dk_177 (dk_at dksX4_init_0 14 rfl rfl)
abbrev cX4_init_2 : ByteArray := prog_2_method_2_code
def yX4_init_2 : MethodName := ⟨RX4, "<init>", "(LCoinTaxes$Bracket;)V"⟩
def dkwX4_init_2_0 : List UInt8 := [42, 43, 180, 0, 7, 43, 180, 0, 13, 183, 0, 16, 177]
abbrev dktX4_init_2_0 : List UInt8 := dkwX4_init_2_0 ++ []
theorem dksX4_init_2_0 : cX4_init_2.data.toList.drop 0 = dktX4_init_2_0 := by decide +kernel
theorem dX4_init_2_0 : decode cX4_init_2 0 = .ok (.aload_n 0, 1) := dk_42 (dk_at dksX4_init_2_0 0 rfl rfl)
theorem dX4_init_2_1 : decode cX4_init_2 1 = .ok (.aload_n 1, 1) := dk_43 (dk_at dksX4_init_2_0 1 rfl rfl)
theorem dX4_init_2_2 : decode cX4_init_2 2 = .ok (.getfield 7, 3) := dk_180 0 7 (dk_at dksX4_init_2_0 2 rfl rfl)
theorem dX4_init_2_5 : decode cX4_init_2 5 = .ok (.aload_n 1, 1) := dk_43 (dk_at dksX4_init_2_0 5 rfl rfl)
theorem dX4_init_2_6 : decode cX4_init_2 6 = .ok (.getfield 13, 3) := dk_180 0 13 (dk_at dksX4_init_2_0 6 rfl rfl)
theorem dX4_init_2_9 : decode cX4_init_2 9 = .ok (.invokespecial 16, 3) := dk_183 0 16 (dk_at dksX4_init_2_0 9 rfl rfl)
theorem dX4_init_2_12 : decode cX4_init_2 12 = .ok (.return_, 1) := dk_177 (dk_at dksX4_init_2_0 12 rfl rfl)
theorem q99 : (Jvm.Cond.initialized "CoinTaxes$Bracket") ∈ lw_all := lw_g (lw_at lw_m1 9 rfl) rfl
theorem q216 : (Jvm.Cond.instantiable "CoinTaxes$Bracket" (2 : Nat)) ∈ lw_all := lw_g (lw_at lw_m1 126 rfl) rfl
theorem q218 : (Jvm.Cond.instanceMethod ({ cls := "CoinTaxes$Bracket", name := "<init>", desc := "(II)V" } : Jvm.MethodName)) ∈ lw_all := lw_g (lw_at lw_m1 128 rfl) rfl
theorem q219 : (Jvm.Cond.code ({ cls := "CoinTaxes$Bracket", name := "<init>", desc := "(II)V" } : Jvm.MethodName) prog_2_method_1_code (3 : Nat) (Option.none : Option Jvm.ClassFile.FieldType)) ∈ lw_all := lw_g (lw_at lw_m1 129 rfl) rfl
theorem q220 : (Jvm.Cond.methodLink "CoinTaxes$Bracket" (1 : Nat) ({ cls := "java/lang/Object", name := "<init>", desc := "()V" } : Jvm.MethodName)) ∈ lw_all := lw_g (lw_at lw_m1 130 rfl) rfl
theorem q221 : (Jvm.Cond.fieldLink "CoinTaxes$Bracket" (7 : Nat) "CoinTaxes$Bracket" "edge" "I") ∈ lw_all := lw_g (lw_at lw_m1 131 rfl) rfl
theorem q225 : (Jvm.Cond.fieldLink "CoinTaxes$Bracket" (13 : Nat) "CoinTaxes$Bracket" "rate" "I") ∈ lw_all := lw_g (lw_at lw_m1 135 rfl) rfl
theorem q229 : (Jvm.Cond.laysFinal "CoinTaxes$Bracket" "CoinTaxes$Bracket" "edge" "I") ∈ lw_all := lw_g (lw_at lw_m1 139 rfl) rfl
theorem q230 : (Jvm.Cond.soleField "CoinTaxes$Bracket" "edge") ∈ lw_all := lw_g (lw_at lw_m1 140 rfl) rfl
theorem q231 : (Jvm.Cond.lays "CoinTaxes$Bracket" "CoinTaxes$Bracket" "rate" "I") ∈ lw_all := lw_g (lw_at lw_m1 141 rfl) rfl
theorem q232 : (Jvm.Cond.soleField "CoinTaxes$Bracket" "rate") ∈ lw_all := lw_g (lw_at lw_m1 142 rfl) rfl
theorem q233 : (Jvm.Cond.superclass "CoinTaxes$Bracket" "java/lang/Object") ∈ lw_all := lw_g (lw_at lw_m1 143 rfl) rfl
theorem q966 : (Jvm.Cond.selects "CoinTaxes$Bracket" ({ cls := "java/lang/Object", name := "getClass", desc := "()Ljava/lang/Class;" } : Jvm.MethodName) ({ cls := "java/lang/Object", name := "getClass", desc := "()Ljava/lang/Class;" } : Jvm.MethodName)) ∈ lw_all := lw_g (lw_at lw_m4 156 rfl) rfl
theorem q1083 : (Jvm.Cond.instanceMethod ({ cls := "CoinTaxes$Bracket", name := "<init>", desc := "(LCoinTaxes$Bracket;)V" } : Jvm.MethodName)) ∈ lw_all := lw_g (lw_at lw_m5 33 rfl) rfl
theorem q1084 : (Jvm.Cond.code ({ cls := "CoinTaxes$Bracket", name := "<init>", desc := "(LCoinTaxes$Bracket;)V" } : Jvm.MethodName) prog_2_method_2_code (2 : Nat) (Option.none : Option Jvm.ClassFile.FieldType)) ∈ lw_all := lw_g (lw_at lw_m5 34 rfl) rfl
theorem q1085 : (Jvm.Cond.methodLink "CoinTaxes$Bracket" (16 : Nat) ({ cls := "CoinTaxes$Bracket", name := "<init>", desc := "(II)V" } : Jvm.MethodName)) ∈ lw_all := lw_g (lw_at lw_m5 35 rfl) rfl
theorem q3011 : (Jvm.Cond.castable "CoinTaxes$Bracket" "java/lang/Object") ∈ lw_tbl := lw_at lw_m13 41 rfl
theorem in_X4 : ∀ w ∈ wsX40, w ∈ lw_all := lw_in wsX40 [229, 231] (by decide +kernel) (by decide +kernel)
