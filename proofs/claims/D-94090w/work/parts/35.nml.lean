/-! LimbBenchesLaw -/
set_option maxRecDepth 100000
def RX0 : String := "LimbBenchesLaw"
abbrev cX0_rules : ByteArray := method_3_code
def yX0_rules : MethodName := ⟨RX0, "rules", "(LLimbBenches;II[J)I"⟩
def dkwX0_rules_0 : List UInt8 := [45, 3, 42, 27, 28, 182, 0, 7, 133, 80, 167, 0, 7, 58, 4, 4, 172, 3, 172]
abbrev dktX0_rules_0 : List UInt8 := dkwX0_rules_0 ++ []
theorem dksX0_rules_0 : cX0_rules.data.toList.drop 0 = dktX0_rules_0 := by decide +kernel
theorem dX0_rules_0 : decode cX0_rules 0 = .ok (.aload_n 3, 1) := dk_45 (dk_at dksX0_rules_0 0 rfl rfl)
theorem dX0_rules_1 : decode cX0_rules 1 = .ok (.iconst 0, 1) := dk_3 (dk_at dksX0_rules_0 1 rfl rfl)
theorem dX0_rules_2 : decode cX0_rules 2 = .ok (.aload_n 0, 1) := dk_42 (dk_at dksX0_rules_0 2 rfl rfl)
theorem dX0_rules_3 : decode cX0_rules 3 = .ok (.iload_n 1, 1) := dk_27 (dk_at dksX0_rules_0 3 rfl rfl)
theorem dX0_rules_4 : decode cX0_rules 4 = .ok (.iload_n 2, 1) := dk_28 (dk_at dksX0_rules_0 4 rfl rfl)
theorem dX0_rules_5 : decode cX0_rules 5 = .ok (.invokevirtual 7, 3) := dk_182 0 7 (dk_at dksX0_rules_0 5 rfl rfl)
theorem dX0_rules_8 : decode cX0_rules 8 = .ok (.i2l, 1) := dk_133 (dk_at dksX0_rules_0 8 rfl rfl)
theorem dX0_rules_9 : decode cX0_rules 9 = .ok (.lastore, 1) := dk_80 (dk_at dksX0_rules_0 9 rfl rfl)
theorem dX0_rules_10 : decode cX0_rules 10 = .ok (.goto 7, 3) := dk_167 0 7 (dk_at dksX0_rules_0 10 rfl rfl)
theorem dX0_rules_13 : decode cX0_rules 13 = .ok (.astore 4, 2) := dk_58 4 (dk_at dksX0_rules_0 13 rfl rfl)
theorem dX0_rules_15 : decode cX0_rules 15 = .ok (.iconst 1, 1) := dk_4 (dk_at dksX0_rules_0 15 rfl rfl)
theorem dX0_rules_16 : decode cX0_rules 16 = .ok (.ireturn, 1) := dk_172 (dk_at dksX0_rules_0 16 rfl rfl)
theorem dX0_rules_17 : decode cX0_rules 17 = .ok (.iconst 0, 1) := dk_3 (dk_at dksX0_rules_0 17 rfl rfl)
theorem dX0_rules_18 : decode cX0_rules 18 = .ok (.ireturn, 1) := dk_172 (dk_at dksX0_rules_0 18 rfl rfl)
abbrev cX0_counts : ByteArray := method_4_code
def yX0_counts : MethodName := ⟨RX0, "counts", "(LLimbBenches;I[J)I"⟩
def dkwX0_counts_0 : List UInt8 := [44, 3, 42, 27, 182, 0, 15, 133, 80, 167, 0, 6, 78, 4, 172, 3, 172]
abbrev dktX0_counts_0 : List UInt8 := dkwX0_counts_0 ++ []
theorem dksX0_counts_0 : cX0_counts.data.toList.drop 0 = dktX0_counts_0 := by decide +kernel
theorem dX0_counts_0 : decode cX0_counts 0 = .ok (.aload_n 2, 1) := dk_44 (dk_at dksX0_counts_0 0 rfl rfl)
theorem dX0_counts_1 : decode cX0_counts 1 = .ok (.iconst 0, 1) := dk_3 (dk_at dksX0_counts_0 1 rfl rfl)
theorem dX0_counts_2 : decode cX0_counts 2 = .ok (.aload_n 0, 1) := dk_42 (dk_at dksX0_counts_0 2 rfl rfl)
theorem dX0_counts_3 : decode cX0_counts 3 = .ok (.iload_n 1, 1) := dk_27 (dk_at dksX0_counts_0 3 rfl rfl)
theorem dX0_counts_4 : decode cX0_counts 4 = .ok (.invokevirtual 15, 3) := dk_182 0 15 (dk_at dksX0_counts_0 4 rfl rfl)
theorem dX0_counts_7 : decode cX0_counts 7 = .ok (.i2l, 1) := dk_133 (dk_at dksX0_counts_0 7 rfl rfl)
theorem dX0_counts_8 : decode cX0_counts 8 = .ok (.lastore, 1) := dk_80 (dk_at dksX0_counts_0 8 rfl rfl)
theorem dX0_counts_9 : decode cX0_counts 9 = .ok (.goto 6, 3) := dk_167 0 6 (dk_at dksX0_counts_0 9 rfl rfl)
theorem dX0_counts_12 : decode cX0_counts 12 = .ok (.astore_n 3, 1) := dk_78 (dk_at dksX0_counts_0 12 rfl rfl)
theorem dX0_counts_13 : decode cX0_counts 13 = .ok (.iconst 1, 1) := dk_4 (dk_at dksX0_counts_0 13 rfl rfl)
theorem dX0_counts_14 : decode cX0_counts 14 = .ok (.ireturn, 1) := dk_172 (dk_at dksX0_counts_0 14 rfl rfl)
theorem dX0_counts_15 : decode cX0_counts 15 = .ok (.iconst 0, 1) := dk_3 (dk_at dksX0_counts_0 15 rfl rfl)
theorem dX0_counts_16 : decode cX0_counts 16 = .ok (.ireturn, 1) := dk_172 (dk_at dksX0_counts_0 16 rfl rfl)
abbrev cX0_model : ByteArray := method_5_code
def yX0_model : MethodName := ⟨RX0, "model", "(LLimbBenches;IIII[J)I"⟩
def dkwX0_model_0 : List UInt8 := [25, 5, 3, 42, 27, 28, 29, 21, 4, 182, 0, 19, 133, 80, 167, 0, 7, 58, 6, 4, 172, 3, 172]
abbrev dktX0_model_0 : List UInt8 := dkwX0_model_0 ++ []
theorem dksX0_model_0 : cX0_model.data.toList.drop 0 = dktX0_model_0 := by decide +kernel
theorem dX0_model_0 : decode cX0_model 0 = .ok (.aload 5, 2) := dk_25 5 (dk_at dksX0_model_0 0 rfl rfl)
theorem dX0_model_2 : decode cX0_model 2 = .ok (.iconst 0, 1) := dk_3 (dk_at dksX0_model_0 2 rfl rfl)
theorem dX0_model_3 : decode cX0_model 3 = .ok (.aload_n 0, 1) := dk_42 (dk_at dksX0_model_0 3 rfl rfl)
theorem dX0_model_4 : decode cX0_model 4 = .ok (.iload_n 1, 1) := dk_27 (dk_at dksX0_model_0 4 rfl rfl)
theorem dX0_model_5 : decode cX0_model 5 = .ok (.iload_n 2, 1) := dk_28 (dk_at dksX0_model_0 5 rfl rfl)
theorem dX0_model_6 : decode cX0_model 6 = .ok (.iload_n 3, 1) := dk_29 (dk_at dksX0_model_0 6 rfl rfl)
theorem dX0_model_7 : decode cX0_model 7 = .ok (.iload 4, 2) := dk_21 4 (dk_at dksX0_model_0 7 rfl rfl)
theorem dX0_model_9 : decode cX0_model 9 = .ok (.invokevirtual 19, 3) := dk_182 0 19 (dk_at dksX0_model_0 9 rfl rfl)
theorem dX0_model_12 : decode cX0_model 12 = .ok (.i2l, 1) := dk_133 (dk_at dksX0_model_0 12 rfl rfl)
theorem dX0_model_13 : decode cX0_model 13 = .ok (.lastore, 1) := dk_80 (dk_at dksX0_model_0 13 rfl rfl)
theorem dX0_model_14 : decode cX0_model 14 = .ok (.goto 7, 3) := dk_167 0 7 (dk_at dksX0_model_0 14 rfl rfl)
theorem dX0_model_17 : decode cX0_model 17 = .ok (.astore 6, 2) := dk_58 6 (dk_at dksX0_model_0 17 rfl rfl)
theorem dX0_model_19 : decode cX0_model 19 = .ok (.iconst 1, 1) := dk_4 (dk_at dksX0_model_0 19 rfl rfl)
theorem dX0_model_20 : decode cX0_model 20 = .ok (.ireturn, 1) := dk_172 (dk_at dksX0_model_0 20 rfl rfl)
theorem dX0_model_21 : decode cX0_model 21 = .ok (.iconst 0, 1) := dk_3 (dk_at dksX0_model_0 21 rfl rfl)
theorem dX0_model_22 : decode cX0_model 22 = .ok (.ireturn, 1) := dk_172 (dk_at dksX0_model_0 22 rfl rfl)
abbrev cX0_days : ByteArray := method_6_code
def yX0_days : MethodName := ⟨RX0, "days", "(LLimbBenches;I[J)I"⟩
def dkwX0_days_0 : List UInt8 := [44, 3, 42, 27, 182, 0, 23, 133, 80, 167, 0, 9, 78, 4, 172, 78, 5, 172, 3, 172]
abbrev dktX0_days_0 : List UInt8 := dkwX0_days_0 ++ []
theorem dksX0_days_0 : cX0_days.data.toList.drop 0 = dktX0_days_0 := by decide +kernel
theorem dX0_days_0 : decode cX0_days 0 = .ok (.aload_n 2, 1) := dk_44 (dk_at dksX0_days_0 0 rfl rfl)
theorem dX0_days_1 : decode cX0_days 1 = .ok (.iconst 0, 1) := dk_3 (dk_at dksX0_days_0 1 rfl rfl)
theorem dX0_days_2 : decode cX0_days 2 = .ok (.aload_n 0, 1) := dk_42 (dk_at dksX0_days_0 2 rfl rfl)
theorem dX0_days_3 : decode cX0_days 3 = .ok (.iload_n 1, 1) := dk_27 (dk_at dksX0_days_0 3 rfl rfl)
theorem dX0_days_4 : decode cX0_days 4 = .ok (.invokevirtual 23, 3) := dk_182 0 23 (dk_at dksX0_days_0 4 rfl rfl)
theorem dX0_days_7 : decode cX0_days 7 = .ok (.i2l, 1) := dk_133 (dk_at dksX0_days_0 7 rfl rfl)
theorem dX0_days_8 : decode cX0_days 8 = .ok (.lastore, 1) := dk_80 (dk_at dksX0_days_0 8 rfl rfl)
theorem dX0_days_9 : decode cX0_days 9 = .ok (.goto 9, 3) := dk_167 0 9 (dk_at dksX0_days_0 9 rfl rfl)
theorem dX0_days_12 : decode cX0_days 12 = .ok (.astore_n 3, 1) := dk_78 (dk_at dksX0_days_0 12 rfl rfl)
theorem dX0_days_13 : decode cX0_days 13 = .ok (.iconst 1, 1) := dk_4 (dk_at dksX0_days_0 13 rfl rfl)
theorem dX0_days_14 : decode cX0_days 14 = .ok (.ireturn, 1) := dk_172 (dk_at dksX0_days_0 14 rfl rfl)
theorem dX0_days_15 : decode cX0_days 15 = .ok (.astore_n 3, 1) := dk_78 (dk_at dksX0_days_0 15 rfl rfl)
theorem dX0_days_16 : decode cX0_days 16 = .ok (.iconst 2, 1) := dk_5 (dk_at dksX0_days_0 16 rfl rfl)
theorem dX0_days_17 : decode cX0_days 17 = .ok (.ireturn, 1) := dk_172 (dk_at dksX0_days_0 17 rfl rfl)
theorem dX0_days_18 : decode cX0_days 18 = .ok (.iconst 0, 1) := dk_3 (dk_at dksX0_days_0 18 rfl rfl)
theorem dX0_days_19 : decode cX0_days 19 = .ok (.ireturn, 1) := dk_172 (dk_at dksX0_days_0 19 rfl rfl)
abbrev cX0_person : ByteArray := method_7_code
def yX0_person : MethodName := ⟨RX0, "person", "(LLimbBenches;IIIIZ[J)I"⟩
def dkwX0_person_1 : List UInt8 := [172]
abbrev dktX0_person_1 : List UInt8 := dkwX0_person_1 ++ []
def dkwX0_person_0 : List UInt8 := [25, 6, 3, 42, 27, 28, 29, 21, 4, 21, 5, 182, 0, 28, 133, 80, 167, 0, 7, 58, 7, 4, 172, 3]
abbrev dktX0_person_0 : List UInt8 := dkwX0_person_0 ++ dktX0_person_1
theorem dksX0_person_0 : cX0_person.data.toList.drop 0 = dktX0_person_0 := by decide +kernel
theorem dksX0_person_1 : cX0_person.data.toList.drop 24 = dktX0_person_1 := dk_seg dksX0_person_0 24 rfl rfl
theorem dX0_person_0 : decode cX0_person 0 = .ok (.aload 6, 2) := dk_25 6 (dk_at dksX0_person_0 0 rfl rfl)
theorem dX0_person_2 : decode cX0_person 2 = .ok (.iconst 0, 1) := dk_3 (dk_at dksX0_person_0 2 rfl rfl)
theorem dX0_person_3 : decode cX0_person 3 = .ok (.aload_n 0, 1) := dk_42 (dk_at dksX0_person_0 3 rfl rfl)
theorem dX0_person_4 : decode cX0_person 4 = .ok (.iload_n 1, 1) := dk_27 (dk_at dksX0_person_0 4 rfl rfl)
theorem dX0_person_5 : decode cX0_person 5 = .ok (.iload_n 2, 1) := dk_28 (dk_at dksX0_person_0 5 rfl rfl)
theorem dX0_person_6 : decode cX0_person 6 = .ok (.iload_n 3, 1) := dk_29 (dk_at dksX0_person_0 6 rfl rfl)
theorem dX0_person_7 : decode cX0_person 7 = .ok (.iload 4, 2) := dk_21 4 (dk_at dksX0_person_0 7 rfl rfl)
theorem dX0_person_9 : decode cX0_person 9 = .ok (.iload 5, 2) := dk_21 5 (dk_at dksX0_person_0 9 rfl rfl)
theorem dX0_person_11 : decode cX0_person 11 = .ok (.invokevirtual 28, 3) := dk_182 0 28 (dk_at dksX0_person_0 11 rfl rfl)
theorem dX0_person_14 : decode cX0_person 14 = .ok (.i2l, 1) := dk_133 (dk_at dksX0_person_0 14 rfl rfl)
theorem dX0_person_15 : decode cX0_person 15 = .ok (.lastore, 1) := dk_80 (dk_at dksX0_person_0 15 rfl rfl)
theorem dX0_person_16 : decode cX0_person 16 = .ok (.goto 7, 3) := dk_167 0 7 (dk_at dksX0_person_0 16 rfl rfl)
theorem dX0_person_19 : decode cX0_person 19 = .ok (.astore 7, 2) := dk_58 7 (dk_at dksX0_person_0 19 rfl rfl)
theorem dX0_person_21 : decode cX0_person 21 = .ok (.iconst 1, 1) := dk_4 (dk_at dksX0_person_0 21 rfl rfl)
theorem dX0_person_22 : decode cX0_person 22 = .ok (.ireturn, 1) := dk_172 (dk_at dksX0_person_0 22 rfl rfl)
theorem dX0_person_23 : decode cX0_person 23 = .ok (.iconst 0, 1) := dk_3 (dk_at dksX0_person_0 23 rfl rfl)
theorem dX0_person_24 : decode cX0_person 24 = .ok (.ireturn, 1) := dk_172 (dk_at dksX0_person_1 0 rfl rfl)
abbrev cX0_stump : ByteArray := method_8_code
def yX0_stump : MethodName := ⟨RX0, "stump", "(LLimbBenches;III[J)I"⟩
def dkwX0_stump_1 : List UInt8 := [172]
abbrev dktX0_stump_1 : List UInt8 := dkwX0_stump_1 ++ []
def dkwX0_stump_0 : List UInt8 := [25, 4, 3, 42, 27, 28, 29, 182, 0, 32, 133, 80, 167, 0, 11, 58, 5, 4, 172, 58, 5, 5, 172, 3]
abbrev dktX0_stump_0 : List UInt8 := dkwX0_stump_0 ++ dktX0_stump_1
theorem dksX0_stump_0 : cX0_stump.data.toList.drop 0 = dktX0_stump_0 := by decide +kernel
theorem dksX0_stump_1 : cX0_stump.data.toList.drop 24 = dktX0_stump_1 := dk_seg dksX0_stump_0 24 rfl rfl
theorem dX0_stump_0 : decode cX0_stump 0 = .ok (.aload 4, 2) := dk_25 4 (dk_at dksX0_stump_0 0 rfl rfl)
theorem dX0_stump_2 : decode cX0_stump 2 = .ok (.iconst 0, 1) := dk_3 (dk_at dksX0_stump_0 2 rfl rfl)
theorem dX0_stump_3 : decode cX0_stump 3 = .ok (.aload_n 0, 1) := dk_42 (dk_at dksX0_stump_0 3 rfl rfl)
theorem dX0_stump_4 : decode cX0_stump 4 = .ok (.iload_n 1, 1) := dk_27 (dk_at dksX0_stump_0 4 rfl rfl)
theorem dX0_stump_5 : decode cX0_stump 5 = .ok (.iload_n 2, 1) := dk_28 (dk_at dksX0_stump_0 5 rfl rfl)
theorem dX0_stump_6 : decode cX0_stump 6 = .ok (.iload_n 3, 1) := dk_29 (dk_at dksX0_stump_0 6 rfl rfl)
theorem dX0_stump_7 : decode cX0_stump 7 = .ok (.invokevirtual 32, 3) := dk_182 0 32 (dk_at dksX0_stump_0 7 rfl rfl)
theorem dX0_stump_10 : decode cX0_stump 10 = .ok (.i2l, 1) := dk_133 (dk_at dksX0_stump_0 10 rfl rfl)
theorem dX0_stump_11 : decode cX0_stump 11 = .ok (.lastore, 1) := dk_80 (dk_at dksX0_stump_0 11 rfl rfl)
theorem dX0_stump_12 : decode cX0_stump 12 = .ok (.goto 11, 3) := dk_167 0 11 (dk_at dksX0_stump_0 12 rfl rfl)
theorem dX0_stump_15 : decode cX0_stump 15 = .ok (.astore 5, 2) := dk_58 5 (dk_at dksX0_stump_0 15 rfl rfl)
theorem dX0_stump_17 : decode cX0_stump 17 = .ok (.iconst 1, 1) := dk_4 (dk_at dksX0_stump_0 17 rfl rfl)
theorem dX0_stump_18 : decode cX0_stump 18 = .ok (.ireturn, 1) := dk_172 (dk_at dksX0_stump_0 18 rfl rfl)
theorem dX0_stump_19 : decode cX0_stump 19 = .ok (.astore 5, 2) := dk_58 5 (dk_at dksX0_stump_0 19 rfl rfl)
theorem dX0_stump_21 : decode cX0_stump 21 = .ok (.iconst 2, 1) := dk_5 (dk_at dksX0_stump_0 21 rfl rfl)
theorem dX0_stump_22 : decode cX0_stump 22 = .ok (.ireturn, 1) := dk_172 (dk_at dksX0_stump_0 22 rfl rfl)
theorem dX0_stump_23 : decode cX0_stump 23 = .ok (.iconst 0, 1) := dk_3 (dk_at dksX0_stump_0 23 rfl rfl)
theorem dX0_stump_24 : decode cX0_stump 24 = .ok (.ireturn, 1) := dk_172 (dk_at dksX0_stump_1 0 rfl rfl)
abbrev cX0_change : ByteArray := method_9_code
def yX0_change : MethodName := ⟨RX0, "change", "(LLimbBenches;III[J)I"⟩
def dkwX0_change_1 : List UInt8 := [172]
abbrev dktX0_change_1 : List UInt8 := dkwX0_change_1 ++ []
def dkwX0_change_0 : List UInt8 := [25, 4, 3, 42, 27, 28, 29, 182, 0, 38, 133, 80, 167, 0, 11, 58, 5, 4, 172, 58, 5, 5, 172, 3]
abbrev dktX0_change_0 : List UInt8 := dkwX0_change_0 ++ dktX0_change_1
theorem dksX0_change_0 : cX0_change.data.toList.drop 0 = dktX0_change_0 := by decide +kernel
theorem dksX0_change_1 : cX0_change.data.toList.drop 24 = dktX0_change_1 := dk_seg dksX0_change_0 24 rfl rfl
theorem dX0_change_0 : decode cX0_change 0 = .ok (.aload 4, 2) := dk_25 4 (dk_at dksX0_change_0 0 rfl rfl)
theorem dX0_change_2 : decode cX0_change 2 = .ok (.iconst 0, 1) := dk_3 (dk_at dksX0_change_0 2 rfl rfl)
theorem dX0_change_3 : decode cX0_change 3 = .ok (.aload_n 0, 1) := dk_42 (dk_at dksX0_change_0 3 rfl rfl)
theorem dX0_change_4 : decode cX0_change 4 = .ok (.iload_n 1, 1) := dk_27 (dk_at dksX0_change_0 4 rfl rfl)
theorem dX0_change_5 : decode cX0_change 5 = .ok (.iload_n 2, 1) := dk_28 (dk_at dksX0_change_0 5 rfl rfl)
theorem dX0_change_6 : decode cX0_change 6 = .ok (.iload_n 3, 1) := dk_29 (dk_at dksX0_change_0 6 rfl rfl)
theorem dX0_change_7 : decode cX0_change 7 = .ok (.invokevirtual 38, 3) := dk_182 0 38 (dk_at dksX0_change_0 7 rfl rfl)
theorem dX0_change_10 : decode cX0_change 10 = .ok (.i2l, 1) := dk_133 (dk_at dksX0_change_0 10 rfl rfl)
theorem dX0_change_11 : decode cX0_change 11 = .ok (.lastore, 1) := dk_80 (dk_at dksX0_change_0 11 rfl rfl)
theorem dX0_change_12 : decode cX0_change 12 = .ok (.goto 11, 3) := dk_167 0 11 (dk_at dksX0_change_0 12 rfl rfl)
theorem dX0_change_15 : decode cX0_change 15 = .ok (.astore 5, 2) := dk_58 5 (dk_at dksX0_change_0 15 rfl rfl)
theorem dX0_change_17 : decode cX0_change 17 = .ok (.iconst 1, 1) := dk_4 (dk_at dksX0_change_0 17 rfl rfl)
theorem dX0_change_18 : decode cX0_change 18 = .ok (.ireturn, 1) := dk_172 (dk_at dksX0_change_0 18 rfl rfl)
theorem dX0_change_19 : decode cX0_change 19 = .ok (.astore 5, 2) := dk_58 5 (dk_at dksX0_change_0 19 rfl rfl)
theorem dX0_change_21 : decode cX0_change 21 = .ok (.iconst 2, 1) := dk_5 (dk_at dksX0_change_0 21 rfl rfl)
theorem dX0_change_22 : decode cX0_change 22 = .ok (.ireturn, 1) := dk_172 (dk_at dksX0_change_0 22 rfl rfl)
theorem dX0_change_23 : decode cX0_change 23 = .ok (.iconst 0, 1) := dk_3 (dk_at dksX0_change_0 23 rfl rfl)
theorem dX0_change_24 : decode cX0_change 24 = .ok (.ireturn, 1) := dk_172 (dk_at dksX0_change_1 0 rfl rfl)
abbrev cX0_size : ByteArray := method_10_code
def yX0_size : MethodName := ⟨RX0, "size", "(LLimbBenches;II[J)I"⟩
def dkwX0_size_0 : List UInt8 := [45, 3, 42, 27, 28, 182, 0, 41, 133, 80, 167, 0, 11, 58, 4, 4, 172, 58, 4, 5, 172, 3, 172]
abbrev dktX0_size_0 : List UInt8 := dkwX0_size_0 ++ []
theorem dksX0_size_0 : cX0_size.data.toList.drop 0 = dktX0_size_0 := by decide +kernel
theorem dX0_size_0 : decode cX0_size 0 = .ok (.aload_n 3, 1) := dk_45 (dk_at dksX0_size_0 0 rfl rfl)
theorem dX0_size_1 : decode cX0_size 1 = .ok (.iconst 0, 1) := dk_3 (dk_at dksX0_size_0 1 rfl rfl)
theorem dX0_size_2 : decode cX0_size 2 = .ok (.aload_n 0, 1) := dk_42 (dk_at dksX0_size_0 2 rfl rfl)
theorem dX0_size_3 : decode cX0_size 3 = .ok (.iload_n 1, 1) := dk_27 (dk_at dksX0_size_0 3 rfl rfl)
theorem dX0_size_4 : decode cX0_size 4 = .ok (.iload_n 2, 1) := dk_28 (dk_at dksX0_size_0 4 rfl rfl)
theorem dX0_size_5 : decode cX0_size 5 = .ok (.invokevirtual 41, 3) := dk_182 0 41 (dk_at dksX0_size_0 5 rfl rfl)
theorem dX0_size_8 : decode cX0_size 8 = .ok (.i2l, 1) := dk_133 (dk_at dksX0_size_0 8 rfl rfl)
theorem dX0_size_9 : decode cX0_size 9 = .ok (.lastore, 1) := dk_80 (dk_at dksX0_size_0 9 rfl rfl)
theorem dX0_size_10 : decode cX0_size 10 = .ok (.goto 11, 3) := dk_167 0 11 (dk_at dksX0_size_0 10 rfl rfl)
theorem dX0_size_13 : decode cX0_size 13 = .ok (.astore 4, 2) := dk_58 4 (dk_at dksX0_size_0 13 rfl rfl)
theorem dX0_size_15 : decode cX0_size 15 = .ok (.iconst 1, 1) := dk_4 (dk_at dksX0_size_0 15 rfl rfl)
theorem dX0_size_16 : decode cX0_size 16 = .ok (.ireturn, 1) := dk_172 (dk_at dksX0_size_0 16 rfl rfl)
theorem dX0_size_17 : decode cX0_size 17 = .ok (.astore 4, 2) := dk_58 4 (dk_at dksX0_size_0 17 rfl rfl)
theorem dX0_size_19 : decode cX0_size 19 = .ok (.iconst 2, 1) := dk_5 (dk_at dksX0_size_0 19 rfl rfl)
theorem dX0_size_20 : decode cX0_size 20 = .ok (.ireturn, 1) := dk_172 (dk_at dksX0_size_0 20 rfl rfl)
theorem dX0_size_21 : decode cX0_size 21 = .ok (.iconst 0, 1) := dk_3 (dk_at dksX0_size_0 21 rfl rfl)
theorem dX0_size_22 : decode cX0_size 22 = .ok (.ireturn, 1) := dk_172 (dk_at dksX0_size_0 22 rfl rfl)
abbrev cX0_told : ByteArray := method_11_code
def yX0_told : MethodName := ⟨RX0, "told", "(LLimbBenches;III[J)I"⟩
def dkwX0_told_1 : List UInt8 := [172]
abbrev dktX0_told_1 : List UInt8 := dkwX0_told_1 ++ []
def dkwX0_told_0 : List UInt8 := [25, 4, 3, 42, 27, 28, 29, 182, 0, 44, 133, 80, 167, 0, 11, 58, 5, 4, 172, 58, 5, 5, 172, 3]
abbrev dktX0_told_0 : List UInt8 := dkwX0_told_0 ++ dktX0_told_1
theorem dksX0_told_0 : cX0_told.data.toList.drop 0 = dktX0_told_0 := by decide +kernel
theorem dksX0_told_1 : cX0_told.data.toList.drop 24 = dktX0_told_1 := dk_seg dksX0_told_0 24 rfl rfl
theorem dX0_told_0 : decode cX0_told 0 = .ok (.aload 4, 2) := dk_25 4 (dk_at dksX0_told_0 0 rfl rfl)
theorem dX0_told_2 : decode cX0_told 2 = .ok (.iconst 0, 1) := dk_3 (dk_at dksX0_told_0 2 rfl rfl)
theorem dX0_told_3 : decode cX0_told 3 = .ok (.aload_n 0, 1) := dk_42 (dk_at dksX0_told_0 3 rfl rfl)
theorem dX0_told_4 : decode cX0_told 4 = .ok (.iload_n 1, 1) := dk_27 (dk_at dksX0_told_0 4 rfl rfl)
theorem dX0_told_5 : decode cX0_told 5 = .ok (.iload_n 2, 1) := dk_28 (dk_at dksX0_told_0 5 rfl rfl)
theorem dX0_told_6 : decode cX0_told 6 = .ok (.iload_n 3, 1) := dk_29 (dk_at dksX0_told_0 6 rfl rfl)
theorem dX0_told_7 : decode cX0_told 7 = .ok (.invokevirtual 44, 3) := dk_182 0 44 (dk_at dksX0_told_0 7 rfl rfl)
theorem dX0_told_10 : decode cX0_told 10 = .ok (.i2l, 1) := dk_133 (dk_at dksX0_told_0 10 rfl rfl)
theorem dX0_told_11 : decode cX0_told 11 = .ok (.lastore, 1) := dk_80 (dk_at dksX0_told_0 11 rfl rfl)
theorem dX0_told_12 : decode cX0_told 12 = .ok (.goto 11, 3) := dk_167 0 11 (dk_at dksX0_told_0 12 rfl rfl)
theorem dX0_told_15 : decode cX0_told 15 = .ok (.astore 5, 2) := dk_58 5 (dk_at dksX0_told_0 15 rfl rfl)
theorem dX0_told_17 : decode cX0_told 17 = .ok (.iconst 1, 1) := dk_4 (dk_at dksX0_told_0 17 rfl rfl)
theorem dX0_told_18 : decode cX0_told 18 = .ok (.ireturn, 1) := dk_172 (dk_at dksX0_told_0 18 rfl rfl)
theorem dX0_told_19 : decode cX0_told 19 = .ok (.astore 5, 2) := dk_58 5 (dk_at dksX0_told_0 19 rfl rfl)
theorem dX0_told_21 : decode cX0_told 21 = .ok (.iconst 2, 1) := dk_5 (dk_at dksX0_told_0 21 rfl rfl)
theorem dX0_told_22 : decode cX0_told 22 = .ok (.ireturn, 1) := dk_172 (dk_at dksX0_told_0 22 rfl rfl)
theorem dX0_told_23 : decode cX0_told 23 = .ok (.iconst 0, 1) := dk_3 (dk_at dksX0_told_0 23 rfl rfl)
theorem dX0_told_24 : decode cX0_told 24 = .ok (.ireturn, 1) := dk_172 (dk_at dksX0_told_1 0 rfl rfl)
abbrev cX0_barred : ByteArray := method_12_code
def yX0_barred : MethodName := ⟨RX0, "barred", "(LLimbBenches;III[J)I"⟩
def dkwX0_barred_1 : List UInt8 := [4, 172, 58, 5, 5, 172, 3, 172]
abbrev dktX0_barred_1 : List UInt8 := dkwX0_barred_1 ++ []
def dkwX0_barred_0 : List UInt8 := [25, 4, 3, 42, 27, 28, 29, 182, 0, 47, 153, 0, 7, 10, 167, 0, 4, 9, 80, 167, 0, 11, 58, 5]
abbrev dktX0_barred_0 : List UInt8 := dkwX0_barred_0 ++ dktX0_barred_1
theorem dksX0_barred_0 : cX0_barred.data.toList.drop 0 = dktX0_barred_0 := by decide +kernel
theorem dksX0_barred_1 : cX0_barred.data.toList.drop 24 = dktX0_barred_1 := dk_seg dksX0_barred_0 24 rfl rfl
theorem dX0_barred_0 : decode cX0_barred 0 = .ok (.aload 4, 2) := dk_25 4 (dk_at dksX0_barred_0 0 rfl rfl)
theorem dX0_barred_2 : decode cX0_barred 2 = .ok (.iconst 0, 1) := dk_3 (dk_at dksX0_barred_0 2 rfl rfl)
theorem dX0_barred_3 : decode cX0_barred 3 = .ok (.aload_n 0, 1) := dk_42 (dk_at dksX0_barred_0 3 rfl rfl)
theorem dX0_barred_4 : decode cX0_barred 4 = .ok (.iload_n 1, 1) := dk_27 (dk_at dksX0_barred_0 4 rfl rfl)
theorem dX0_barred_5 : decode cX0_barred 5 = .ok (.iload_n 2, 1) := dk_28 (dk_at dksX0_barred_0 5 rfl rfl)
theorem dX0_barred_6 : decode cX0_barred 6 = .ok (.iload_n 3, 1) := dk_29 (dk_at dksX0_barred_0 6 rfl rfl)
theorem dX0_barred_7 : decode cX0_barred 7 = .ok (.invokevirtual 47, 3) := dk_182 0 47 (dk_at dksX0_barred_0 7 rfl rfl)
theorem dX0_barred_10 : decode cX0_barred 10 = .ok (.ifCond .eq 7, 3) := dk_153 0 7 (dk_at dksX0_barred_0 10 rfl rfl)
theorem dX0_barred_13 : decode cX0_barred 13 = .ok (.lconst 1, 1) := dk_10 (dk_at dksX0_barred_0 13 rfl rfl)
theorem dX0_barred_14 : decode cX0_barred 14 = .ok (.goto 4, 3) := dk_167 0 4 (dk_at dksX0_barred_0 14 rfl rfl)
theorem dX0_barred_17 : decode cX0_barred 17 = .ok (.lconst 0, 1) := dk_9 (dk_at dksX0_barred_0 17 rfl rfl)
theorem dX0_barred_18 : decode cX0_barred 18 = .ok (.lastore, 1) := dk_80 (dk_at dksX0_barred_0 18 rfl rfl)
theorem dX0_barred_19 : decode cX0_barred 19 = .ok (.goto 11, 3) := dk_167 0 11 (dk_at dksX0_barred_0 19 rfl rfl)
theorem dX0_barred_22 : decode cX0_barred 22 = .ok (.astore 5, 2) := dk_58 5 (dk_at dksX0_barred_0 22 rfl rfl)
theorem dX0_barred_24 : decode cX0_barred 24 = .ok (.iconst 1, 1) := dk_4 (dk_at dksX0_barred_1 0 rfl rfl)
theorem dX0_barred_25 : decode cX0_barred 25 = .ok (.ireturn, 1) := dk_172 (dk_at dksX0_barred_1 1 rfl rfl)
theorem dX0_barred_26 : decode cX0_barred 26 = .ok (.astore 5, 2) := dk_58 5 (dk_at dksX0_barred_1 2 rfl rfl)
theorem dX0_barred_28 : decode cX0_barred 28 = .ok (.iconst 2, 1) := dk_5 (dk_at dksX0_barred_1 4 rfl rfl)
theorem dX0_barred_29 : decode cX0_barred 29 = .ok (.ireturn, 1) := dk_172 (dk_at dksX0_barred_1 5 rfl rfl)
theorem dX0_barred_30 : decode cX0_barred 30 = .ok (.iconst 0, 1) := dk_3 (dk_at dksX0_barred_1 6 rfl rfl)
theorem dX0_barred_31 : decode cX0_barred 31 = .ok (.ireturn, 1) := dk_172 (dk_at dksX0_barred_1 7 rfl rfl)
abbrev cX0_fit : ByteArray := method_13_code
def yX0_fit : MethodName := ⟨RX0, "fit", "(LLimbBenches;III[J)I"⟩
def dkwX0_fit_1 : List UInt8 := [58, 5, 6, 172, 3, 172]
abbrev dktX0_fit_1 : List UInt8 := dkwX0_fit_1 ++ []
def dkwX0_fit_0 : List UInt8 := [25, 4, 3, 42, 27, 28, 29, 182, 0, 53, 133, 80, 167, 0, 15, 58, 5, 4, 172, 58, 5, 5, 172]
abbrev dktX0_fit_0 : List UInt8 := dkwX0_fit_0 ++ dktX0_fit_1
theorem dksX0_fit_0 : cX0_fit.data.toList.drop 0 = dktX0_fit_0 := by decide +kernel
theorem dksX0_fit_1 : cX0_fit.data.toList.drop 23 = dktX0_fit_1 := dk_seg dksX0_fit_0 23 rfl rfl
theorem dX0_fit_0 : decode cX0_fit 0 = .ok (.aload 4, 2) := dk_25 4 (dk_at dksX0_fit_0 0 rfl rfl)
theorem dX0_fit_2 : decode cX0_fit 2 = .ok (.iconst 0, 1) := dk_3 (dk_at dksX0_fit_0 2 rfl rfl)
theorem dX0_fit_3 : decode cX0_fit 3 = .ok (.aload_n 0, 1) := dk_42 (dk_at dksX0_fit_0 3 rfl rfl)
theorem dX0_fit_4 : decode cX0_fit 4 = .ok (.iload_n 1, 1) := dk_27 (dk_at dksX0_fit_0 4 rfl rfl)
theorem dX0_fit_5 : decode cX0_fit 5 = .ok (.iload_n 2, 1) := dk_28 (dk_at dksX0_fit_0 5 rfl rfl)
theorem dX0_fit_6 : decode cX0_fit 6 = .ok (.iload_n 3, 1) := dk_29 (dk_at dksX0_fit_0 6 rfl rfl)
theorem dX0_fit_7 : decode cX0_fit 7 = .ok (.invokevirtual 53, 3) := dk_182 0 53 (dk_at dksX0_fit_0 7 rfl rfl)
theorem dX0_fit_10 : decode cX0_fit 10 = .ok (.i2l, 1) := dk_133 (dk_at dksX0_fit_0 10 rfl rfl)
theorem dX0_fit_11 : decode cX0_fit 11 = .ok (.lastore, 1) := dk_80 (dk_at dksX0_fit_0 11 rfl rfl)
theorem dX0_fit_12 : decode cX0_fit 12 = .ok (.goto 15, 3) := dk_167 0 15 (dk_at dksX0_fit_0 12 rfl rfl)
theorem dX0_fit_15 : decode cX0_fit 15 = .ok (.astore 5, 2) := dk_58 5 (dk_at dksX0_fit_0 15 rfl rfl)
theorem dX0_fit_17 : decode cX0_fit 17 = .ok (.iconst 1, 1) := dk_4 (dk_at dksX0_fit_0 17 rfl rfl)
theorem dX0_fit_18 : decode cX0_fit 18 = .ok (.ireturn, 1) := dk_172 (dk_at dksX0_fit_0 18 rfl rfl)
theorem dX0_fit_19 : decode cX0_fit 19 = .ok (.astore 5, 2) := dk_58 5 (dk_at dksX0_fit_0 19 rfl rfl)
theorem dX0_fit_21 : decode cX0_fit 21 = .ok (.iconst 2, 1) := dk_5 (dk_at dksX0_fit_0 21 rfl rfl)
theorem dX0_fit_22 : decode cX0_fit 22 = .ok (.ireturn, 1) := dk_172 (dk_at dksX0_fit_0 22 rfl rfl)
theorem dX0_fit_23 : decode cX0_fit 23 = .ok (.astore 5, 2) := dk_58 5 (dk_at dksX0_fit_1 0 rfl rfl)
theorem dX0_fit_25 : decode cX0_fit 25 = .ok (.iconst 3, 1) := dk_6 (dk_at dksX0_fit_1 2 rfl rfl)
theorem dX0_fit_26 : decode cX0_fit 26 = .ok (.ireturn, 1) := dk_172 (dk_at dksX0_fit_1 3 rfl rfl)
theorem dX0_fit_27 : decode cX0_fit 27 = .ok (.iconst 0, 1) := dk_3 (dk_at dksX0_fit_1 4 rfl rfl)
theorem dX0_fit_28 : decode cX0_fit 28 = .ok (.ireturn, 1) := dk_172 (dk_at dksX0_fit_1 5 rfl rfl)
abbrev cX0_part : ByteArray := method_14_code
def yX0_part : MethodName := ⟨RX0, "part", "(LLimbBenches;III[J)I"⟩
def dkwX0_part_1 : List UInt8 := [172]
abbrev dktX0_part_1 : List UInt8 := dkwX0_part_1 ++ []
def dkwX0_part_0 : List UInt8 := [25, 4, 3, 42, 27, 28, 29, 182, 0, 56, 133, 80, 167, 0, 11, 58, 5, 4, 172, 58, 5, 5, 172, 3]
abbrev dktX0_part_0 : List UInt8 := dkwX0_part_0 ++ dktX0_part_1
theorem dksX0_part_0 : cX0_part.data.toList.drop 0 = dktX0_part_0 := by decide +kernel
theorem dksX0_part_1 : cX0_part.data.toList.drop 24 = dktX0_part_1 := dk_seg dksX0_part_0 24 rfl rfl
theorem dX0_part_0 : decode cX0_part 0 = .ok (.aload 4, 2) := dk_25 4 (dk_at dksX0_part_0 0 rfl rfl)
theorem dX0_part_2 : decode cX0_part 2 = .ok (.iconst 0, 1) := dk_3 (dk_at dksX0_part_0 2 rfl rfl)
theorem dX0_part_3 : decode cX0_part 3 = .ok (.aload_n 0, 1) := dk_42 (dk_at dksX0_part_0 3 rfl rfl)
theorem dX0_part_4 : decode cX0_part 4 = .ok (.iload_n 1, 1) := dk_27 (dk_at dksX0_part_0 4 rfl rfl)
theorem dX0_part_5 : decode cX0_part 5 = .ok (.iload_n 2, 1) := dk_28 (dk_at dksX0_part_0 5 rfl rfl)
theorem dX0_part_6 : decode cX0_part 6 = .ok (.iload_n 3, 1) := dk_29 (dk_at dksX0_part_0 6 rfl rfl)
theorem dX0_part_7 : decode cX0_part 7 = .ok (.invokevirtual 56, 3) := dk_182 0 56 (dk_at dksX0_part_0 7 rfl rfl)
theorem dX0_part_10 : decode cX0_part 10 = .ok (.i2l, 1) := dk_133 (dk_at dksX0_part_0 10 rfl rfl)
theorem dX0_part_11 : decode cX0_part 11 = .ok (.lastore, 1) := dk_80 (dk_at dksX0_part_0 11 rfl rfl)
theorem dX0_part_12 : decode cX0_part 12 = .ok (.goto 11, 3) := dk_167 0 11 (dk_at dksX0_part_0 12 rfl rfl)
theorem dX0_part_15 : decode cX0_part 15 = .ok (.astore 5, 2) := dk_58 5 (dk_at dksX0_part_0 15 rfl rfl)
theorem dX0_part_17 : decode cX0_part 17 = .ok (.iconst 1, 1) := dk_4 (dk_at dksX0_part_0 17 rfl rfl)
theorem dX0_part_18 : decode cX0_part 18 = .ok (.ireturn, 1) := dk_172 (dk_at dksX0_part_0 18 rfl rfl)
theorem dX0_part_19 : decode cX0_part 19 = .ok (.astore 5, 2) := dk_58 5 (dk_at dksX0_part_0 19 rfl rfl)
theorem dX0_part_21 : decode cX0_part 21 = .ok (.iconst 2, 1) := dk_5 (dk_at dksX0_part_0 21 rfl rfl)
theorem dX0_part_22 : decode cX0_part 22 = .ok (.ireturn, 1) := dk_172 (dk_at dksX0_part_0 22 rfl rfl)
theorem dX0_part_23 : decode cX0_part 23 = .ok (.iconst 0, 1) := dk_3 (dk_at dksX0_part_0 23 rfl rfl)
theorem dX0_part_24 : decode cX0_part 24 = .ok (.ireturn, 1) := dk_172 (dk_at dksX0_part_1 0 rfl rfl)
abbrev cX0_reuse : ByteArray := method_15_code
def yX0_reuse : MethodName := ⟨RX0, "reuse", "(LLimbBenches;III[J)I"⟩
def dkwX0_reuse_1 : List UInt8 := [172]
abbrev dktX0_reuse_1 : List UInt8 := dkwX0_reuse_1 ++ []
def dkwX0_reuse_0 : List UInt8 := [25, 4, 3, 42, 27, 28, 29, 182, 0, 59, 133, 80, 167, 0, 11, 58, 5, 4, 172, 58, 5, 5, 172, 3]
abbrev dktX0_reuse_0 : List UInt8 := dkwX0_reuse_0 ++ dktX0_reuse_1
theorem dksX0_reuse_0 : cX0_reuse.data.toList.drop 0 = dktX0_reuse_0 := by decide +kernel
theorem dksX0_reuse_1 : cX0_reuse.data.toList.drop 24 = dktX0_reuse_1 := dk_seg dksX0_reuse_0 24 rfl rfl
theorem dX0_reuse_0 : decode cX0_reuse 0 = .ok (.aload 4, 2) := dk_25 4 (dk_at dksX0_reuse_0 0 rfl rfl)
theorem dX0_reuse_2 : decode cX0_reuse 2 = .ok (.iconst 0, 1) := dk_3 (dk_at dksX0_reuse_0 2 rfl rfl)
theorem dX0_reuse_3 : decode cX0_reuse 3 = .ok (.aload_n 0, 1) := dk_42 (dk_at dksX0_reuse_0 3 rfl rfl)
theorem dX0_reuse_4 : decode cX0_reuse 4 = .ok (.iload_n 1, 1) := dk_27 (dk_at dksX0_reuse_0 4 rfl rfl)
theorem dX0_reuse_5 : decode cX0_reuse 5 = .ok (.iload_n 2, 1) := dk_28 (dk_at dksX0_reuse_0 5 rfl rfl)
theorem dX0_reuse_6 : decode cX0_reuse 6 = .ok (.iload_n 3, 1) := dk_29 (dk_at dksX0_reuse_0 6 rfl rfl)
theorem dX0_reuse_7 : decode cX0_reuse 7 = .ok (.invokevirtual 59, 3) := dk_182 0 59 (dk_at dksX0_reuse_0 7 rfl rfl)
theorem dX0_reuse_10 : decode cX0_reuse 10 = .ok (.i2l, 1) := dk_133 (dk_at dksX0_reuse_0 10 rfl rfl)
theorem dX0_reuse_11 : decode cX0_reuse 11 = .ok (.lastore, 1) := dk_80 (dk_at dksX0_reuse_0 11 rfl rfl)
theorem dX0_reuse_12 : decode cX0_reuse 12 = .ok (.goto 11, 3) := dk_167 0 11 (dk_at dksX0_reuse_0 12 rfl rfl)
theorem dX0_reuse_15 : decode cX0_reuse 15 = .ok (.astore 5, 2) := dk_58 5 (dk_at dksX0_reuse_0 15 rfl rfl)
theorem dX0_reuse_17 : decode cX0_reuse 17 = .ok (.iconst 1, 1) := dk_4 (dk_at dksX0_reuse_0 17 rfl rfl)
theorem dX0_reuse_18 : decode cX0_reuse 18 = .ok (.ireturn, 1) := dk_172 (dk_at dksX0_reuse_0 18 rfl rfl)
theorem dX0_reuse_19 : decode cX0_reuse 19 = .ok (.astore 5, 2) := dk_58 5 (dk_at dksX0_reuse_0 19 rfl rfl)
theorem dX0_reuse_21 : decode cX0_reuse 21 = .ok (.iconst 2, 1) := dk_5 (dk_at dksX0_reuse_0 21 rfl rfl)
theorem dX0_reuse_22 : decode cX0_reuse 22 = .ok (.ireturn, 1) := dk_172 (dk_at dksX0_reuse_0 22 rfl rfl)
theorem dX0_reuse_23 : decode cX0_reuse 23 = .ok (.iconst 0, 1) := dk_3 (dk_at dksX0_reuse_0 23 rfl rfl)
theorem dX0_reuse_24 : decode cX0_reuse 24 = .ok (.ireturn, 1) := dk_172 (dk_at dksX0_reuse_1 0 rfl rfl)
abbrev cX0_next : ByteArray := method_16_code
def yX0_next : MethodName := ⟨RX0, "next", "(LLimbBenches;II[J)I"⟩
def dkwX0_next_0 : List UInt8 := [45, 3, 42, 27, 28, 182, 0, 62, 133, 80, 167, 0, 11, 58, 4, 4, 172, 58, 4, 5, 172, 3, 172]
abbrev dktX0_next_0 : List UInt8 := dkwX0_next_0 ++ []
theorem dksX0_next_0 : cX0_next.data.toList.drop 0 = dktX0_next_0 := by decide +kernel
theorem dX0_next_0 : decode cX0_next 0 = .ok (.aload_n 3, 1) := dk_45 (dk_at dksX0_next_0 0 rfl rfl)
theorem dX0_next_1 : decode cX0_next 1 = .ok (.iconst 0, 1) := dk_3 (dk_at dksX0_next_0 1 rfl rfl)
theorem dX0_next_2 : decode cX0_next 2 = .ok (.aload_n 0, 1) := dk_42 (dk_at dksX0_next_0 2 rfl rfl)
theorem dX0_next_3 : decode cX0_next 3 = .ok (.iload_n 1, 1) := dk_27 (dk_at dksX0_next_0 3 rfl rfl)
theorem dX0_next_4 : decode cX0_next 4 = .ok (.iload_n 2, 1) := dk_28 (dk_at dksX0_next_0 4 rfl rfl)
theorem dX0_next_5 : decode cX0_next 5 = .ok (.invokevirtual 62, 3) := dk_182 0 62 (dk_at dksX0_next_0 5 rfl rfl)
theorem dX0_next_8 : decode cX0_next 8 = .ok (.i2l, 1) := dk_133 (dk_at dksX0_next_0 8 rfl rfl)
theorem dX0_next_9 : decode cX0_next 9 = .ok (.lastore, 1) := dk_80 (dk_at dksX0_next_0 9 rfl rfl)
theorem dX0_next_10 : decode cX0_next 10 = .ok (.goto 11, 3) := dk_167 0 11 (dk_at dksX0_next_0 10 rfl rfl)
theorem dX0_next_13 : decode cX0_next 13 = .ok (.astore 4, 2) := dk_58 4 (dk_at dksX0_next_0 13 rfl rfl)
theorem dX0_next_15 : decode cX0_next 15 = .ok (.iconst 1, 1) := dk_4 (dk_at dksX0_next_0 15 rfl rfl)
theorem dX0_next_16 : decode cX0_next 16 = .ok (.ireturn, 1) := dk_172 (dk_at dksX0_next_0 16 rfl rfl)
theorem dX0_next_17 : decode cX0_next 17 = .ok (.astore 4, 2) := dk_58 4 (dk_at dksX0_next_0 17 rfl rfl)
theorem dX0_next_19 : decode cX0_next 19 = .ok (.iconst 2, 1) := dk_5 (dk_at dksX0_next_0 19 rfl rfl)
theorem dX0_next_20 : decode cX0_next 20 = .ok (.ireturn, 1) := dk_172 (dk_at dksX0_next_0 20 rfl rfl)
theorem dX0_next_21 : decode cX0_next 21 = .ok (.iconst 0, 1) := dk_3 (dk_at dksX0_next_0 21 rfl rfl)
theorem dX0_next_22 : decode cX0_next 22 = .ok (.ireturn, 1) := dk_172 (dk_at dksX0_next_0 22 rfl rfl)
abbrev cX0_take : ByteArray := method_17_code
def yX0_take : MethodName := ⟨RX0, "take", "(LLimbBenches;III[J)I"⟩
def dkwX0_take_1 : List UInt8 := [58, 5, 6, 172, 3, 172]
abbrev dktX0_take_1 : List UInt8 := dkwX0_take_1 ++ []
def dkwX0_take_0 : List UInt8 := [25, 4, 3, 42, 27, 28, 29, 182, 0, 65, 133, 80, 167, 0, 15, 58, 5, 4, 172, 58, 5, 5, 172]
abbrev dktX0_take_0 : List UInt8 := dkwX0_take_0 ++ dktX0_take_1
theorem dksX0_take_0 : cX0_take.data.toList.drop 0 = dktX0_take_0 := by decide +kernel
theorem dksX0_take_1 : cX0_take.data.toList.drop 23 = dktX0_take_1 := dk_seg dksX0_take_0 23 rfl rfl
theorem dX0_take_0 : decode cX0_take 0 = .ok (.aload 4, 2) := dk_25 4 (dk_at dksX0_take_0 0 rfl rfl)
theorem dX0_take_2 : decode cX0_take 2 = .ok (.iconst 0, 1) := dk_3 (dk_at dksX0_take_0 2 rfl rfl)
theorem dX0_take_3 : decode cX0_take 3 = .ok (.aload_n 0, 1) := dk_42 (dk_at dksX0_take_0 3 rfl rfl)
theorem dX0_take_4 : decode cX0_take 4 = .ok (.iload_n 1, 1) := dk_27 (dk_at dksX0_take_0 4 rfl rfl)
theorem dX0_take_5 : decode cX0_take 5 = .ok (.iload_n 2, 1) := dk_28 (dk_at dksX0_take_0 5 rfl rfl)
theorem dX0_take_6 : decode cX0_take 6 = .ok (.iload_n 3, 1) := dk_29 (dk_at dksX0_take_0 6 rfl rfl)
theorem dX0_take_7 : decode cX0_take 7 = .ok (.invokevirtual 65, 3) := dk_182 0 65 (dk_at dksX0_take_0 7 rfl rfl)
theorem dX0_take_10 : decode cX0_take 10 = .ok (.i2l, 1) := dk_133 (dk_at dksX0_take_0 10 rfl rfl)
theorem dX0_take_11 : decode cX0_take 11 = .ok (.lastore, 1) := dk_80 (dk_at dksX0_take_0 11 rfl rfl)
theorem dX0_take_12 : decode cX0_take 12 = .ok (.goto 15, 3) := dk_167 0 15 (dk_at dksX0_take_0 12 rfl rfl)
theorem dX0_take_15 : decode cX0_take 15 = .ok (.astore 5, 2) := dk_58 5 (dk_at dksX0_take_0 15 rfl rfl)
theorem dX0_take_17 : decode cX0_take 17 = .ok (.iconst 1, 1) := dk_4 (dk_at dksX0_take_0 17 rfl rfl)
theorem dX0_take_18 : decode cX0_take 18 = .ok (.ireturn, 1) := dk_172 (dk_at dksX0_take_0 18 rfl rfl)
theorem dX0_take_19 : decode cX0_take 19 = .ok (.astore 5, 2) := dk_58 5 (dk_at dksX0_take_0 19 rfl rfl)
theorem dX0_take_21 : decode cX0_take 21 = .ok (.iconst 2, 1) := dk_5 (dk_at dksX0_take_0 21 rfl rfl)
theorem dX0_take_22 : decode cX0_take 22 = .ok (.ireturn, 1) := dk_172 (dk_at dksX0_take_0 22 rfl rfl)
theorem dX0_take_23 : decode cX0_take 23 = .ok (.astore 5, 2) := dk_58 5 (dk_at dksX0_take_1 0 rfl rfl)
theorem dX0_take_25 : decode cX0_take 25 = .ok (.iconst 3, 1) := dk_6 (dk_at dksX0_take_1 2 rfl rfl)
theorem dX0_take_26 : decode cX0_take 26 = .ok (.ireturn, 1) := dk_172 (dk_at dksX0_take_1 3 rfl rfl)
theorem dX0_take_27 : decode cX0_take 27 = .ok (.iconst 0, 1) := dk_3 (dk_at dksX0_take_1 4 rfl rfl)
theorem dX0_take_28 : decode cX0_take 28 = .ok (.ireturn, 1) := dk_172 (dk_at dksX0_take_1 5 rfl rfl)
abbrev cX0_beside : ByteArray := method_18_code
def yX0_beside : MethodName := ⟨RX0, "beside", "(LLimbBenches;II[J)I"⟩
def dkwX0_beside_0 : List UInt8 := [45, 3, 42, 27, 28, 182, 0, 68, 133, 80, 167, 0, 11, 58, 4, 4, 172, 58, 4, 5, 172, 3, 172]
abbrev dktX0_beside_0 : List UInt8 := dkwX0_beside_0 ++ []
theorem dksX0_beside_0 : cX0_beside.data.toList.drop 0 = dktX0_beside_0 := by decide +kernel
theorem dX0_beside_0 : decode cX0_beside 0 = .ok (.aload_n 3, 1) := dk_45 (dk_at dksX0_beside_0 0 rfl rfl)
theorem dX0_beside_1 : decode cX0_beside 1 = .ok (.iconst 0, 1) := dk_3 (dk_at dksX0_beside_0 1 rfl rfl)
theorem dX0_beside_2 : decode cX0_beside 2 = .ok (.aload_n 0, 1) := dk_42 (dk_at dksX0_beside_0 2 rfl rfl)
theorem dX0_beside_3 : decode cX0_beside 3 = .ok (.iload_n 1, 1) := dk_27 (dk_at dksX0_beside_0 3 rfl rfl)
theorem dX0_beside_4 : decode cX0_beside 4 = .ok (.iload_n 2, 1) := dk_28 (dk_at dksX0_beside_0 4 rfl rfl)
theorem dX0_beside_5 : decode cX0_beside 5 = .ok (.invokevirtual 68, 3) := dk_182 0 68 (dk_at dksX0_beside_0 5 rfl rfl)
theorem dX0_beside_8 : decode cX0_beside 8 = .ok (.i2l, 1) := dk_133 (dk_at dksX0_beside_0 8 rfl rfl)
theorem dX0_beside_9 : decode cX0_beside 9 = .ok (.lastore, 1) := dk_80 (dk_at dksX0_beside_0 9 rfl rfl)
theorem dX0_beside_10 : decode cX0_beside 10 = .ok (.goto 11, 3) := dk_167 0 11 (dk_at dksX0_beside_0 10 rfl rfl)
theorem dX0_beside_13 : decode cX0_beside 13 = .ok (.astore 4, 2) := dk_58 4 (dk_at dksX0_beside_0 13 rfl rfl)
theorem dX0_beside_15 : decode cX0_beside 15 = .ok (.iconst 1, 1) := dk_4 (dk_at dksX0_beside_0 15 rfl rfl)
theorem dX0_beside_16 : decode cX0_beside 16 = .ok (.ireturn, 1) := dk_172 (dk_at dksX0_beside_0 16 rfl rfl)
theorem dX0_beside_17 : decode cX0_beside 17 = .ok (.astore 4, 2) := dk_58 4 (dk_at dksX0_beside_0 17 rfl rfl)
theorem dX0_beside_19 : decode cX0_beside 19 = .ok (.iconst 2, 1) := dk_5 (dk_at dksX0_beside_0 19 rfl rfl)
theorem dX0_beside_20 : decode cX0_beside 20 = .ok (.ireturn, 1) := dk_172 (dk_at dksX0_beside_0 20 rfl rfl)
theorem dX0_beside_21 : decode cX0_beside 21 = .ok (.iconst 0, 1) := dk_3 (dk_at dksX0_beside_0 21 rfl rfl)
theorem dX0_beside_22 : decode cX0_beside 22 = .ok (.ireturn, 1) := dk_172 (dk_at dksX0_beside_0 22 rfl rfl)
abbrev cX0_fits : ByteArray := method_19_code
def yX0_fits : MethodName := ⟨RX0, "fits", "(LLimbBenches;III[J)I"⟩
def dkwX0_fits_1 : List UInt8 := [172]
abbrev dktX0_fits_1 : List UInt8 := dkwX0_fits_1 ++ []
def dkwX0_fits_0 : List UInt8 := [25, 4, 3, 42, 27, 28, 29, 182, 0, 71, 133, 80, 167, 0, 11, 58, 5, 4, 172, 58, 5, 5, 172, 3]
abbrev dktX0_fits_0 : List UInt8 := dkwX0_fits_0 ++ dktX0_fits_1
theorem dksX0_fits_0 : cX0_fits.data.toList.drop 0 = dktX0_fits_0 := by decide +kernel
theorem dksX0_fits_1 : cX0_fits.data.toList.drop 24 = dktX0_fits_1 := dk_seg dksX0_fits_0 24 rfl rfl
theorem dX0_fits_0 : decode cX0_fits 0 = .ok (.aload 4, 2) := dk_25 4 (dk_at dksX0_fits_0 0 rfl rfl)
theorem dX0_fits_2 : decode cX0_fits 2 = .ok (.iconst 0, 1) := dk_3 (dk_at dksX0_fits_0 2 rfl rfl)
theorem dX0_fits_3 : decode cX0_fits 3 = .ok (.aload_n 0, 1) := dk_42 (dk_at dksX0_fits_0 3 rfl rfl)
theorem dX0_fits_4 : decode cX0_fits 4 = .ok (.iload_n 1, 1) := dk_27 (dk_at dksX0_fits_0 4 rfl rfl)
theorem dX0_fits_5 : decode cX0_fits 5 = .ok (.iload_n 2, 1) := dk_28 (dk_at dksX0_fits_0 5 rfl rfl)
theorem dX0_fits_6 : decode cX0_fits 6 = .ok (.iload_n 3, 1) := dk_29 (dk_at dksX0_fits_0 6 rfl rfl)
theorem dX0_fits_7 : decode cX0_fits 7 = .ok (.invokevirtual 71, 3) := dk_182 0 71 (dk_at dksX0_fits_0 7 rfl rfl)
theorem dX0_fits_10 : decode cX0_fits 10 = .ok (.i2l, 1) := dk_133 (dk_at dksX0_fits_0 10 rfl rfl)
theorem dX0_fits_11 : decode cX0_fits 11 = .ok (.lastore, 1) := dk_80 (dk_at dksX0_fits_0 11 rfl rfl)
theorem dX0_fits_12 : decode cX0_fits 12 = .ok (.goto 11, 3) := dk_167 0 11 (dk_at dksX0_fits_0 12 rfl rfl)
theorem dX0_fits_15 : decode cX0_fits 15 = .ok (.astore 5, 2) := dk_58 5 (dk_at dksX0_fits_0 15 rfl rfl)
theorem dX0_fits_17 : decode cX0_fits 17 = .ok (.iconst 1, 1) := dk_4 (dk_at dksX0_fits_0 17 rfl rfl)
theorem dX0_fits_18 : decode cX0_fits 18 = .ok (.ireturn, 1) := dk_172 (dk_at dksX0_fits_0 18 rfl rfl)
theorem dX0_fits_19 : decode cX0_fits 19 = .ok (.astore 5, 2) := dk_58 5 (dk_at dksX0_fits_0 19 rfl rfl)
theorem dX0_fits_21 : decode cX0_fits 21 = .ok (.iconst 2, 1) := dk_5 (dk_at dksX0_fits_0 21 rfl rfl)
theorem dX0_fits_22 : decode cX0_fits 22 = .ok (.ireturn, 1) := dk_172 (dk_at dksX0_fits_0 22 rfl rfl)
theorem dX0_fits_23 : decode cX0_fits 23 = .ok (.iconst 0, 1) := dk_3 (dk_at dksX0_fits_0 23 rfl rfl)
theorem dX0_fits_24 : decode cX0_fits 24 = .ok (.ireturn, 1) := dk_172 (dk_at dksX0_fits_1 0 rfl rfl)
abbrev cX0_lacks : ByteArray := method_20_code
def yX0_lacks : MethodName := ⟨RX0, "lacks", "(LLimbBenches;II[J)I"⟩
def dkwX0_lacks_0 : List UInt8 := [45, 3, 42, 27, 28, 182, 0, 74, 133, 80, 167, 0, 11, 58, 4, 4, 172, 58, 4, 5, 172, 3, 172]
abbrev dktX0_lacks_0 : List UInt8 := dkwX0_lacks_0 ++ []
theorem dksX0_lacks_0 : cX0_lacks.data.toList.drop 0 = dktX0_lacks_0 := by decide +kernel
theorem dX0_lacks_0 : decode cX0_lacks 0 = .ok (.aload_n 3, 1) := dk_45 (dk_at dksX0_lacks_0 0 rfl rfl)
theorem dX0_lacks_1 : decode cX0_lacks 1 = .ok (.iconst 0, 1) := dk_3 (dk_at dksX0_lacks_0 1 rfl rfl)
theorem dX0_lacks_2 : decode cX0_lacks 2 = .ok (.aload_n 0, 1) := dk_42 (dk_at dksX0_lacks_0 2 rfl rfl)
theorem dX0_lacks_3 : decode cX0_lacks 3 = .ok (.iload_n 1, 1) := dk_27 (dk_at dksX0_lacks_0 3 rfl rfl)
theorem dX0_lacks_4 : decode cX0_lacks 4 = .ok (.iload_n 2, 1) := dk_28 (dk_at dksX0_lacks_0 4 rfl rfl)
theorem dX0_lacks_5 : decode cX0_lacks 5 = .ok (.invokevirtual 74, 3) := dk_182 0 74 (dk_at dksX0_lacks_0 5 rfl rfl)
theorem dX0_lacks_8 : decode cX0_lacks 8 = .ok (.i2l, 1) := dk_133 (dk_at dksX0_lacks_0 8 rfl rfl)
theorem dX0_lacks_9 : decode cX0_lacks 9 = .ok (.lastore, 1) := dk_80 (dk_at dksX0_lacks_0 9 rfl rfl)
theorem dX0_lacks_10 : decode cX0_lacks 10 = .ok (.goto 11, 3) := dk_167 0 11 (dk_at dksX0_lacks_0 10 rfl rfl)
theorem dX0_lacks_13 : decode cX0_lacks 13 = .ok (.astore 4, 2) := dk_58 4 (dk_at dksX0_lacks_0 13 rfl rfl)
theorem dX0_lacks_15 : decode cX0_lacks 15 = .ok (.iconst 1, 1) := dk_4 (dk_at dksX0_lacks_0 15 rfl rfl)
theorem dX0_lacks_16 : decode cX0_lacks 16 = .ok (.ireturn, 1) := dk_172 (dk_at dksX0_lacks_0 16 rfl rfl)
theorem dX0_lacks_17 : decode cX0_lacks 17 = .ok (.astore 4, 2) := dk_58 4 (dk_at dksX0_lacks_0 17 rfl rfl)
theorem dX0_lacks_19 : decode cX0_lacks 19 = .ok (.iconst 2, 1) := dk_5 (dk_at dksX0_lacks_0 19 rfl rfl)
theorem dX0_lacks_20 : decode cX0_lacks 20 = .ok (.ireturn, 1) := dk_172 (dk_at dksX0_lacks_0 20 rfl rfl)
theorem dX0_lacks_21 : decode cX0_lacks 21 = .ok (.iconst 0, 1) := dk_3 (dk_at dksX0_lacks_0 21 rfl rfl)
theorem dX0_lacks_22 : decode cX0_lacks 22 = .ok (.ireturn, 1) := dk_172 (dk_at dksX0_lacks_0 22 rfl rfl)
abbrev cX0_choice : ByteArray := method_21_code
def yX0_choice : MethodName := ⟨RX0, "choice", "(LLimbBenches;II[J)I"⟩
def dkwX0_choice_0 : List UInt8 := [45, 3, 42, 27, 28, 182, 0, 77, 133, 80, 167, 0, 11, 58, 4, 4, 172, 58, 4, 5, 172, 3, 172]
abbrev dktX0_choice_0 : List UInt8 := dkwX0_choice_0 ++ []
theorem dksX0_choice_0 : cX0_choice.data.toList.drop 0 = dktX0_choice_0 := by decide +kernel
theorem dX0_choice_0 : decode cX0_choice 0 = .ok (.aload_n 3, 1) := dk_45 (dk_at dksX0_choice_0 0 rfl rfl)
theorem dX0_choice_1 : decode cX0_choice 1 = .ok (.iconst 0, 1) := dk_3 (dk_at dksX0_choice_0 1 rfl rfl)
theorem dX0_choice_2 : decode cX0_choice 2 = .ok (.aload_n 0, 1) := dk_42 (dk_at dksX0_choice_0 2 rfl rfl)
theorem dX0_choice_3 : decode cX0_choice 3 = .ok (.iload_n 1, 1) := dk_27 (dk_at dksX0_choice_0 3 rfl rfl)
theorem dX0_choice_4 : decode cX0_choice 4 = .ok (.iload_n 2, 1) := dk_28 (dk_at dksX0_choice_0 4 rfl rfl)
theorem dX0_choice_5 : decode cX0_choice 5 = .ok (.invokevirtual 77, 3) := dk_182 0 77 (dk_at dksX0_choice_0 5 rfl rfl)
theorem dX0_choice_8 : decode cX0_choice 8 = .ok (.i2l, 1) := dk_133 (dk_at dksX0_choice_0 8 rfl rfl)
theorem dX0_choice_9 : decode cX0_choice 9 = .ok (.lastore, 1) := dk_80 (dk_at dksX0_choice_0 9 rfl rfl)
theorem dX0_choice_10 : decode cX0_choice 10 = .ok (.goto 11, 3) := dk_167 0 11 (dk_at dksX0_choice_0 10 rfl rfl)
theorem dX0_choice_13 : decode cX0_choice 13 = .ok (.astore 4, 2) := dk_58 4 (dk_at dksX0_choice_0 13 rfl rfl)
theorem dX0_choice_15 : decode cX0_choice 15 = .ok (.iconst 1, 1) := dk_4 (dk_at dksX0_choice_0 15 rfl rfl)
theorem dX0_choice_16 : decode cX0_choice 16 = .ok (.ireturn, 1) := dk_172 (dk_at dksX0_choice_0 16 rfl rfl)
theorem dX0_choice_17 : decode cX0_choice 17 = .ok (.astore 4, 2) := dk_58 4 (dk_at dksX0_choice_0 17 rfl rfl)
theorem dX0_choice_19 : decode cX0_choice 19 = .ok (.iconst 2, 1) := dk_5 (dk_at dksX0_choice_0 19 rfl rfl)
theorem dX0_choice_20 : decode cX0_choice 20 = .ok (.ireturn, 1) := dk_172 (dk_at dksX0_choice_0 20 rfl rfl)
theorem dX0_choice_21 : decode cX0_choice 21 = .ok (.iconst 0, 1) := dk_3 (dk_at dksX0_choice_0 21 rfl rfl)
theorem dX0_choice_22 : decode cX0_choice 22 = .ok (.ireturn, 1) := dk_172 (dk_at dksX0_choice_0 22 rfl rfl)
abbrev cX0_choose : ByteArray := method_22_code
def yX0_choose : MethodName := ⟨RX0, "choose", "(LLimbBenches;II[J)I"⟩
def dkwX0_choose_0 : List UInt8 := [45, 3, 42, 27, 28, 182, 0, 80, 133, 80, 167, 0, 11, 58, 4, 4, 172, 58, 4, 5, 172, 3, 172]
abbrev dktX0_choose_0 : List UInt8 := dkwX0_choose_0 ++ []
theorem dksX0_choose_0 : cX0_choose.data.toList.drop 0 = dktX0_choose_0 := by decide +kernel
theorem dX0_choose_0 : decode cX0_choose 0 = .ok (.aload_n 3, 1) := dk_45 (dk_at dksX0_choose_0 0 rfl rfl)
theorem dX0_choose_1 : decode cX0_choose 1 = .ok (.iconst 0, 1) := dk_3 (dk_at dksX0_choose_0 1 rfl rfl)
theorem dX0_choose_2 : decode cX0_choose 2 = .ok (.aload_n 0, 1) := dk_42 (dk_at dksX0_choose_0 2 rfl rfl)
theorem dX0_choose_3 : decode cX0_choose 3 = .ok (.iload_n 1, 1) := dk_27 (dk_at dksX0_choose_0 3 rfl rfl)
theorem dX0_choose_4 : decode cX0_choose 4 = .ok (.iload_n 2, 1) := dk_28 (dk_at dksX0_choose_0 4 rfl rfl)
theorem dX0_choose_5 : decode cX0_choose 5 = .ok (.invokevirtual 80, 3) := dk_182 0 80 (dk_at dksX0_choose_0 5 rfl rfl)
theorem dX0_choose_8 : decode cX0_choose 8 = .ok (.i2l, 1) := dk_133 (dk_at dksX0_choose_0 8 rfl rfl)
theorem dX0_choose_9 : decode cX0_choose 9 = .ok (.lastore, 1) := dk_80 (dk_at dksX0_choose_0 9 rfl rfl)
theorem dX0_choose_10 : decode cX0_choose 10 = .ok (.goto 11, 3) := dk_167 0 11 (dk_at dksX0_choose_0 10 rfl rfl)
theorem dX0_choose_13 : decode cX0_choose 13 = .ok (.astore 4, 2) := dk_58 4 (dk_at dksX0_choose_0 13 rfl rfl)
theorem dX0_choose_15 : decode cX0_choose 15 = .ok (.iconst 1, 1) := dk_4 (dk_at dksX0_choose_0 15 rfl rfl)
theorem dX0_choose_16 : decode cX0_choose 16 = .ok (.ireturn, 1) := dk_172 (dk_at dksX0_choose_0 16 rfl rfl)
theorem dX0_choose_17 : decode cX0_choose 17 = .ok (.astore 4, 2) := dk_58 4 (dk_at dksX0_choose_0 17 rfl rfl)
theorem dX0_choose_19 : decode cX0_choose 19 = .ok (.iconst 2, 1) := dk_5 (dk_at dksX0_choose_0 19 rfl rfl)
theorem dX0_choose_20 : decode cX0_choose 20 = .ok (.ireturn, 1) := dk_172 (dk_at dksX0_choose_0 20 rfl rfl)
theorem dX0_choose_21 : decode cX0_choose 21 = .ok (.iconst 0, 1) := dk_3 (dk_at dksX0_choose_0 21 rfl rfl)
theorem dX0_choose_22 : decode cX0_choose 22 = .ok (.ireturn, 1) := dk_172 (dk_at dksX0_choose_0 22 rfl rfl)
abbrev cX0_clause : ByteArray := method_23_code
def yX0_clause : MethodName := ⟨RX0, "clause", "(LLimbBenches;II[J)I"⟩
def dkwX0_clause_0 : List UInt8 := [45, 3, 42, 27, 28, 182, 0, 83, 133, 80, 167, 0, 11, 58, 4, 4, 172, 58, 4, 5, 172, 3, 172]
abbrev dktX0_clause_0 : List UInt8 := dkwX0_clause_0 ++ []
theorem dksX0_clause_0 : cX0_clause.data.toList.drop 0 = dktX0_clause_0 := by decide +kernel
theorem dX0_clause_0 : decode cX0_clause 0 = .ok (.aload_n 3, 1) := dk_45 (dk_at dksX0_clause_0 0 rfl rfl)
theorem dX0_clause_1 : decode cX0_clause 1 = .ok (.iconst 0, 1) := dk_3 (dk_at dksX0_clause_0 1 rfl rfl)
theorem dX0_clause_2 : decode cX0_clause 2 = .ok (.aload_n 0, 1) := dk_42 (dk_at dksX0_clause_0 2 rfl rfl)
theorem dX0_clause_3 : decode cX0_clause 3 = .ok (.iload_n 1, 1) := dk_27 (dk_at dksX0_clause_0 3 rfl rfl)
theorem dX0_clause_4 : decode cX0_clause 4 = .ok (.iload_n 2, 1) := dk_28 (dk_at dksX0_clause_0 4 rfl rfl)
theorem dX0_clause_5 : decode cX0_clause 5 = .ok (.invokevirtual 83, 3) := dk_182 0 83 (dk_at dksX0_clause_0 5 rfl rfl)
theorem dX0_clause_8 : decode cX0_clause 8 = .ok (.i2l, 1) := dk_133 (dk_at dksX0_clause_0 8 rfl rfl)
theorem dX0_clause_9 : decode cX0_clause 9 = .ok (.lastore, 1) := dk_80 (dk_at dksX0_clause_0 9 rfl rfl)
theorem dX0_clause_10 : decode cX0_clause 10 = .ok (.goto 11, 3) := dk_167 0 11 (dk_at dksX0_clause_0 10 rfl rfl)
theorem dX0_clause_13 : decode cX0_clause 13 = .ok (.astore 4, 2) := dk_58 4 (dk_at dksX0_clause_0 13 rfl rfl)
theorem dX0_clause_15 : decode cX0_clause 15 = .ok (.iconst 1, 1) := dk_4 (dk_at dksX0_clause_0 15 rfl rfl)
theorem dX0_clause_16 : decode cX0_clause 16 = .ok (.ireturn, 1) := dk_172 (dk_at dksX0_clause_0 16 rfl rfl)
theorem dX0_clause_17 : decode cX0_clause 17 = .ok (.astore 4, 2) := dk_58 4 (dk_at dksX0_clause_0 17 rfl rfl)
theorem dX0_clause_19 : decode cX0_clause 19 = .ok (.iconst 2, 1) := dk_5 (dk_at dksX0_clause_0 19 rfl rfl)
theorem dX0_clause_20 : decode cX0_clause 20 = .ok (.ireturn, 1) := dk_172 (dk_at dksX0_clause_0 20 rfl rfl)
theorem dX0_clause_21 : decode cX0_clause 21 = .ok (.iconst 0, 1) := dk_3 (dk_at dksX0_clause_0 21 rfl rfl)
theorem dX0_clause_22 : decode cX0_clause 22 = .ok (.ireturn, 1) := dk_172 (dk_at dksX0_clause_0 22 rfl rfl)
abbrev cX0_job : ByteArray := method_24_code
def yX0_job : MethodName := ⟨RX0, "job", "(LLimbBenches;IIII[J)I"⟩
def dkwX0_job_1 : List UInt8 := [172, 3, 172]
abbrev dktX0_job_1 : List UInt8 := dkwX0_job_1 ++ []
def dkwX0_job_0 : List UInt8 := [25, 5, 3, 42, 27, 28, 29, 21, 4, 182, 0, 86, 133, 80, 167, 0, 11, 58, 6, 4, 172, 58, 6, 5]
abbrev dktX0_job_0 : List UInt8 := dkwX0_job_0 ++ dktX0_job_1
theorem dksX0_job_0 : cX0_job.data.toList.drop 0 = dktX0_job_0 := by decide +kernel
theorem dksX0_job_1 : cX0_job.data.toList.drop 24 = dktX0_job_1 := dk_seg dksX0_job_0 24 rfl rfl
theorem dX0_job_0 : decode cX0_job 0 = .ok (.aload 5, 2) := dk_25 5 (dk_at dksX0_job_0 0 rfl rfl)
theorem dX0_job_2 : decode cX0_job 2 = .ok (.iconst 0, 1) := dk_3 (dk_at dksX0_job_0 2 rfl rfl)
theorem dX0_job_3 : decode cX0_job 3 = .ok (.aload_n 0, 1) := dk_42 (dk_at dksX0_job_0 3 rfl rfl)
theorem dX0_job_4 : decode cX0_job 4 = .ok (.iload_n 1, 1) := dk_27 (dk_at dksX0_job_0 4 rfl rfl)
theorem dX0_job_5 : decode cX0_job 5 = .ok (.iload_n 2, 1) := dk_28 (dk_at dksX0_job_0 5 rfl rfl)
theorem dX0_job_6 : decode cX0_job 6 = .ok (.iload_n 3, 1) := dk_29 (dk_at dksX0_job_0 6 rfl rfl)
theorem dX0_job_7 : decode cX0_job 7 = .ok (.iload 4, 2) := dk_21 4 (dk_at dksX0_job_0 7 rfl rfl)
theorem dX0_job_9 : decode cX0_job 9 = .ok (.invokevirtual 86, 3) := dk_182 0 86 (dk_at dksX0_job_0 9 rfl rfl)
theorem dX0_job_12 : decode cX0_job 12 = .ok (.i2l, 1) := dk_133 (dk_at dksX0_job_0 12 rfl rfl)
theorem dX0_job_13 : decode cX0_job 13 = .ok (.lastore, 1) := dk_80 (dk_at dksX0_job_0 13 rfl rfl)
theorem dX0_job_14 : decode cX0_job 14 = .ok (.goto 11, 3) := dk_167 0 11 (dk_at dksX0_job_0 14 rfl rfl)
theorem dX0_job_17 : decode cX0_job 17 = .ok (.astore 6, 2) := dk_58 6 (dk_at dksX0_job_0 17 rfl rfl)
theorem dX0_job_19 : decode cX0_job 19 = .ok (.iconst 1, 1) := dk_4 (dk_at dksX0_job_0 19 rfl rfl)
theorem dX0_job_20 : decode cX0_job 20 = .ok (.ireturn, 1) := dk_172 (dk_at dksX0_job_0 20 rfl rfl)
theorem dX0_job_21 : decode cX0_job 21 = .ok (.astore 6, 2) := dk_58 6 (dk_at dksX0_job_0 21 rfl rfl)
theorem dX0_job_23 : decode cX0_job 23 = .ok (.iconst 2, 1) := dk_5 (dk_at dksX0_job_0 23 rfl rfl)
theorem dX0_job_24 : decode cX0_job 24 = .ok (.ireturn, 1) := dk_172 (dk_at dksX0_job_1 0 rfl rfl)
theorem dX0_job_25 : decode cX0_job 25 = .ok (.iconst 0, 1) := dk_3 (dk_at dksX0_job_1 1 rfl rfl)
theorem dX0_job_26 : decode cX0_job 26 = .ok (.ireturn, 1) := dk_172 (dk_at dksX0_job_1 2 rfl rfl)
abbrev cX0_benches : ByteArray := method_25_code
def yX0_benches : MethodName := ⟨RX0, "benches", "(LLimbBenches;I[J)I"⟩
def dkwX0_benches_0 : List UInt8 := [44, 3, 42, 27, 182, 0, 89, 133, 80, 167, 0, 6, 78, 4, 172, 3, 172]
abbrev dktX0_benches_0 : List UInt8 := dkwX0_benches_0 ++ []
theorem dksX0_benches_0 : cX0_benches.data.toList.drop 0 = dktX0_benches_0 := by decide +kernel
theorem dX0_benches_0 : decode cX0_benches 0 = .ok (.aload_n 2, 1) := dk_44 (dk_at dksX0_benches_0 0 rfl rfl)
theorem dX0_benches_1 : decode cX0_benches 1 = .ok (.iconst 0, 1) := dk_3 (dk_at dksX0_benches_0 1 rfl rfl)
theorem dX0_benches_2 : decode cX0_benches 2 = .ok (.aload_n 0, 1) := dk_42 (dk_at dksX0_benches_0 2 rfl rfl)
theorem dX0_benches_3 : decode cX0_benches 3 = .ok (.iload_n 1, 1) := dk_27 (dk_at dksX0_benches_0 3 rfl rfl)
theorem dX0_benches_4 : decode cX0_benches 4 = .ok (.invokevirtual 89, 3) := dk_182 0 89 (dk_at dksX0_benches_0 4 rfl rfl)
theorem dX0_benches_7 : decode cX0_benches 7 = .ok (.i2l, 1) := dk_133 (dk_at dksX0_benches_0 7 rfl rfl)
theorem dX0_benches_8 : decode cX0_benches 8 = .ok (.lastore, 1) := dk_80 (dk_at dksX0_benches_0 8 rfl rfl)
theorem dX0_benches_9 : decode cX0_benches 9 = .ok (.goto 6, 3) := dk_167 0 6 (dk_at dksX0_benches_0 9 rfl rfl)
theorem dX0_benches_12 : decode cX0_benches 12 = .ok (.astore_n 3, 1) := dk_78 (dk_at dksX0_benches_0 12 rfl rfl)
theorem dX0_benches_13 : decode cX0_benches 13 = .ok (.iconst 1, 1) := dk_4 (dk_at dksX0_benches_0 13 rfl rfl)
theorem dX0_benches_14 : decode cX0_benches 14 = .ok (.ireturn, 1) := dk_172 (dk_at dksX0_benches_0 14 rfl rfl)
theorem dX0_benches_15 : decode cX0_benches 15 = .ok (.iconst 0, 1) := dk_3 (dk_at dksX0_benches_0 15 rfl rfl)
theorem dX0_benches_16 : decode cX0_benches 16 = .ok (.ireturn, 1) := dk_172 (dk_at dksX0_benches_0 16 rfl rfl)
abbrev cX0_cost : ByteArray := method_26_code
def yX0_cost : MethodName := ⟨RX0, "cost", "(LLimbBenches;I[J)I"⟩
def dkwX0_cost_0 : List UInt8 := [44, 3, 42, 27, 182, 0, 92, 133, 80, 167, 0, 6, 78, 4, 172, 3, 172]
abbrev dktX0_cost_0 : List UInt8 := dkwX0_cost_0 ++ []
theorem dksX0_cost_0 : cX0_cost.data.toList.drop 0 = dktX0_cost_0 := by decide +kernel
theorem dX0_cost_0 : decode cX0_cost 0 = .ok (.aload_n 2, 1) := dk_44 (dk_at dksX0_cost_0 0 rfl rfl)
theorem dX0_cost_1 : decode cX0_cost 1 = .ok (.iconst 0, 1) := dk_3 (dk_at dksX0_cost_0 1 rfl rfl)
theorem dX0_cost_2 : decode cX0_cost 2 = .ok (.aload_n 0, 1) := dk_42 (dk_at dksX0_cost_0 2 rfl rfl)
theorem dX0_cost_3 : decode cX0_cost 3 = .ok (.iload_n 1, 1) := dk_27 (dk_at dksX0_cost_0 3 rfl rfl)
theorem dX0_cost_4 : decode cX0_cost 4 = .ok (.invokevirtual 92, 3) := dk_182 0 92 (dk_at dksX0_cost_0 4 rfl rfl)
theorem dX0_cost_7 : decode cX0_cost 7 = .ok (.i2l, 1) := dk_133 (dk_at dksX0_cost_0 7 rfl rfl)
theorem dX0_cost_8 : decode cX0_cost 8 = .ok (.lastore, 1) := dk_80 (dk_at dksX0_cost_0 8 rfl rfl)
theorem dX0_cost_9 : decode cX0_cost 9 = .ok (.goto 6, 3) := dk_167 0 6 (dk_at dksX0_cost_0 9 rfl rfl)
theorem dX0_cost_12 : decode cX0_cost 12 = .ok (.astore_n 3, 1) := dk_78 (dk_at dksX0_cost_0 12 rfl rfl)
theorem dX0_cost_13 : decode cX0_cost 13 = .ok (.iconst 1, 1) := dk_4 (dk_at dksX0_cost_0 13 rfl rfl)
theorem dX0_cost_14 : decode cX0_cost 14 = .ok (.ireturn, 1) := dk_172 (dk_at dksX0_cost_0 14 rfl rfl)
theorem dX0_cost_15 : decode cX0_cost 15 = .ok (.iconst 0, 1) := dk_3 (dk_at dksX0_cost_0 15 rfl rfl)
theorem dX0_cost_16 : decode cX0_cost 16 = .ok (.ireturn, 1) := dk_172 (dk_at dksX0_cost_0 16 rfl rfl)
abbrev cX0_delay : ByteArray := method_27_code
def yX0_delay : MethodName := ⟨RX0, "delay", "(LLimbBenches;II[J)I"⟩
def dkwX0_delay_0 : List UInt8 := [45, 3, 42, 27, 28, 182, 0, 95, 133, 80, 167, 0, 11, 58, 4, 4, 172, 58, 4, 5, 172, 3, 172]
abbrev dktX0_delay_0 : List UInt8 := dkwX0_delay_0 ++ []
theorem dksX0_delay_0 : cX0_delay.data.toList.drop 0 = dktX0_delay_0 := by decide +kernel
theorem dX0_delay_0 : decode cX0_delay 0 = .ok (.aload_n 3, 1) := dk_45 (dk_at dksX0_delay_0 0 rfl rfl)
theorem dX0_delay_1 : decode cX0_delay 1 = .ok (.iconst 0, 1) := dk_3 (dk_at dksX0_delay_0 1 rfl rfl)
theorem dX0_delay_2 : decode cX0_delay 2 = .ok (.aload_n 0, 1) := dk_42 (dk_at dksX0_delay_0 2 rfl rfl)
theorem dX0_delay_3 : decode cX0_delay 3 = .ok (.iload_n 1, 1) := dk_27 (dk_at dksX0_delay_0 3 rfl rfl)
theorem dX0_delay_4 : decode cX0_delay 4 = .ok (.iload_n 2, 1) := dk_28 (dk_at dksX0_delay_0 4 rfl rfl)
theorem dX0_delay_5 : decode cX0_delay 5 = .ok (.invokevirtual 95, 3) := dk_182 0 95 (dk_at dksX0_delay_0 5 rfl rfl)
theorem dX0_delay_8 : decode cX0_delay 8 = .ok (.i2l, 1) := dk_133 (dk_at dksX0_delay_0 8 rfl rfl)
theorem dX0_delay_9 : decode cX0_delay 9 = .ok (.lastore, 1) := dk_80 (dk_at dksX0_delay_0 9 rfl rfl)
theorem dX0_delay_10 : decode cX0_delay 10 = .ok (.goto 11, 3) := dk_167 0 11 (dk_at dksX0_delay_0 10 rfl rfl)
theorem dX0_delay_13 : decode cX0_delay 13 = .ok (.astore 4, 2) := dk_58 4 (dk_at dksX0_delay_0 13 rfl rfl)
theorem dX0_delay_15 : decode cX0_delay 15 = .ok (.iconst 1, 1) := dk_4 (dk_at dksX0_delay_0 15 rfl rfl)
theorem dX0_delay_16 : decode cX0_delay 16 = .ok (.ireturn, 1) := dk_172 (dk_at dksX0_delay_0 16 rfl rfl)
theorem dX0_delay_17 : decode cX0_delay 17 = .ok (.astore 4, 2) := dk_58 4 (dk_at dksX0_delay_0 17 rfl rfl)
theorem dX0_delay_19 : decode cX0_delay 19 = .ok (.iconst 2, 1) := dk_5 (dk_at dksX0_delay_0 19 rfl rfl)
theorem dX0_delay_20 : decode cX0_delay 20 = .ok (.ireturn, 1) := dk_172 (dk_at dksX0_delay_0 20 rfl rfl)
theorem dX0_delay_21 : decode cX0_delay 21 = .ok (.iconst 0, 1) := dk_3 (dk_at dksX0_delay_0 21 rfl rfl)
theorem dX0_delay_22 : decode cX0_delay 22 = .ok (.ireturn, 1) := dk_172 (dk_at dksX0_delay_0 22 rfl rfl)
abbrev cX0_done : ByteArray := method_28_code
def yX0_done : MethodName := ⟨RX0, "done", "(LLimbBenches;I[J)I"⟩
def dkwX0_done_0 : List UInt8 := [44, 3, 42, 27, 182, 0, 98, 133, 80, 167, 0, 6, 78, 4, 172, 3, 172]
abbrev dktX0_done_0 : List UInt8 := dkwX0_done_0 ++ []
theorem dksX0_done_0 : cX0_done.data.toList.drop 0 = dktX0_done_0 := by decide +kernel
theorem dX0_done_0 : decode cX0_done 0 = .ok (.aload_n 2, 1) := dk_44 (dk_at dksX0_done_0 0 rfl rfl)
theorem dX0_done_1 : decode cX0_done 1 = .ok (.iconst 0, 1) := dk_3 (dk_at dksX0_done_0 1 rfl rfl)
theorem dX0_done_2 : decode cX0_done 2 = .ok (.aload_n 0, 1) := dk_42 (dk_at dksX0_done_0 2 rfl rfl)
theorem dX0_done_3 : decode cX0_done 3 = .ok (.iload_n 1, 1) := dk_27 (dk_at dksX0_done_0 3 rfl rfl)
theorem dX0_done_4 : decode cX0_done 4 = .ok (.invokevirtual 98, 3) := dk_182 0 98 (dk_at dksX0_done_0 4 rfl rfl)
theorem dX0_done_7 : decode cX0_done 7 = .ok (.i2l, 1) := dk_133 (dk_at dksX0_done_0 7 rfl rfl)
theorem dX0_done_8 : decode cX0_done 8 = .ok (.lastore, 1) := dk_80 (dk_at dksX0_done_0 8 rfl rfl)
theorem dX0_done_9 : decode cX0_done 9 = .ok (.goto 6, 3) := dk_167 0 6 (dk_at dksX0_done_0 9 rfl rfl)
theorem dX0_done_12 : decode cX0_done 12 = .ok (.astore_n 3, 1) := dk_78 (dk_at dksX0_done_0 12 rfl rfl)
theorem dX0_done_13 : decode cX0_done 13 = .ok (.iconst 1, 1) := dk_4 (dk_at dksX0_done_0 13 rfl rfl)
theorem dX0_done_14 : decode cX0_done 14 = .ok (.ireturn, 1) := dk_172 (dk_at dksX0_done_0 14 rfl rfl)
theorem dX0_done_15 : decode cX0_done 15 = .ok (.iconst 0, 1) := dk_3 (dk_at dksX0_done_0 15 rfl rfl)
theorem dX0_done_16 : decode cX0_done 16 = .ok (.ireturn, 1) := dk_172 (dk_at dksX0_done_0 16 rfl rfl)
abbrev cX0_maker : ByteArray := method_29_code
def yX0_maker : MethodName := ⟨RX0, "maker", "(LLimbBenches;I[J)I"⟩
def dkwX0_maker_0 : List UInt8 := [44, 3, 42, 27, 182, 0, 101, 133, 80, 167, 0, 6, 78, 4, 172, 3, 172]
abbrev dktX0_maker_0 : List UInt8 := dkwX0_maker_0 ++ []
theorem dksX0_maker_0 : cX0_maker.data.toList.drop 0 = dktX0_maker_0 := by decide +kernel
theorem dX0_maker_0 : decode cX0_maker 0 = .ok (.aload_n 2, 1) := dk_44 (dk_at dksX0_maker_0 0 rfl rfl)
theorem dX0_maker_1 : decode cX0_maker 1 = .ok (.iconst 0, 1) := dk_3 (dk_at dksX0_maker_0 1 rfl rfl)
theorem dX0_maker_2 : decode cX0_maker 2 = .ok (.aload_n 0, 1) := dk_42 (dk_at dksX0_maker_0 2 rfl rfl)
theorem dX0_maker_3 : decode cX0_maker 3 = .ok (.iload_n 1, 1) := dk_27 (dk_at dksX0_maker_0 3 rfl rfl)
theorem dX0_maker_4 : decode cX0_maker 4 = .ok (.invokevirtual 101, 3) := dk_182 0 101 (dk_at dksX0_maker_0 4 rfl rfl)
theorem dX0_maker_7 : decode cX0_maker 7 = .ok (.i2l, 1) := dk_133 (dk_at dksX0_maker_0 7 rfl rfl)
theorem dX0_maker_8 : decode cX0_maker 8 = .ok (.lastore, 1) := dk_80 (dk_at dksX0_maker_0 8 rfl rfl)
theorem dX0_maker_9 : decode cX0_maker 9 = .ok (.goto 6, 3) := dk_167 0 6 (dk_at dksX0_maker_0 9 rfl rfl)
theorem dX0_maker_12 : decode cX0_maker 12 = .ok (.astore_n 3, 1) := dk_78 (dk_at dksX0_maker_0 12 rfl rfl)
theorem dX0_maker_13 : decode cX0_maker 13 = .ok (.iconst 1, 1) := dk_4 (dk_at dksX0_maker_0 13 rfl rfl)
theorem dX0_maker_14 : decode cX0_maker 14 = .ok (.ireturn, 1) := dk_172 (dk_at dksX0_maker_0 14 rfl rfl)
theorem dX0_maker_15 : decode cX0_maker 15 = .ok (.iconst 0, 1) := dk_3 (dk_at dksX0_maker_0 15 rfl rfl)
theorem dX0_maker_16 : decode cX0_maker 16 = .ok (.ireturn, 1) := dk_172 (dk_at dksX0_maker_0 16 rfl rfl)
abbrev cX0_order : ByteArray := method_30_code
def yX0_order : MethodName := ⟨RX0, "order", "(LLimbBenches;II[J)I"⟩
def dkwX0_order_0 : List UInt8 := [45, 3, 42, 27, 28, 182, 0, 104, 133, 80, 167, 0, 11, 58, 4, 4, 172, 58, 4, 5, 172, 3, 172]
abbrev dktX0_order_0 : List UInt8 := dkwX0_order_0 ++ []
theorem dksX0_order_0 : cX0_order.data.toList.drop 0 = dktX0_order_0 := by decide +kernel
theorem dX0_order_0 : decode cX0_order 0 = .ok (.aload_n 3, 1) := dk_45 (dk_at dksX0_order_0 0 rfl rfl)
theorem dX0_order_1 : decode cX0_order 1 = .ok (.iconst 0, 1) := dk_3 (dk_at dksX0_order_0 1 rfl rfl)
theorem dX0_order_2 : decode cX0_order 2 = .ok (.aload_n 0, 1) := dk_42 (dk_at dksX0_order_0 2 rfl rfl)
theorem dX0_order_3 : decode cX0_order 3 = .ok (.iload_n 1, 1) := dk_27 (dk_at dksX0_order_0 3 rfl rfl)
theorem dX0_order_4 : decode cX0_order 4 = .ok (.iload_n 2, 1) := dk_28 (dk_at dksX0_order_0 4 rfl rfl)
theorem dX0_order_5 : decode cX0_order 5 = .ok (.invokevirtual 104, 3) := dk_182 0 104 (dk_at dksX0_order_0 5 rfl rfl)
theorem dX0_order_8 : decode cX0_order 8 = .ok (.i2l, 1) := dk_133 (dk_at dksX0_order_0 8 rfl rfl)
theorem dX0_order_9 : decode cX0_order 9 = .ok (.lastore, 1) := dk_80 (dk_at dksX0_order_0 9 rfl rfl)
theorem dX0_order_10 : decode cX0_order 10 = .ok (.goto 11, 3) := dk_167 0 11 (dk_at dksX0_order_0 10 rfl rfl)
theorem dX0_order_13 : decode cX0_order 13 = .ok (.astore 4, 2) := dk_58 4 (dk_at dksX0_order_0 13 rfl rfl)
theorem dX0_order_15 : decode cX0_order 15 = .ok (.iconst 1, 1) := dk_4 (dk_at dksX0_order_0 15 rfl rfl)
theorem dX0_order_16 : decode cX0_order 16 = .ok (.ireturn, 1) := dk_172 (dk_at dksX0_order_0 16 rfl rfl)
theorem dX0_order_17 : decode cX0_order 17 = .ok (.astore 4, 2) := dk_58 4 (dk_at dksX0_order_0 17 rfl rfl)
theorem dX0_order_19 : decode cX0_order 19 = .ok (.iconst 2, 1) := dk_5 (dk_at dksX0_order_0 19 rfl rfl)
theorem dX0_order_20 : decode cX0_order 20 = .ok (.ireturn, 1) := dk_172 (dk_at dksX0_order_0 20 rfl rfl)
theorem dX0_order_21 : decode cX0_order 21 = .ok (.iconst 0, 1) := dk_3 (dk_at dksX0_order_0 21 rfl rfl)
theorem dX0_order_22 : decode cX0_order 22 = .ok (.ireturn, 1) := dk_172 (dk_at dksX0_order_0 22 rfl rfl)
abbrev cX0_arrive : ByteArray := method_31_code
def yX0_arrive : MethodName := ⟨RX0, "arrive", "(LLimbBenches;I[J)I"⟩
def dkwX0_arrive_0 : List UInt8 := [44, 3, 42, 27, 182, 0, 107, 133, 80, 167, 0, 6, 78, 4, 172, 3, 172]
abbrev dktX0_arrive_0 : List UInt8 := dkwX0_arrive_0 ++ []
theorem dksX0_arrive_0 : cX0_arrive.data.toList.drop 0 = dktX0_arrive_0 := by decide +kernel
theorem dX0_arrive_0 : decode cX0_arrive 0 = .ok (.aload_n 2, 1) := dk_44 (dk_at dksX0_arrive_0 0 rfl rfl)
theorem dX0_arrive_1 : decode cX0_arrive 1 = .ok (.iconst 0, 1) := dk_3 (dk_at dksX0_arrive_0 1 rfl rfl)
theorem dX0_arrive_2 : decode cX0_arrive 2 = .ok (.aload_n 0, 1) := dk_42 (dk_at dksX0_arrive_0 2 rfl rfl)
theorem dX0_arrive_3 : decode cX0_arrive 3 = .ok (.iload_n 1, 1) := dk_27 (dk_at dksX0_arrive_0 3 rfl rfl)
theorem dX0_arrive_4 : decode cX0_arrive 4 = .ok (.invokevirtual 107, 3) := dk_182 0 107 (dk_at dksX0_arrive_0 4 rfl rfl)
theorem dX0_arrive_7 : decode cX0_arrive 7 = .ok (.i2l, 1) := dk_133 (dk_at dksX0_arrive_0 7 rfl rfl)
theorem dX0_arrive_8 : decode cX0_arrive 8 = .ok (.lastore, 1) := dk_80 (dk_at dksX0_arrive_0 8 rfl rfl)
theorem dX0_arrive_9 : decode cX0_arrive 9 = .ok (.goto 6, 3) := dk_167 0 6 (dk_at dksX0_arrive_0 9 rfl rfl)
theorem dX0_arrive_12 : decode cX0_arrive 12 = .ok (.astore_n 3, 1) := dk_78 (dk_at dksX0_arrive_0 12 rfl rfl)
theorem dX0_arrive_13 : decode cX0_arrive 13 = .ok (.iconst 1, 1) := dk_4 (dk_at dksX0_arrive_0 13 rfl rfl)
theorem dX0_arrive_14 : decode cX0_arrive 14 = .ok (.ireturn, 1) := dk_172 (dk_at dksX0_arrive_0 14 rfl rfl)
theorem dX0_arrive_15 : decode cX0_arrive 15 = .ok (.iconst 0, 1) := dk_3 (dk_at dksX0_arrive_0 15 rfl rfl)
theorem dX0_arrive_16 : decode cX0_arrive 16 = .ok (.ireturn, 1) := dk_172 (dk_at dksX0_arrive_0 16 rfl rfl)
abbrev cX0_lose : ByteArray := method_32_code
def yX0_lose : MethodName := ⟨RX0, "lose", "(LLimbBenches;I[J)I"⟩
def dkwX0_lose_0 : List UInt8 := [44, 3, 42, 27, 182, 0, 110, 133, 80, 167, 0, 6, 78, 4, 172, 3, 172]
abbrev dktX0_lose_0 : List UInt8 := dkwX0_lose_0 ++ []
theorem dksX0_lose_0 : cX0_lose.data.toList.drop 0 = dktX0_lose_0 := by decide +kernel
theorem dX0_lose_0 : decode cX0_lose 0 = .ok (.aload_n 2, 1) := dk_44 (dk_at dksX0_lose_0 0 rfl rfl)
theorem dX0_lose_1 : decode cX0_lose 1 = .ok (.iconst 0, 1) := dk_3 (dk_at dksX0_lose_0 1 rfl rfl)
theorem dX0_lose_2 : decode cX0_lose 2 = .ok (.aload_n 0, 1) := dk_42 (dk_at dksX0_lose_0 2 rfl rfl)
theorem dX0_lose_3 : decode cX0_lose 3 = .ok (.iload_n 1, 1) := dk_27 (dk_at dksX0_lose_0 3 rfl rfl)
theorem dX0_lose_4 : decode cX0_lose 4 = .ok (.invokevirtual 110, 3) := dk_182 0 110 (dk_at dksX0_lose_0 4 rfl rfl)
theorem dX0_lose_7 : decode cX0_lose 7 = .ok (.i2l, 1) := dk_133 (dk_at dksX0_lose_0 7 rfl rfl)
theorem dX0_lose_8 : decode cX0_lose 8 = .ok (.lastore, 1) := dk_80 (dk_at dksX0_lose_0 8 rfl rfl)
theorem dX0_lose_9 : decode cX0_lose 9 = .ok (.goto 6, 3) := dk_167 0 6 (dk_at dksX0_lose_0 9 rfl rfl)
theorem dX0_lose_12 : decode cX0_lose 12 = .ok (.astore_n 3, 1) := dk_78 (dk_at dksX0_lose_0 12 rfl rfl)
theorem dX0_lose_13 : decode cX0_lose 13 = .ok (.iconst 1, 1) := dk_4 (dk_at dksX0_lose_0 13 rfl rfl)
theorem dX0_lose_14 : decode cX0_lose 14 = .ok (.ireturn, 1) := dk_172 (dk_at dksX0_lose_0 14 rfl rfl)
theorem dX0_lose_15 : decode cX0_lose 15 = .ok (.iconst 0, 1) := dk_3 (dk_at dksX0_lose_0 15 rfl rfl)
theorem dX0_lose_16 : decode cX0_lose 16 = .ok (.ireturn, 1) := dk_172 (dk_at dksX0_lose_0 16 rfl rfl)
abbrev cX0_forecast : ByteArray := method_33_code
def yX0_forecast : MethodName := ⟨RX0, "forecast", "(LLimbBenches;IZ[J)I"⟩
def dkwX0_forecast_0 : List UInt8 := [45, 3, 42, 27, 28, 182, 0, 113, 133, 80, 167, 0, 7, 58, 4, 4, 172, 3, 172]
abbrev dktX0_forecast_0 : List UInt8 := dkwX0_forecast_0 ++ []
theorem dksX0_forecast_0 : cX0_forecast.data.toList.drop 0 = dktX0_forecast_0 := by decide +kernel
theorem dX0_forecast_0 : decode cX0_forecast 0 = .ok (.aload_n 3, 1) := dk_45 (dk_at dksX0_forecast_0 0 rfl rfl)
theorem dX0_forecast_1 : decode cX0_forecast 1 = .ok (.iconst 0, 1) := dk_3 (dk_at dksX0_forecast_0 1 rfl rfl)
theorem dX0_forecast_2 : decode cX0_forecast 2 = .ok (.aload_n 0, 1) := dk_42 (dk_at dksX0_forecast_0 2 rfl rfl)
theorem dX0_forecast_3 : decode cX0_forecast 3 = .ok (.iload_n 1, 1) := dk_27 (dk_at dksX0_forecast_0 3 rfl rfl)
theorem dX0_forecast_4 : decode cX0_forecast 4 = .ok (.iload_n 2, 1) := dk_28 (dk_at dksX0_forecast_0 4 rfl rfl)
theorem dX0_forecast_5 : decode cX0_forecast 5 = .ok (.invokevirtual 113, 3) := dk_182 0 113 (dk_at dksX0_forecast_0 5 rfl rfl)
theorem dX0_forecast_8 : decode cX0_forecast 8 = .ok (.i2l, 1) := dk_133 (dk_at dksX0_forecast_0 8 rfl rfl)
theorem dX0_forecast_9 : decode cX0_forecast 9 = .ok (.lastore, 1) := dk_80 (dk_at dksX0_forecast_0 9 rfl rfl)
theorem dX0_forecast_10 : decode cX0_forecast 10 = .ok (.goto 7, 3) := dk_167 0 7 (dk_at dksX0_forecast_0 10 rfl rfl)
theorem dX0_forecast_13 : decode cX0_forecast 13 = .ok (.astore 4, 2) := dk_58 4 (dk_at dksX0_forecast_0 13 rfl rfl)
theorem dX0_forecast_15 : decode cX0_forecast 15 = .ok (.iconst 1, 1) := dk_4 (dk_at dksX0_forecast_0 15 rfl rfl)
theorem dX0_forecast_16 : decode cX0_forecast 16 = .ok (.ireturn, 1) := dk_172 (dk_at dksX0_forecast_0 16 rfl rfl)
theorem dX0_forecast_17 : decode cX0_forecast 17 = .ok (.iconst 0, 1) := dk_3 (dk_at dksX0_forecast_0 17 rfl rfl)
theorem dX0_forecast_18 : decode cX0_forecast 18 = .ok (.ireturn, 1) := dk_172 (dk_at dksX0_forecast_0 18 rfl rfl)
abbrev cX0_late : ByteArray := method_34_code
def yX0_late : MethodName := ⟨RX0, "late", "(LLimbBenches;II[J)I"⟩
def dkwX0_late_0 : List UInt8 := [45, 3, 42, 27, 28, 182, 0, 117, 133, 80, 167, 0, 11, 58, 4, 4, 172, 58, 4, 5, 172, 3, 172]
abbrev dktX0_late_0 : List UInt8 := dkwX0_late_0 ++ []
theorem dksX0_late_0 : cX0_late.data.toList.drop 0 = dktX0_late_0 := by decide +kernel
theorem dX0_late_0 : decode cX0_late 0 = .ok (.aload_n 3, 1) := dk_45 (dk_at dksX0_late_0 0 rfl rfl)
theorem dX0_late_1 : decode cX0_late 1 = .ok (.iconst 0, 1) := dk_3 (dk_at dksX0_late_0 1 rfl rfl)
theorem dX0_late_2 : decode cX0_late 2 = .ok (.aload_n 0, 1) := dk_42 (dk_at dksX0_late_0 2 rfl rfl)
theorem dX0_late_3 : decode cX0_late 3 = .ok (.iload_n 1, 1) := dk_27 (dk_at dksX0_late_0 3 rfl rfl)
theorem dX0_late_4 : decode cX0_late 4 = .ok (.iload_n 2, 1) := dk_28 (dk_at dksX0_late_0 4 rfl rfl)
theorem dX0_late_5 : decode cX0_late 5 = .ok (.invokevirtual 117, 3) := dk_182 0 117 (dk_at dksX0_late_0 5 rfl rfl)
theorem dX0_late_8 : decode cX0_late 8 = .ok (.i2l, 1) := dk_133 (dk_at dksX0_late_0 8 rfl rfl)
theorem dX0_late_9 : decode cX0_late 9 = .ok (.lastore, 1) := dk_80 (dk_at dksX0_late_0 9 rfl rfl)
theorem dX0_late_10 : decode cX0_late 10 = .ok (.goto 11, 3) := dk_167 0 11 (dk_at dksX0_late_0 10 rfl rfl)
theorem dX0_late_13 : decode cX0_late 13 = .ok (.astore 4, 2) := dk_58 4 (dk_at dksX0_late_0 13 rfl rfl)
theorem dX0_late_15 : decode cX0_late 15 = .ok (.iconst 1, 1) := dk_4 (dk_at dksX0_late_0 15 rfl rfl)
theorem dX0_late_16 : decode cX0_late 16 = .ok (.ireturn, 1) := dk_172 (dk_at dksX0_late_0 16 rfl rfl)
theorem dX0_late_17 : decode cX0_late 17 = .ok (.astore 4, 2) := dk_58 4 (dk_at dksX0_late_0 17 rfl rfl)
theorem dX0_late_19 : decode cX0_late 19 = .ok (.iconst 2, 1) := dk_5 (dk_at dksX0_late_0 19 rfl rfl)
theorem dX0_late_20 : decode cX0_late 20 = .ok (.ireturn, 1) := dk_172 (dk_at dksX0_late_0 20 rfl rfl)
theorem dX0_late_21 : decode cX0_late 21 = .ok (.iconst 0, 1) := dk_3 (dk_at dksX0_late_0 21 rfl rfl)
theorem dX0_late_22 : decode cX0_late 22 = .ok (.ireturn, 1) := dk_172 (dk_at dksX0_late_0 22 rfl rfl)
abbrev cX0_stock : ByteArray := method_35_code
def yX0_stock : MethodName := ⟨RX0, "stock", "(LLimbBenches;I[J)I"⟩
def dkwX0_stock_0 : List UInt8 := [44, 3, 42, 27, 182, 0, 120, 133, 80, 167, 0, 6, 78, 4, 172, 3, 172]
abbrev dktX0_stock_0 : List UInt8 := dkwX0_stock_0 ++ []
theorem dksX0_stock_0 : cX0_stock.data.toList.drop 0 = dktX0_stock_0 := by decide +kernel
theorem dX0_stock_0 : decode cX0_stock 0 = .ok (.aload_n 2, 1) := dk_44 (dk_at dksX0_stock_0 0 rfl rfl)
theorem dX0_stock_1 : decode cX0_stock 1 = .ok (.iconst 0, 1) := dk_3 (dk_at dksX0_stock_0 1 rfl rfl)
theorem dX0_stock_2 : decode cX0_stock 2 = .ok (.aload_n 0, 1) := dk_42 (dk_at dksX0_stock_0 2 rfl rfl)
theorem dX0_stock_3 : decode cX0_stock 3 = .ok (.iload_n 1, 1) := dk_27 (dk_at dksX0_stock_0 3 rfl rfl)
theorem dX0_stock_4 : decode cX0_stock 4 = .ok (.invokevirtual 120, 3) := dk_182 0 120 (dk_at dksX0_stock_0 4 rfl rfl)
theorem dX0_stock_7 : decode cX0_stock 7 = .ok (.i2l, 1) := dk_133 (dk_at dksX0_stock_0 7 rfl rfl)
theorem dX0_stock_8 : decode cX0_stock 8 = .ok (.lastore, 1) := dk_80 (dk_at dksX0_stock_0 8 rfl rfl)
theorem dX0_stock_9 : decode cX0_stock 9 = .ok (.goto 6, 3) := dk_167 0 6 (dk_at dksX0_stock_0 9 rfl rfl)
theorem dX0_stock_12 : decode cX0_stock 12 = .ok (.astore_n 3, 1) := dk_78 (dk_at dksX0_stock_0 12 rfl rfl)
theorem dX0_stock_13 : decode cX0_stock 13 = .ok (.iconst 1, 1) := dk_4 (dk_at dksX0_stock_0 13 rfl rfl)
theorem dX0_stock_14 : decode cX0_stock 14 = .ok (.ireturn, 1) := dk_172 (dk_at dksX0_stock_0 14 rfl rfl)
theorem dX0_stock_15 : decode cX0_stock 15 = .ok (.iconst 0, 1) := dk_3 (dk_at dksX0_stock_0 15 rfl rfl)
theorem dX0_stock_16 : decode cX0_stock 16 = .ok (.ireturn, 1) := dk_172 (dk_at dksX0_stock_0 16 rfl rfl)
abbrev cX0_spare : ByteArray := method_36_code
def yX0_spare : MethodName := ⟨RX0, "spare", "(LLimbBenches;I[J)I"⟩
def dkwX0_spare_0 : List UInt8 := [44, 3, 42, 27, 182, 0, 123, 133, 80, 167, 0, 6, 78, 4, 172, 3, 172]
abbrev dktX0_spare_0 : List UInt8 := dkwX0_spare_0 ++ []
theorem dksX0_spare_0 : cX0_spare.data.toList.drop 0 = dktX0_spare_0 := by decide +kernel
theorem dX0_spare_0 : decode cX0_spare 0 = .ok (.aload_n 2, 1) := dk_44 (dk_at dksX0_spare_0 0 rfl rfl)
theorem dX0_spare_1 : decode cX0_spare 1 = .ok (.iconst 0, 1) := dk_3 (dk_at dksX0_spare_0 1 rfl rfl)
theorem dX0_spare_2 : decode cX0_spare 2 = .ok (.aload_n 0, 1) := dk_42 (dk_at dksX0_spare_0 2 rfl rfl)
theorem dX0_spare_3 : decode cX0_spare 3 = .ok (.iload_n 1, 1) := dk_27 (dk_at dksX0_spare_0 3 rfl rfl)
theorem dX0_spare_4 : decode cX0_spare 4 = .ok (.invokevirtual 123, 3) := dk_182 0 123 (dk_at dksX0_spare_0 4 rfl rfl)
theorem dX0_spare_7 : decode cX0_spare 7 = .ok (.i2l, 1) := dk_133 (dk_at dksX0_spare_0 7 rfl rfl)
theorem dX0_spare_8 : decode cX0_spare 8 = .ok (.lastore, 1) := dk_80 (dk_at dksX0_spare_0 8 rfl rfl)
theorem dX0_spare_9 : decode cX0_spare 9 = .ok (.goto 6, 3) := dk_167 0 6 (dk_at dksX0_spare_0 9 rfl rfl)
theorem dX0_spare_12 : decode cX0_spare 12 = .ok (.astore_n 3, 1) := dk_78 (dk_at dksX0_spare_0 12 rfl rfl)
theorem dX0_spare_13 : decode cX0_spare 13 = .ok (.iconst 1, 1) := dk_4 (dk_at dksX0_spare_0 13 rfl rfl)
theorem dX0_spare_14 : decode cX0_spare 14 = .ok (.ireturn, 1) := dk_172 (dk_at dksX0_spare_0 14 rfl rfl)
theorem dX0_spare_15 : decode cX0_spare 15 = .ok (.iconst 0, 1) := dk_3 (dk_at dksX0_spare_0 15 rfl rfl)
theorem dX0_spare_16 : decode cX0_spare 16 = .ok (.ireturn, 1) := dk_172 (dk_at dksX0_spare_0 16 rfl rfl)
abbrev cX0_lent : ByteArray := method_37_code
def yX0_lent : MethodName := ⟨RX0, "lent", "(LLimbBenches;I[J)I"⟩
def dkwX0_lent_0 : List UInt8 := [44, 3, 42, 27, 182, 0, 126, 133, 80, 167, 0, 6, 78, 4, 172, 3, 172]
abbrev dktX0_lent_0 : List UInt8 := dkwX0_lent_0 ++ []
theorem dksX0_lent_0 : cX0_lent.data.toList.drop 0 = dktX0_lent_0 := by decide +kernel
theorem dX0_lent_0 : decode cX0_lent 0 = .ok (.aload_n 2, 1) := dk_44 (dk_at dksX0_lent_0 0 rfl rfl)
theorem dX0_lent_1 : decode cX0_lent 1 = .ok (.iconst 0, 1) := dk_3 (dk_at dksX0_lent_0 1 rfl rfl)
theorem dX0_lent_2 : decode cX0_lent 2 = .ok (.aload_n 0, 1) := dk_42 (dk_at dksX0_lent_0 2 rfl rfl)
theorem dX0_lent_3 : decode cX0_lent 3 = .ok (.iload_n 1, 1) := dk_27 (dk_at dksX0_lent_0 3 rfl rfl)
theorem dX0_lent_4 : decode cX0_lent 4 = .ok (.invokevirtual 126, 3) := dk_182 0 126 (dk_at dksX0_lent_0 4 rfl rfl)
theorem dX0_lent_7 : decode cX0_lent 7 = .ok (.i2l, 1) := dk_133 (dk_at dksX0_lent_0 7 rfl rfl)
theorem dX0_lent_8 : decode cX0_lent 8 = .ok (.lastore, 1) := dk_80 (dk_at dksX0_lent_0 8 rfl rfl)
theorem dX0_lent_9 : decode cX0_lent 9 = .ok (.goto 6, 3) := dk_167 0 6 (dk_at dksX0_lent_0 9 rfl rfl)
theorem dX0_lent_12 : decode cX0_lent 12 = .ok (.astore_n 3, 1) := dk_78 (dk_at dksX0_lent_0 12 rfl rfl)
theorem dX0_lent_13 : decode cX0_lent 13 = .ok (.iconst 1, 1) := dk_4 (dk_at dksX0_lent_0 13 rfl rfl)
theorem dX0_lent_14 : decode cX0_lent 14 = .ok (.ireturn, 1) := dk_172 (dk_at dksX0_lent_0 14 rfl rfl)
theorem dX0_lent_15 : decode cX0_lent 15 = .ok (.iconst 0, 1) := dk_3 (dk_at dksX0_lent_0 15 rfl rfl)
theorem dX0_lent_16 : decode cX0_lent 16 = .ok (.ireturn, 1) := dk_172 (dk_at dksX0_lent_0 16 rfl rfl)
abbrev cX0_recall : ByteArray := method_38_code
def yX0_recall : MethodName := ⟨RX0, "recall", "(LLimbBenches;III[J)I"⟩
def dkwX0_recall_1 : List UInt8 := [172]
abbrev dktX0_recall_1 : List UInt8 := dkwX0_recall_1 ++ []
def dkwX0_recall_0 : List UInt8 := [25, 4, 3, 42, 27, 28, 29, 182, 0, 129, 133, 80, 167, 0, 11, 58, 5, 4, 172, 58, 5, 5, 172, 3]
abbrev dktX0_recall_0 : List UInt8 := dkwX0_recall_0 ++ dktX0_recall_1
theorem dksX0_recall_0 : cX0_recall.data.toList.drop 0 = dktX0_recall_0 := by decide +kernel
theorem dksX0_recall_1 : cX0_recall.data.toList.drop 24 = dktX0_recall_1 := dk_seg dksX0_recall_0 24 rfl rfl
theorem dX0_recall_0 : decode cX0_recall 0 = .ok (.aload 4, 2) := dk_25 4 (dk_at dksX0_recall_0 0 rfl rfl)
theorem dX0_recall_2 : decode cX0_recall 2 = .ok (.iconst 0, 1) := dk_3 (dk_at dksX0_recall_0 2 rfl rfl)
theorem dX0_recall_3 : decode cX0_recall 3 = .ok (.aload_n 0, 1) := dk_42 (dk_at dksX0_recall_0 3 rfl rfl)
theorem dX0_recall_4 : decode cX0_recall 4 = .ok (.iload_n 1, 1) := dk_27 (dk_at dksX0_recall_0 4 rfl rfl)
theorem dX0_recall_5 : decode cX0_recall 5 = .ok (.iload_n 2, 1) := dk_28 (dk_at dksX0_recall_0 5 rfl rfl)
theorem dX0_recall_6 : decode cX0_recall 6 = .ok (.iload_n 3, 1) := dk_29 (dk_at dksX0_recall_0 6 rfl rfl)
theorem dX0_recall_7 : decode cX0_recall 7 = .ok (.invokevirtual 129, 3) := dk_182 0 129 (dk_at dksX0_recall_0 7 rfl rfl)
theorem dX0_recall_10 : decode cX0_recall 10 = .ok (.i2l, 1) := dk_133 (dk_at dksX0_recall_0 10 rfl rfl)
theorem dX0_recall_11 : decode cX0_recall 11 = .ok (.lastore, 1) := dk_80 (dk_at dksX0_recall_0 11 rfl rfl)
theorem dX0_recall_12 : decode cX0_recall 12 = .ok (.goto 11, 3) := dk_167 0 11 (dk_at dksX0_recall_0 12 rfl rfl)
theorem dX0_recall_15 : decode cX0_recall 15 = .ok (.astore 5, 2) := dk_58 5 (dk_at dksX0_recall_0 15 rfl rfl)
theorem dX0_recall_17 : decode cX0_recall 17 = .ok (.iconst 1, 1) := dk_4 (dk_at dksX0_recall_0 17 rfl rfl)
theorem dX0_recall_18 : decode cX0_recall 18 = .ok (.ireturn, 1) := dk_172 (dk_at dksX0_recall_0 18 rfl rfl)
theorem dX0_recall_19 : decode cX0_recall 19 = .ok (.astore 5, 2) := dk_58 5 (dk_at dksX0_recall_0 19 rfl rfl)
theorem dX0_recall_21 : decode cX0_recall 21 = .ok (.iconst 2, 1) := dk_5 (dk_at dksX0_recall_0 21 rfl rfl)
theorem dX0_recall_22 : decode cX0_recall 22 = .ok (.ireturn, 1) := dk_172 (dk_at dksX0_recall_0 22 rfl rfl)
theorem dX0_recall_23 : decode cX0_recall 23 = .ok (.iconst 0, 1) := dk_3 (dk_at dksX0_recall_0 23 rfl rfl)
theorem dX0_recall_24 : decode cX0_recall 24 = .ok (.ireturn, 1) := dk_172 (dk_at dksX0_recall_1 0 rfl rfl)
abbrev cX0_seen : ByteArray := method_39_code
def yX0_seen : MethodName := ⟨RX0, "seen", "(LLimbBenches;II[J)I"⟩
def dkwX0_seen_0 : List UInt8 := [45, 3, 42, 27, 28, 182, 0, 132, 133, 80, 167, 0, 11, 58, 4, 4, 172, 58, 4, 5, 172, 3, 172]
abbrev dktX0_seen_0 : List UInt8 := dkwX0_seen_0 ++ []
theorem dksX0_seen_0 : cX0_seen.data.toList.drop 0 = dktX0_seen_0 := by decide +kernel
theorem dX0_seen_0 : decode cX0_seen 0 = .ok (.aload_n 3, 1) := dk_45 (dk_at dksX0_seen_0 0 rfl rfl)
theorem dX0_seen_1 : decode cX0_seen 1 = .ok (.iconst 0, 1) := dk_3 (dk_at dksX0_seen_0 1 rfl rfl)
theorem dX0_seen_2 : decode cX0_seen 2 = .ok (.aload_n 0, 1) := dk_42 (dk_at dksX0_seen_0 2 rfl rfl)
theorem dX0_seen_3 : decode cX0_seen 3 = .ok (.iload_n 1, 1) := dk_27 (dk_at dksX0_seen_0 3 rfl rfl)
theorem dX0_seen_4 : decode cX0_seen 4 = .ok (.iload_n 2, 1) := dk_28 (dk_at dksX0_seen_0 4 rfl rfl)
theorem dX0_seen_5 : decode cX0_seen 5 = .ok (.invokevirtual 132, 3) := dk_182 0 132 (dk_at dksX0_seen_0 5 rfl rfl)
theorem dX0_seen_8 : decode cX0_seen 8 = .ok (.i2l, 1) := dk_133 (dk_at dksX0_seen_0 8 rfl rfl)
theorem dX0_seen_9 : decode cX0_seen 9 = .ok (.lastore, 1) := dk_80 (dk_at dksX0_seen_0 9 rfl rfl)
theorem dX0_seen_10 : decode cX0_seen 10 = .ok (.goto 11, 3) := dk_167 0 11 (dk_at dksX0_seen_0 10 rfl rfl)
theorem dX0_seen_13 : decode cX0_seen 13 = .ok (.astore 4, 2) := dk_58 4 (dk_at dksX0_seen_0 13 rfl rfl)
theorem dX0_seen_15 : decode cX0_seen 15 = .ok (.iconst 1, 1) := dk_4 (dk_at dksX0_seen_0 15 rfl rfl)
theorem dX0_seen_16 : decode cX0_seen 16 = .ok (.ireturn, 1) := dk_172 (dk_at dksX0_seen_0 16 rfl rfl)
theorem dX0_seen_17 : decode cX0_seen 17 = .ok (.astore 4, 2) := dk_58 4 (dk_at dksX0_seen_0 17 rfl rfl)
theorem dX0_seen_19 : decode cX0_seen 19 = .ok (.iconst 2, 1) := dk_5 (dk_at dksX0_seen_0 19 rfl rfl)
theorem dX0_seen_20 : decode cX0_seen 20 = .ok (.ireturn, 1) := dk_172 (dk_at dksX0_seen_0 20 rfl rfl)
theorem dX0_seen_21 : decode cX0_seen 21 = .ok (.iconst 0, 1) := dk_3 (dk_at dksX0_seen_0 21 rfl rfl)
theorem dX0_seen_22 : decode cX0_seen 22 = .ok (.ireturn, 1) := dk_172 (dk_at dksX0_seen_0 22 rfl rfl)
abbrev cX0_measure : ByteArray := method_40_code
def yX0_measure : MethodName := ⟨RX0, "measure", "(LLimbBenches;III[J)I"⟩
def dkwX0_measure_1 : List UInt8 := [172]
abbrev dktX0_measure_1 : List UInt8 := dkwX0_measure_1 ++ []
def dkwX0_measure_0 : List UInt8 := [25, 4, 3, 42, 27, 28, 29, 182, 0, 135, 133, 80, 167, 0, 11, 58, 5, 4, 172, 58, 5, 5, 172, 3]
abbrev dktX0_measure_0 : List UInt8 := dkwX0_measure_0 ++ dktX0_measure_1
theorem dksX0_measure_0 : cX0_measure.data.toList.drop 0 = dktX0_measure_0 := by decide +kernel
theorem dksX0_measure_1 : cX0_measure.data.toList.drop 24 = dktX0_measure_1 := dk_seg dksX0_measure_0 24 rfl rfl
theorem dX0_measure_0 : decode cX0_measure 0 = .ok (.aload 4, 2) := dk_25 4 (dk_at dksX0_measure_0 0 rfl rfl)
theorem dX0_measure_2 : decode cX0_measure 2 = .ok (.iconst 0, 1) := dk_3 (dk_at dksX0_measure_0 2 rfl rfl)
theorem dX0_measure_3 : decode cX0_measure 3 = .ok (.aload_n 0, 1) := dk_42 (dk_at dksX0_measure_0 3 rfl rfl)
theorem dX0_measure_4 : decode cX0_measure 4 = .ok (.iload_n 1, 1) := dk_27 (dk_at dksX0_measure_0 4 rfl rfl)
theorem dX0_measure_5 : decode cX0_measure 5 = .ok (.iload_n 2, 1) := dk_28 (dk_at dksX0_measure_0 5 rfl rfl)
theorem dX0_measure_6 : decode cX0_measure 6 = .ok (.iload_n 3, 1) := dk_29 (dk_at dksX0_measure_0 6 rfl rfl)
theorem dX0_measure_7 : decode cX0_measure 7 = .ok (.invokevirtual 135, 3) := dk_182 0 135 (dk_at dksX0_measure_0 7 rfl rfl)
theorem dX0_measure_10 : decode cX0_measure 10 = .ok (.i2l, 1) := dk_133 (dk_at dksX0_measure_0 10 rfl rfl)
theorem dX0_measure_11 : decode cX0_measure 11 = .ok (.lastore, 1) := dk_80 (dk_at dksX0_measure_0 11 rfl rfl)
theorem dX0_measure_12 : decode cX0_measure 12 = .ok (.goto 11, 3) := dk_167 0 11 (dk_at dksX0_measure_0 12 rfl rfl)
theorem dX0_measure_15 : decode cX0_measure 15 = .ok (.astore 5, 2) := dk_58 5 (dk_at dksX0_measure_0 15 rfl rfl)
theorem dX0_measure_17 : decode cX0_measure 17 = .ok (.iconst 1, 1) := dk_4 (dk_at dksX0_measure_0 17 rfl rfl)
theorem dX0_measure_18 : decode cX0_measure 18 = .ok (.ireturn, 1) := dk_172 (dk_at dksX0_measure_0 18 rfl rfl)
theorem dX0_measure_19 : decode cX0_measure 19 = .ok (.astore 5, 2) := dk_58 5 (dk_at dksX0_measure_0 19 rfl rfl)
theorem dX0_measure_21 : decode cX0_measure 21 = .ok (.iconst 2, 1) := dk_5 (dk_at dksX0_measure_0 21 rfl rfl)
theorem dX0_measure_22 : decode cX0_measure 22 = .ok (.ireturn, 1) := dk_172 (dk_at dksX0_measure_0 22 rfl rfl)
theorem dX0_measure_23 : decode cX0_measure 23 = .ok (.iconst 0, 1) := dk_3 (dk_at dksX0_measure_0 23 rfl rfl)
theorem dX0_measure_24 : decode cX0_measure 24 = .ok (.ireturn, 1) := dk_172 (dk_at dksX0_measure_1 0 rfl rfl)
abbrev cX0_growth : ByteArray := method_41_code
def yX0_growth : MethodName := ⟨RX0, "growth", "(LLimbBenches;II[J)I"⟩
def dkwX0_growth_0 : List UInt8 := [45, 3, 42, 27, 28, 182, 0, 138, 133, 80, 167, 0, 11, 58, 4, 4, 172, 58, 4, 5, 172, 3, 172]
abbrev dktX0_growth_0 : List UInt8 := dkwX0_growth_0 ++ []
theorem dksX0_growth_0 : cX0_growth.data.toList.drop 0 = dktX0_growth_0 := by decide +kernel
theorem dX0_growth_0 : decode cX0_growth 0 = .ok (.aload_n 3, 1) := dk_45 (dk_at dksX0_growth_0 0 rfl rfl)
theorem dX0_growth_1 : decode cX0_growth 1 = .ok (.iconst 0, 1) := dk_3 (dk_at dksX0_growth_0 1 rfl rfl)
theorem dX0_growth_2 : decode cX0_growth 2 = .ok (.aload_n 0, 1) := dk_42 (dk_at dksX0_growth_0 2 rfl rfl)
theorem dX0_growth_3 : decode cX0_growth 3 = .ok (.iload_n 1, 1) := dk_27 (dk_at dksX0_growth_0 3 rfl rfl)
theorem dX0_growth_4 : decode cX0_growth 4 = .ok (.iload_n 2, 1) := dk_28 (dk_at dksX0_growth_0 4 rfl rfl)
theorem dX0_growth_5 : decode cX0_growth 5 = .ok (.invokevirtual 138, 3) := dk_182 0 138 (dk_at dksX0_growth_0 5 rfl rfl)
theorem dX0_growth_8 : decode cX0_growth 8 = .ok (.i2l, 1) := dk_133 (dk_at dksX0_growth_0 8 rfl rfl)
theorem dX0_growth_9 : decode cX0_growth 9 = .ok (.lastore, 1) := dk_80 (dk_at dksX0_growth_0 9 rfl rfl)
theorem dX0_growth_10 : decode cX0_growth 10 = .ok (.goto 11, 3) := dk_167 0 11 (dk_at dksX0_growth_0 10 rfl rfl)
theorem dX0_growth_13 : decode cX0_growth 13 = .ok (.astore 4, 2) := dk_58 4 (dk_at dksX0_growth_0 13 rfl rfl)
theorem dX0_growth_15 : decode cX0_growth 15 = .ok (.iconst 1, 1) := dk_4 (dk_at dksX0_growth_0 15 rfl rfl)
theorem dX0_growth_16 : decode cX0_growth 16 = .ok (.ireturn, 1) := dk_172 (dk_at dksX0_growth_0 16 rfl rfl)
theorem dX0_growth_17 : decode cX0_growth 17 = .ok (.astore 4, 2) := dk_58 4 (dk_at dksX0_growth_0 17 rfl rfl)
theorem dX0_growth_19 : decode cX0_growth 19 = .ok (.iconst 2, 1) := dk_5 (dk_at dksX0_growth_0 19 rfl rfl)
theorem dX0_growth_20 : decode cX0_growth 20 = .ok (.ireturn, 1) := dk_172 (dk_at dksX0_growth_0 20 rfl rfl)
theorem dX0_growth_21 : decode cX0_growth 21 = .ok (.iconst 0, 1) := dk_3 (dk_at dksX0_growth_0 21 rfl rfl)
theorem dX0_growth_22 : decode cX0_growth 22 = .ok (.ireturn, 1) := dk_172 (dk_at dksX0_growth_0 22 rfl rfl)
abbrev cX0_nextBy : ByteArray := method_42_code
def yX0_nextBy : MethodName := ⟨RX0, "nextBy", "(LLimbBenches;IIZ[J)I"⟩
def dkwX0_nextBy_1 : List UInt8 := [172]
abbrev dktX0_nextBy_1 : List UInt8 := dkwX0_nextBy_1 ++ []
def dkwX0_nextBy_0 : List UInt8 := [25, 4, 3, 42, 27, 28, 29, 182, 0, 141, 133, 80, 167, 0, 11, 58, 5, 4, 172, 58, 5, 5, 172, 3]
abbrev dktX0_nextBy_0 : List UInt8 := dkwX0_nextBy_0 ++ dktX0_nextBy_1
theorem dksX0_nextBy_0 : cX0_nextBy.data.toList.drop 0 = dktX0_nextBy_0 := by decide +kernel
theorem dksX0_nextBy_1 : cX0_nextBy.data.toList.drop 24 = dktX0_nextBy_1 := dk_seg dksX0_nextBy_0 24 rfl rfl
theorem dX0_nextBy_0 : decode cX0_nextBy 0 = .ok (.aload 4, 2) := dk_25 4 (dk_at dksX0_nextBy_0 0 rfl rfl)
theorem dX0_nextBy_2 : decode cX0_nextBy 2 = .ok (.iconst 0, 1) := dk_3 (dk_at dksX0_nextBy_0 2 rfl rfl)
theorem dX0_nextBy_3 : decode cX0_nextBy 3 = .ok (.aload_n 0, 1) := dk_42 (dk_at dksX0_nextBy_0 3 rfl rfl)
theorem dX0_nextBy_4 : decode cX0_nextBy 4 = .ok (.iload_n 1, 1) := dk_27 (dk_at dksX0_nextBy_0 4 rfl rfl)
theorem dX0_nextBy_5 : decode cX0_nextBy 5 = .ok (.iload_n 2, 1) := dk_28 (dk_at dksX0_nextBy_0 5 rfl rfl)
theorem dX0_nextBy_6 : decode cX0_nextBy 6 = .ok (.iload_n 3, 1) := dk_29 (dk_at dksX0_nextBy_0 6 rfl rfl)
theorem dX0_nextBy_7 : decode cX0_nextBy 7 = .ok (.invokevirtual 141, 3) := dk_182 0 141 (dk_at dksX0_nextBy_0 7 rfl rfl)
theorem dX0_nextBy_10 : decode cX0_nextBy 10 = .ok (.i2l, 1) := dk_133 (dk_at dksX0_nextBy_0 10 rfl rfl)
theorem dX0_nextBy_11 : decode cX0_nextBy 11 = .ok (.lastore, 1) := dk_80 (dk_at dksX0_nextBy_0 11 rfl rfl)
theorem dX0_nextBy_12 : decode cX0_nextBy 12 = .ok (.goto 11, 3) := dk_167 0 11 (dk_at dksX0_nextBy_0 12 rfl rfl)
theorem dX0_nextBy_15 : decode cX0_nextBy 15 = .ok (.astore 5, 2) := dk_58 5 (dk_at dksX0_nextBy_0 15 rfl rfl)
theorem dX0_nextBy_17 : decode cX0_nextBy 17 = .ok (.iconst 1, 1) := dk_4 (dk_at dksX0_nextBy_0 17 rfl rfl)
theorem dX0_nextBy_18 : decode cX0_nextBy 18 = .ok (.ireturn, 1) := dk_172 (dk_at dksX0_nextBy_0 18 rfl rfl)
theorem dX0_nextBy_19 : decode cX0_nextBy 19 = .ok (.astore 5, 2) := dk_58 5 (dk_at dksX0_nextBy_0 19 rfl rfl)
theorem dX0_nextBy_21 : decode cX0_nextBy 21 = .ok (.iconst 2, 1) := dk_5 (dk_at dksX0_nextBy_0 21 rfl rfl)
theorem dX0_nextBy_22 : decode cX0_nextBy 22 = .ok (.ireturn, 1) := dk_172 (dk_at dksX0_nextBy_0 22 rfl rfl)
theorem dX0_nextBy_23 : decode cX0_nextBy 23 = .ok (.iconst 0, 1) := dk_3 (dk_at dksX0_nextBy_0 23 rfl rfl)
theorem dX0_nextBy_24 : decode cX0_nextBy 24 = .ok (.ireturn, 1) := dk_172 (dk_at dksX0_nextBy_1 0 rfl rfl)
abbrev cX0_chance : ByteArray := method_43_code
def yX0_chance : MethodName := ⟨RX0, "chance", "(LLimbBenches;III[J)I"⟩
def dkwX0_chance_1 : List UInt8 := [172]
abbrev dktX0_chance_1 : List UInt8 := dkwX0_chance_1 ++ []
def dkwX0_chance_0 : List UInt8 := [25, 4, 3, 42, 27, 28, 29, 182, 0, 145, 133, 80, 167, 0, 11, 58, 5, 4, 172, 58, 5, 5, 172, 3]
abbrev dktX0_chance_0 : List UInt8 := dkwX0_chance_0 ++ dktX0_chance_1
theorem dksX0_chance_0 : cX0_chance.data.toList.drop 0 = dktX0_chance_0 := by decide +kernel
theorem dksX0_chance_1 : cX0_chance.data.toList.drop 24 = dktX0_chance_1 := dk_seg dksX0_chance_0 24 rfl rfl
theorem dX0_chance_0 : decode cX0_chance 0 = .ok (.aload 4, 2) := dk_25 4 (dk_at dksX0_chance_0 0 rfl rfl)
theorem dX0_chance_2 : decode cX0_chance 2 = .ok (.iconst 0, 1) := dk_3 (dk_at dksX0_chance_0 2 rfl rfl)
theorem dX0_chance_3 : decode cX0_chance 3 = .ok (.aload_n 0, 1) := dk_42 (dk_at dksX0_chance_0 3 rfl rfl)
theorem dX0_chance_4 : decode cX0_chance 4 = .ok (.iload_n 1, 1) := dk_27 (dk_at dksX0_chance_0 4 rfl rfl)
theorem dX0_chance_5 : decode cX0_chance 5 = .ok (.iload_n 2, 1) := dk_28 (dk_at dksX0_chance_0 5 rfl rfl)
theorem dX0_chance_6 : decode cX0_chance 6 = .ok (.iload_n 3, 1) := dk_29 (dk_at dksX0_chance_0 6 rfl rfl)
theorem dX0_chance_7 : decode cX0_chance 7 = .ok (.invokevirtual 145, 3) := dk_182 0 145 (dk_at dksX0_chance_0 7 rfl rfl)
theorem dX0_chance_10 : decode cX0_chance 10 = .ok (.i2l, 1) := dk_133 (dk_at dksX0_chance_0 10 rfl rfl)
theorem dX0_chance_11 : decode cX0_chance 11 = .ok (.lastore, 1) := dk_80 (dk_at dksX0_chance_0 11 rfl rfl)
theorem dX0_chance_12 : decode cX0_chance 12 = .ok (.goto 11, 3) := dk_167 0 11 (dk_at dksX0_chance_0 12 rfl rfl)
theorem dX0_chance_15 : decode cX0_chance 15 = .ok (.astore 5, 2) := dk_58 5 (dk_at dksX0_chance_0 15 rfl rfl)
theorem dX0_chance_17 : decode cX0_chance 17 = .ok (.iconst 1, 1) := dk_4 (dk_at dksX0_chance_0 17 rfl rfl)
theorem dX0_chance_18 : decode cX0_chance 18 = .ok (.ireturn, 1) := dk_172 (dk_at dksX0_chance_0 18 rfl rfl)
theorem dX0_chance_19 : decode cX0_chance 19 = .ok (.astore 5, 2) := dk_58 5 (dk_at dksX0_chance_0 19 rfl rfl)
theorem dX0_chance_21 : decode cX0_chance 21 = .ok (.iconst 2, 1) := dk_5 (dk_at dksX0_chance_0 21 rfl rfl)
theorem dX0_chance_22 : decode cX0_chance 22 = .ok (.ireturn, 1) := dk_172 (dk_at dksX0_chance_0 22 rfl rfl)
theorem dX0_chance_23 : decode cX0_chance 23 = .ok (.iconst 0, 1) := dk_3 (dk_at dksX0_chance_0 23 rfl rfl)
theorem dX0_chance_24 : decode cX0_chance 24 = .ok (.ireturn, 1) := dk_172 (dk_at dksX0_chance_1 0 rfl rfl)
abbrev cX0_fitter : ByteArray := method_44_code
def yX0_fitter : MethodName := ⟨RX0, "fitter", "(LLimbBenches;I[J)I"⟩
def dkwX0_fitter_0 : List UInt8 := [44, 3, 42, 27, 182, 0, 148, 133, 80, 167, 0, 6, 78, 4, 172, 3, 172]
abbrev dktX0_fitter_0 : List UInt8 := dkwX0_fitter_0 ++ []
theorem dksX0_fitter_0 : cX0_fitter.data.toList.drop 0 = dktX0_fitter_0 := by decide +kernel
theorem dX0_fitter_0 : decode cX0_fitter 0 = .ok (.aload_n 2, 1) := dk_44 (dk_at dksX0_fitter_0 0 rfl rfl)
theorem dX0_fitter_1 : decode cX0_fitter 1 = .ok (.iconst 0, 1) := dk_3 (dk_at dksX0_fitter_0 1 rfl rfl)
theorem dX0_fitter_2 : decode cX0_fitter 2 = .ok (.aload_n 0, 1) := dk_42 (dk_at dksX0_fitter_0 2 rfl rfl)
theorem dX0_fitter_3 : decode cX0_fitter 3 = .ok (.iload_n 1, 1) := dk_27 (dk_at dksX0_fitter_0 3 rfl rfl)
theorem dX0_fitter_4 : decode cX0_fitter 4 = .ok (.invokevirtual 148, 3) := dk_182 0 148 (dk_at dksX0_fitter_0 4 rfl rfl)
theorem dX0_fitter_7 : decode cX0_fitter 7 = .ok (.i2l, 1) := dk_133 (dk_at dksX0_fitter_0 7 rfl rfl)
theorem dX0_fitter_8 : decode cX0_fitter 8 = .ok (.lastore, 1) := dk_80 (dk_at dksX0_fitter_0 8 rfl rfl)
theorem dX0_fitter_9 : decode cX0_fitter 9 = .ok (.goto 6, 3) := dk_167 0 6 (dk_at dksX0_fitter_0 9 rfl rfl)
theorem dX0_fitter_12 : decode cX0_fitter 12 = .ok (.astore_n 3, 1) := dk_78 (dk_at dksX0_fitter_0 12 rfl rfl)
theorem dX0_fitter_13 : decode cX0_fitter 13 = .ok (.iconst 1, 1) := dk_4 (dk_at dksX0_fitter_0 13 rfl rfl)
theorem dX0_fitter_14 : decode cX0_fitter 14 = .ok (.ireturn, 1) := dk_172 (dk_at dksX0_fitter_0 14 rfl rfl)
theorem dX0_fitter_15 : decode cX0_fitter 15 = .ok (.iconst 0, 1) := dk_3 (dk_at dksX0_fitter_0 15 rfl rfl)
theorem dX0_fitter_16 : decode cX0_fitter 16 = .ok (.ireturn, 1) := dk_172 (dk_at dksX0_fitter_0 16 rfl rfl)
abbrev cX0_blister : ByteArray := method_45_code
def yX0_blister : MethodName := ⟨RX0, "blister", "(LLimbBenches;I[J)I"⟩
def dkwX0_blister_0 : List UInt8 := [44, 3, 42, 27, 182, 0, 151, 133, 80, 167, 0, 6, 78, 4, 172, 3, 172]
abbrev dktX0_blister_0 : List UInt8 := dkwX0_blister_0 ++ []
theorem dksX0_blister_0 : cX0_blister.data.toList.drop 0 = dktX0_blister_0 := by decide +kernel
theorem dX0_blister_0 : decode cX0_blister 0 = .ok (.aload_n 2, 1) := dk_44 (dk_at dksX0_blister_0 0 rfl rfl)
theorem dX0_blister_1 : decode cX0_blister 1 = .ok (.iconst 0, 1) := dk_3 (dk_at dksX0_blister_0 1 rfl rfl)
theorem dX0_blister_2 : decode cX0_blister 2 = .ok (.aload_n 0, 1) := dk_42 (dk_at dksX0_blister_0 2 rfl rfl)
theorem dX0_blister_3 : decode cX0_blister 3 = .ok (.iload_n 1, 1) := dk_27 (dk_at dksX0_blister_0 3 rfl rfl)
theorem dX0_blister_4 : decode cX0_blister 4 = .ok (.invokevirtual 151, 3) := dk_182 0 151 (dk_at dksX0_blister_0 4 rfl rfl)
theorem dX0_blister_7 : decode cX0_blister 7 = .ok (.i2l, 1) := dk_133 (dk_at dksX0_blister_0 7 rfl rfl)
theorem dX0_blister_8 : decode cX0_blister 8 = .ok (.lastore, 1) := dk_80 (dk_at dksX0_blister_0 8 rfl rfl)
theorem dX0_blister_9 : decode cX0_blister 9 = .ok (.goto 6, 3) := dk_167 0 6 (dk_at dksX0_blister_0 9 rfl rfl)
theorem dX0_blister_12 : decode cX0_blister 12 = .ok (.astore_n 3, 1) := dk_78 (dk_at dksX0_blister_0 12 rfl rfl)
theorem dX0_blister_13 : decode cX0_blister 13 = .ok (.iconst 1, 1) := dk_4 (dk_at dksX0_blister_0 13 rfl rfl)
theorem dX0_blister_14 : decode cX0_blister 14 = .ok (.ireturn, 1) := dk_172 (dk_at dksX0_blister_0 14 rfl rfl)
theorem dX0_blister_15 : decode cX0_blister 15 = .ok (.iconst 0, 1) := dk_3 (dk_at dksX0_blister_0 15 rfl rfl)
theorem dX0_blister_16 : decode cX0_blister 16 = .ok (.ireturn, 1) := dk_172 (dk_at dksX0_blister_0 16 rfl rfl)
abbrev cX0_skill : ByteArray := method_46_code
def yX0_skill : MethodName := ⟨RX0, "skill", "(LLimbBenches;IZI[J)I"⟩
def dkwX0_skill_0 : List UInt8 := [25, 4, 3, 42, 27, 28, 29, 182, 0, 154, 133, 80, 167, 0, 7, 58, 5, 4, 172, 3, 172]
abbrev dktX0_skill_0 : List UInt8 := dkwX0_skill_0 ++ []
theorem dksX0_skill_0 : cX0_skill.data.toList.drop 0 = dktX0_skill_0 := by decide +kernel
theorem dX0_skill_0 : decode cX0_skill 0 = .ok (.aload 4, 2) := dk_25 4 (dk_at dksX0_skill_0 0 rfl rfl)
theorem dX0_skill_2 : decode cX0_skill 2 = .ok (.iconst 0, 1) := dk_3 (dk_at dksX0_skill_0 2 rfl rfl)
theorem dX0_skill_3 : decode cX0_skill 3 = .ok (.aload_n 0, 1) := dk_42 (dk_at dksX0_skill_0 3 rfl rfl)
theorem dX0_skill_4 : decode cX0_skill 4 = .ok (.iload_n 1, 1) := dk_27 (dk_at dksX0_skill_0 4 rfl rfl)
theorem dX0_skill_5 : decode cX0_skill 5 = .ok (.iload_n 2, 1) := dk_28 (dk_at dksX0_skill_0 5 rfl rfl)
theorem dX0_skill_6 : decode cX0_skill 6 = .ok (.iload_n 3, 1) := dk_29 (dk_at dksX0_skill_0 6 rfl rfl)
theorem dX0_skill_7 : decode cX0_skill 7 = .ok (.invokevirtual 154, 3) := dk_182 0 154 (dk_at dksX0_skill_0 7 rfl rfl)
theorem dX0_skill_10 : decode cX0_skill 10 = .ok (.i2l, 1) := dk_133 (dk_at dksX0_skill_0 10 rfl rfl)
theorem dX0_skill_11 : decode cX0_skill 11 = .ok (.lastore, 1) := dk_80 (dk_at dksX0_skill_0 11 rfl rfl)
theorem dX0_skill_12 : decode cX0_skill 12 = .ok (.goto 7, 3) := dk_167 0 7 (dk_at dksX0_skill_0 12 rfl rfl)
theorem dX0_skill_15 : decode cX0_skill 15 = .ok (.astore 5, 2) := dk_58 5 (dk_at dksX0_skill_0 15 rfl rfl)
theorem dX0_skill_17 : decode cX0_skill 17 = .ok (.iconst 1, 1) := dk_4 (dk_at dksX0_skill_0 17 rfl rfl)
theorem dX0_skill_18 : decode cX0_skill 18 = .ok (.ireturn, 1) := dk_172 (dk_at dksX0_skill_0 18 rfl rfl)
theorem dX0_skill_19 : decode cX0_skill 19 = .ok (.iconst 0, 1) := dk_3 (dk_at dksX0_skill_0 19 rfl rfl)
theorem dX0_skill_20 : decode cX0_skill 20 = .ok (.ireturn, 1) := dk_172 (dk_at dksX0_skill_0 20 rfl rfl)
abbrev cX0_better : ByteArray := method_47_code
def yX0_better : MethodName := ⟨RX0, "better", "(LLimbBenches;III[J)I"⟩
def dkwX0_better_0 : List UInt8 := [25, 4, 3, 42, 27, 28, 29, 182, 0, 158, 133, 80, 167, 0, 7, 58, 5, 4, 172, 3, 172]
abbrev dktX0_better_0 : List UInt8 := dkwX0_better_0 ++ []
theorem dksX0_better_0 : cX0_better.data.toList.drop 0 = dktX0_better_0 := by decide +kernel
theorem dX0_better_0 : decode cX0_better 0 = .ok (.aload 4, 2) := dk_25 4 (dk_at dksX0_better_0 0 rfl rfl)
theorem dX0_better_2 : decode cX0_better 2 = .ok (.iconst 0, 1) := dk_3 (dk_at dksX0_better_0 2 rfl rfl)
theorem dX0_better_3 : decode cX0_better 3 = .ok (.aload_n 0, 1) := dk_42 (dk_at dksX0_better_0 3 rfl rfl)
theorem dX0_better_4 : decode cX0_better 4 = .ok (.iload_n 1, 1) := dk_27 (dk_at dksX0_better_0 4 rfl rfl)
theorem dX0_better_5 : decode cX0_better 5 = .ok (.iload_n 2, 1) := dk_28 (dk_at dksX0_better_0 5 rfl rfl)
theorem dX0_better_6 : decode cX0_better 6 = .ok (.iload_n 3, 1) := dk_29 (dk_at dksX0_better_0 6 rfl rfl)
theorem dX0_better_7 : decode cX0_better 7 = .ok (.invokevirtual 158, 3) := dk_182 0 158 (dk_at dksX0_better_0 7 rfl rfl)
theorem dX0_better_10 : decode cX0_better 10 = .ok (.i2l, 1) := dk_133 (dk_at dksX0_better_0 10 rfl rfl)
theorem dX0_better_11 : decode cX0_better 11 = .ok (.lastore, 1) := dk_80 (dk_at dksX0_better_0 11 rfl rfl)
theorem dX0_better_12 : decode cX0_better 12 = .ok (.goto 7, 3) := dk_167 0 7 (dk_at dksX0_better_0 12 rfl rfl)
theorem dX0_better_15 : decode cX0_better 15 = .ok (.astore 5, 2) := dk_58 5 (dk_at dksX0_better_0 15 rfl rfl)
theorem dX0_better_17 : decode cX0_better 17 = .ok (.iconst 1, 1) := dk_4 (dk_at dksX0_better_0 17 rfl rfl)
theorem dX0_better_18 : decode cX0_better 18 = .ok (.ireturn, 1) := dk_172 (dk_at dksX0_better_0 18 rfl rfl)
theorem dX0_better_19 : decode cX0_better 19 = .ok (.iconst 0, 1) := dk_3 (dk_at dksX0_better_0 19 rfl rfl)
theorem dX0_better_20 : decode cX0_better 20 = .ok (.ireturn, 1) := dk_172 (dk_at dksX0_better_0 20 rfl rfl)
abbrev cX0_trial : ByteArray := method_48_code
def yX0_trial : MethodName := ⟨RX0, "trial", "(LLimbBenches;II[J)I"⟩
def dkwX0_trial_0 : List UInt8 := [45, 3, 42, 27, 28, 182, 0, 161, 133, 80, 167, 0, 7, 58, 4, 4, 172, 3, 172]
abbrev dktX0_trial_0 : List UInt8 := dkwX0_trial_0 ++ []
theorem dksX0_trial_0 : cX0_trial.data.toList.drop 0 = dktX0_trial_0 := by decide +kernel
theorem dX0_trial_0 : decode cX0_trial 0 = .ok (.aload_n 3, 1) := dk_45 (dk_at dksX0_trial_0 0 rfl rfl)
theorem dX0_trial_1 : decode cX0_trial 1 = .ok (.iconst 0, 1) := dk_3 (dk_at dksX0_trial_0 1 rfl rfl)
theorem dX0_trial_2 : decode cX0_trial 2 = .ok (.aload_n 0, 1) := dk_42 (dk_at dksX0_trial_0 2 rfl rfl)
theorem dX0_trial_3 : decode cX0_trial 3 = .ok (.iload_n 1, 1) := dk_27 (dk_at dksX0_trial_0 3 rfl rfl)
theorem dX0_trial_4 : decode cX0_trial 4 = .ok (.iload_n 2, 1) := dk_28 (dk_at dksX0_trial_0 4 rfl rfl)
theorem dX0_trial_5 : decode cX0_trial 5 = .ok (.invokevirtual 161, 3) := dk_182 0 161 (dk_at dksX0_trial_0 5 rfl rfl)
theorem dX0_trial_8 : decode cX0_trial 8 = .ok (.i2l, 1) := dk_133 (dk_at dksX0_trial_0 8 rfl rfl)
theorem dX0_trial_9 : decode cX0_trial 9 = .ok (.lastore, 1) := dk_80 (dk_at dksX0_trial_0 9 rfl rfl)
theorem dX0_trial_10 : decode cX0_trial 10 = .ok (.goto 7, 3) := dk_167 0 7 (dk_at dksX0_trial_0 10 rfl rfl)
theorem dX0_trial_13 : decode cX0_trial 13 = .ok (.astore 4, 2) := dk_58 4 (dk_at dksX0_trial_0 13 rfl rfl)
theorem dX0_trial_15 : decode cX0_trial 15 = .ok (.iconst 1, 1) := dk_4 (dk_at dksX0_trial_0 15 rfl rfl)
theorem dX0_trial_16 : decode cX0_trial 16 = .ok (.ireturn, 1) := dk_172 (dk_at dksX0_trial_0 16 rfl rfl)
theorem dX0_trial_17 : decode cX0_trial 17 = .ok (.iconst 0, 1) := dk_3 (dk_at dksX0_trial_0 17 rfl rfl)
theorem dX0_trial_18 : decode cX0_trial 18 = .ok (.ireturn, 1) := dk_172 (dk_at dksX0_trial_0 18 rfl rfl)
abbrev cX0_cause : ByteArray := method_49_code
def yX0_cause : MethodName := ⟨RX0, "cause", "(LLimbBenches;II[J)I"⟩
def dkwX0_cause_0 : List UInt8 := [45, 3, 42, 27, 28, 182, 0, 164, 133, 80, 167, 0, 7, 58, 4, 4, 172, 3, 172]
abbrev dktX0_cause_0 : List UInt8 := dkwX0_cause_0 ++ []
theorem dksX0_cause_0 : cX0_cause.data.toList.drop 0 = dktX0_cause_0 := by decide +kernel
theorem dX0_cause_0 : decode cX0_cause 0 = .ok (.aload_n 3, 1) := dk_45 (dk_at dksX0_cause_0 0 rfl rfl)
theorem dX0_cause_1 : decode cX0_cause 1 = .ok (.iconst 0, 1) := dk_3 (dk_at dksX0_cause_0 1 rfl rfl)
theorem dX0_cause_2 : decode cX0_cause 2 = .ok (.aload_n 0, 1) := dk_42 (dk_at dksX0_cause_0 2 rfl rfl)
theorem dX0_cause_3 : decode cX0_cause 3 = .ok (.iload_n 1, 1) := dk_27 (dk_at dksX0_cause_0 3 rfl rfl)
theorem dX0_cause_4 : decode cX0_cause 4 = .ok (.iload_n 2, 1) := dk_28 (dk_at dksX0_cause_0 4 rfl rfl)
theorem dX0_cause_5 : decode cX0_cause 5 = .ok (.invokevirtual 164, 3) := dk_182 0 164 (dk_at dksX0_cause_0 5 rfl rfl)
theorem dX0_cause_8 : decode cX0_cause 8 = .ok (.i2l, 1) := dk_133 (dk_at dksX0_cause_0 8 rfl rfl)
theorem dX0_cause_9 : decode cX0_cause 9 = .ok (.lastore, 1) := dk_80 (dk_at dksX0_cause_0 9 rfl rfl)
theorem dX0_cause_10 : decode cX0_cause 10 = .ok (.goto 7, 3) := dk_167 0 7 (dk_at dksX0_cause_0 10 rfl rfl)
theorem dX0_cause_13 : decode cX0_cause 13 = .ok (.astore 4, 2) := dk_58 4 (dk_at dksX0_cause_0 13 rfl rfl)
theorem dX0_cause_15 : decode cX0_cause 15 = .ok (.iconst 1, 1) := dk_4 (dk_at dksX0_cause_0 15 rfl rfl)
theorem dX0_cause_16 : decode cX0_cause 16 = .ok (.ireturn, 1) := dk_172 (dk_at dksX0_cause_0 16 rfl rfl)
theorem dX0_cause_17 : decode cX0_cause 17 = .ok (.iconst 0, 1) := dk_3 (dk_at dksX0_cause_0 17 rfl rfl)
theorem dX0_cause_18 : decode cX0_cause 18 = .ok (.ireturn, 1) := dk_172 (dk_at dksX0_cause_0 18 rfl rfl)
abbrev cX0_see : ByteArray := method_50_code
def yX0_see : MethodName := ⟨RX0, "see", "(LLimbBenches;II[J)I"⟩
def dkwX0_see_0 : List UInt8 := [45, 3, 42, 27, 28, 182, 0, 167, 133, 80, 167, 0, 7, 58, 4, 4, 172, 3, 172]
abbrev dktX0_see_0 : List UInt8 := dkwX0_see_0 ++ []
theorem dksX0_see_0 : cX0_see.data.toList.drop 0 = dktX0_see_0 := by decide +kernel
theorem dX0_see_0 : decode cX0_see 0 = .ok (.aload_n 3, 1) := dk_45 (dk_at dksX0_see_0 0 rfl rfl)
theorem dX0_see_1 : decode cX0_see 1 = .ok (.iconst 0, 1) := dk_3 (dk_at dksX0_see_0 1 rfl rfl)
theorem dX0_see_2 : decode cX0_see 2 = .ok (.aload_n 0, 1) := dk_42 (dk_at dksX0_see_0 2 rfl rfl)
theorem dX0_see_3 : decode cX0_see 3 = .ok (.iload_n 1, 1) := dk_27 (dk_at dksX0_see_0 3 rfl rfl)
theorem dX0_see_4 : decode cX0_see 4 = .ok (.iload_n 2, 1) := dk_28 (dk_at dksX0_see_0 4 rfl rfl)
theorem dX0_see_5 : decode cX0_see 5 = .ok (.invokevirtual 167, 3) := dk_182 0 167 (dk_at dksX0_see_0 5 rfl rfl)
theorem dX0_see_8 : decode cX0_see 8 = .ok (.i2l, 1) := dk_133 (dk_at dksX0_see_0 8 rfl rfl)
theorem dX0_see_9 : decode cX0_see 9 = .ok (.lastore, 1) := dk_80 (dk_at dksX0_see_0 9 rfl rfl)
theorem dX0_see_10 : decode cX0_see 10 = .ok (.goto 7, 3) := dk_167 0 7 (dk_at dksX0_see_0 10 rfl rfl)
theorem dX0_see_13 : decode cX0_see 13 = .ok (.astore 4, 2) := dk_58 4 (dk_at dksX0_see_0 13 rfl rfl)
theorem dX0_see_15 : decode cX0_see 15 = .ok (.iconst 1, 1) := dk_4 (dk_at dksX0_see_0 15 rfl rfl)
theorem dX0_see_16 : decode cX0_see 16 = .ok (.ireturn, 1) := dk_172 (dk_at dksX0_see_0 16 rfl rfl)
theorem dX0_see_17 : decode cX0_see 17 = .ok (.iconst 0, 1) := dk_3 (dk_at dksX0_see_0 17 rfl rfl)
theorem dX0_see_18 : decode cX0_see 18 = .ok (.ireturn, 1) := dk_172 (dk_at dksX0_see_0 18 rfl rfl)
abbrev cX0_walk : ByteArray := method_51_code
def yX0_walk : MethodName := ⟨RX0, "walk", "(LLimbBenches;III[J)I"⟩
def dkwX0_walk_1 : List UInt8 := [172]
abbrev dktX0_walk_1 : List UInt8 := dkwX0_walk_1 ++ []
def dkwX0_walk_0 : List UInt8 := [25, 4, 3, 42, 27, 28, 29, 182, 0, 170, 133, 80, 167, 0, 11, 58, 5, 4, 172, 58, 5, 5, 172, 3]
abbrev dktX0_walk_0 : List UInt8 := dkwX0_walk_0 ++ dktX0_walk_1
theorem dksX0_walk_0 : cX0_walk.data.toList.drop 0 = dktX0_walk_0 := by decide +kernel
theorem dksX0_walk_1 : cX0_walk.data.toList.drop 24 = dktX0_walk_1 := dk_seg dksX0_walk_0 24 rfl rfl
theorem dX0_walk_0 : decode cX0_walk 0 = .ok (.aload 4, 2) := dk_25 4 (dk_at dksX0_walk_0 0 rfl rfl)
theorem dX0_walk_2 : decode cX0_walk 2 = .ok (.iconst 0, 1) := dk_3 (dk_at dksX0_walk_0 2 rfl rfl)
theorem dX0_walk_3 : decode cX0_walk 3 = .ok (.aload_n 0, 1) := dk_42 (dk_at dksX0_walk_0 3 rfl rfl)
theorem dX0_walk_4 : decode cX0_walk 4 = .ok (.iload_n 1, 1) := dk_27 (dk_at dksX0_walk_0 4 rfl rfl)
theorem dX0_walk_5 : decode cX0_walk 5 = .ok (.iload_n 2, 1) := dk_28 (dk_at dksX0_walk_0 5 rfl rfl)
theorem dX0_walk_6 : decode cX0_walk 6 = .ok (.iload_n 3, 1) := dk_29 (dk_at dksX0_walk_0 6 rfl rfl)
theorem dX0_walk_7 : decode cX0_walk 7 = .ok (.invokevirtual 170, 3) := dk_182 0 170 (dk_at dksX0_walk_0 7 rfl rfl)
theorem dX0_walk_10 : decode cX0_walk 10 = .ok (.i2l, 1) := dk_133 (dk_at dksX0_walk_0 10 rfl rfl)
theorem dX0_walk_11 : decode cX0_walk 11 = .ok (.lastore, 1) := dk_80 (dk_at dksX0_walk_0 11 rfl rfl)
theorem dX0_walk_12 : decode cX0_walk 12 = .ok (.goto 11, 3) := dk_167 0 11 (dk_at dksX0_walk_0 12 rfl rfl)
theorem dX0_walk_15 : decode cX0_walk 15 = .ok (.astore 5, 2) := dk_58 5 (dk_at dksX0_walk_0 15 rfl rfl)
theorem dX0_walk_17 : decode cX0_walk 17 = .ok (.iconst 1, 1) := dk_4 (dk_at dksX0_walk_0 17 rfl rfl)
theorem dX0_walk_18 : decode cX0_walk 18 = .ok (.ireturn, 1) := dk_172 (dk_at dksX0_walk_0 18 rfl rfl)
theorem dX0_walk_19 : decode cX0_walk 19 = .ok (.astore 5, 2) := dk_58 5 (dk_at dksX0_walk_0 19 rfl rfl)
theorem dX0_walk_21 : decode cX0_walk 21 = .ok (.iconst 2, 1) := dk_5 (dk_at dksX0_walk_0 21 rfl rfl)
theorem dX0_walk_22 : decode cX0_walk 22 = .ok (.ireturn, 1) := dk_172 (dk_at dksX0_walk_0 22 rfl rfl)
theorem dX0_walk_23 : decode cX0_walk 23 = .ok (.iconst 0, 1) := dk_3 (dk_at dksX0_walk_0 23 rfl rfl)
theorem dX0_walk_24 : decode cX0_walk 24 = .ok (.ireturn, 1) := dk_172 (dk_at dksX0_walk_1 0 rfl rfl)
abbrev cX0_changed : ByteArray := method_52_code
def yX0_changed : MethodName := ⟨RX0, "changed", "(LLimbBenches;II[J)I"⟩
def dkwX0_changed_0 : List UInt8 := [45, 3, 42, 27, 28, 182, 0, 173, 133, 80, 167, 0, 11, 58, 4, 4, 172, 58, 4, 5, 172, 3, 172]
abbrev dktX0_changed_0 : List UInt8 := dkwX0_changed_0 ++ []
theorem dksX0_changed_0 : cX0_changed.data.toList.drop 0 = dktX0_changed_0 := by decide +kernel
theorem dX0_changed_0 : decode cX0_changed 0 = .ok (.aload_n 3, 1) := dk_45 (dk_at dksX0_changed_0 0 rfl rfl)
theorem dX0_changed_1 : decode cX0_changed 1 = .ok (.iconst 0, 1) := dk_3 (dk_at dksX0_changed_0 1 rfl rfl)
theorem dX0_changed_2 : decode cX0_changed 2 = .ok (.aload_n 0, 1) := dk_42 (dk_at dksX0_changed_0 2 rfl rfl)
theorem dX0_changed_3 : decode cX0_changed 3 = .ok (.iload_n 1, 1) := dk_27 (dk_at dksX0_changed_0 3 rfl rfl)
theorem dX0_changed_4 : decode cX0_changed 4 = .ok (.iload_n 2, 1) := dk_28 (dk_at dksX0_changed_0 4 rfl rfl)
theorem dX0_changed_5 : decode cX0_changed 5 = .ok (.invokevirtual 173, 3) := dk_182 0 173 (dk_at dksX0_changed_0 5 rfl rfl)
theorem dX0_changed_8 : decode cX0_changed 8 = .ok (.i2l, 1) := dk_133 (dk_at dksX0_changed_0 8 rfl rfl)
theorem dX0_changed_9 : decode cX0_changed 9 = .ok (.lastore, 1) := dk_80 (dk_at dksX0_changed_0 9 rfl rfl)
theorem dX0_changed_10 : decode cX0_changed 10 = .ok (.goto 11, 3) := dk_167 0 11 (dk_at dksX0_changed_0 10 rfl rfl)
theorem dX0_changed_13 : decode cX0_changed 13 = .ok (.astore 4, 2) := dk_58 4 (dk_at dksX0_changed_0 13 rfl rfl)
theorem dX0_changed_15 : decode cX0_changed 15 = .ok (.iconst 1, 1) := dk_4 (dk_at dksX0_changed_0 15 rfl rfl)
theorem dX0_changed_16 : decode cX0_changed 16 = .ok (.ireturn, 1) := dk_172 (dk_at dksX0_changed_0 16 rfl rfl)
theorem dX0_changed_17 : decode cX0_changed 17 = .ok (.astore 4, 2) := dk_58 4 (dk_at dksX0_changed_0 17 rfl rfl)
theorem dX0_changed_19 : decode cX0_changed 19 = .ok (.iconst 2, 1) := dk_5 (dk_at dksX0_changed_0 19 rfl rfl)
theorem dX0_changed_20 : decode cX0_changed 20 = .ok (.ireturn, 1) := dk_172 (dk_at dksX0_changed_0 20 rfl rfl)
theorem dX0_changed_21 : decode cX0_changed 21 = .ok (.iconst 0, 1) := dk_3 (dk_at dksX0_changed_0 21 rfl rfl)
theorem dX0_changed_22 : decode cX0_changed 22 = .ok (.ireturn, 1) := dk_172 (dk_at dksX0_changed_0 22 rfl rfl)
abbrev cX0_spent : ByteArray := method_53_code
def yX0_spent : MethodName := ⟨RX0, "spent", "(LLimbBenches;II[J)I"⟩
def dkwX0_spent_0 : List UInt8 := [45, 3, 42, 27, 28, 182, 0, 176, 133, 80, 167, 0, 11, 58, 4, 4, 172, 58, 4, 5, 172, 3, 172]
abbrev dktX0_spent_0 : List UInt8 := dkwX0_spent_0 ++ []
theorem dksX0_spent_0 : cX0_spent.data.toList.drop 0 = dktX0_spent_0 := by decide +kernel
theorem dX0_spent_0 : decode cX0_spent 0 = .ok (.aload_n 3, 1) := dk_45 (dk_at dksX0_spent_0 0 rfl rfl)
theorem dX0_spent_1 : decode cX0_spent 1 = .ok (.iconst 0, 1) := dk_3 (dk_at dksX0_spent_0 1 rfl rfl)
theorem dX0_spent_2 : decode cX0_spent 2 = .ok (.aload_n 0, 1) := dk_42 (dk_at dksX0_spent_0 2 rfl rfl)
theorem dX0_spent_3 : decode cX0_spent 3 = .ok (.iload_n 1, 1) := dk_27 (dk_at dksX0_spent_0 3 rfl rfl)
theorem dX0_spent_4 : decode cX0_spent 4 = .ok (.iload_n 2, 1) := dk_28 (dk_at dksX0_spent_0 4 rfl rfl)
theorem dX0_spent_5 : decode cX0_spent 5 = .ok (.invokevirtual 176, 3) := dk_182 0 176 (dk_at dksX0_spent_0 5 rfl rfl)
theorem dX0_spent_8 : decode cX0_spent 8 = .ok (.i2l, 1) := dk_133 (dk_at dksX0_spent_0 8 rfl rfl)
theorem dX0_spent_9 : decode cX0_spent 9 = .ok (.lastore, 1) := dk_80 (dk_at dksX0_spent_0 9 rfl rfl)
theorem dX0_spent_10 : decode cX0_spent 10 = .ok (.goto 11, 3) := dk_167 0 11 (dk_at dksX0_spent_0 10 rfl rfl)
theorem dX0_spent_13 : decode cX0_spent 13 = .ok (.astore 4, 2) := dk_58 4 (dk_at dksX0_spent_0 13 rfl rfl)
theorem dX0_spent_15 : decode cX0_spent 15 = .ok (.iconst 1, 1) := dk_4 (dk_at dksX0_spent_0 15 rfl rfl)
theorem dX0_spent_16 : decode cX0_spent 16 = .ok (.ireturn, 1) := dk_172 (dk_at dksX0_spent_0 16 rfl rfl)
theorem dX0_spent_17 : decode cX0_spent 17 = .ok (.astore 4, 2) := dk_58 4 (dk_at dksX0_spent_0 17 rfl rfl)
theorem dX0_spent_19 : decode cX0_spent 19 = .ok (.iconst 2, 1) := dk_5 (dk_at dksX0_spent_0 19 rfl rfl)
theorem dX0_spent_20 : decode cX0_spent 20 = .ok (.ireturn, 1) := dk_172 (dk_at dksX0_spent_0 20 rfl rfl)
theorem dX0_spent_21 : decode cX0_spent 21 = .ok (.iconst 0, 1) := dk_3 (dk_at dksX0_spent_0 21 rfl rfl)
theorem dX0_spent_22 : decode cX0_spent 22 = .ok (.ireturn, 1) := dk_172 (dk_at dksX0_spent_0 22 rfl rfl)
theorem q128 : (Jvm.Cond.initialized "LimbBenchesLaw") ∈ lw_all := lw_g (lw_at lw_m1 0 rfl) rfl
theorem q183 : (Jvm.Cond.classLink "LimbBenchesLaw" (8 : Nat) "LimbBenches") ∈ lw_all := lw_g (lw_at lw_m1 55 rfl) rfl
theorem q185 : (Jvm.Cond.methodLink "LimbBenchesLaw" (179 : Nat) ({ cls := "LimbBenches", name := "<init>", desc := "()V" } : Jvm.MethodName)) ∈ lw_all := lw_g (lw_at lw_m1 57 rfl) rfl
theorem q693 : (Jvm.Cond.methodLink "LimbBenchesLaw" (183 : Nat) ({ cls := "LimbBenches", name := "feed", desc := "(IIIII)I" } : Jvm.MethodName)) ∈ lw_all := lw_g (lw_at lw_m3 85 rfl) rfl
theorem q701 : (Jvm.Cond.methodLink "LimbBenchesLaw" (202 : Nat) ({ cls := "LimbBenches", name := "fault", desc := "()I" } : Jvm.MethodName)) ∈ lw_all := lw_g (lw_at lw_m3 93 rfl) rfl
theorem q705 : (Jvm.Cond.methodLink "LimbBenchesLaw" (257 : Nat) ({ cls := "LimbBenches", name := "beyond", desc := "()I" } : Jvm.MethodName)) ∈ lw_all := lw_g (lw_at lw_m3 97 rfl) rfl
theorem q849 : (Jvm.Cond.methodLink "LimbBenchesLaw" (261 : Nat) ({ cls := "LimbBenches", name := "served", desc := "(I)I" } : Jvm.MethodName)) ∈ lw_all := lw_g (lw_at lw_m4 1 rfl) rfl
theorem q853 : (Jvm.Cond.methodLink "LimbBenchesLaw" (283 : Nat) ({ cls := "LimbBenches", name := "best", desc := "()I" } : Jvm.MethodName)) ∈ lw_all := lw_g (lw_at lw_m4 5 rfl) rfl
theorem q876 : (Jvm.Cond.methodLink "LimbBenchesLaw" (321 : Nat) ({ cls := "LimbBenches", name := "lending", desc := "()I" } : Jvm.MethodName)) ∈ lw_all := lw_g (lw_at lw_m4 28 rfl) rfl
theorem q889 : (Jvm.Cond.methodLink "LimbBenchesLaw" (328 : Nat) ({ cls := "LimbBenches", name := "recalled", desc := "()I" } : Jvm.MethodName)) ∈ lw_all := lw_g (lw_at lw_m4 41 rfl) rfl
theorem q923 : (Jvm.Cond.methodLink "LimbBenchesLaw" (364 : Nat) ({ cls := "LimbBenches", name := "gain", desc := "()I" } : Jvm.MethodName)) ∈ lw_all := lw_g (lw_at lw_m4 75 rfl) rfl
theorem q932 : (Jvm.Cond.methodLink "LimbBenchesLaw" (368 : Nat) ({ cls := "LimbBenches", name := "ways", desc := "()I" } : Jvm.MethodName)) ∈ lw_all := lw_g (lw_at lw_m4 84 rfl) rfl
theorem q936 : (Jvm.Cond.methodLink "LimbBenchesLaw" (372 : Nat) ({ cls := "LimbBenches", name := "anew", desc := "()I" } : Jvm.MethodName)) ∈ lw_all := lw_g (lw_at lw_m4 88 rfl) rfl
theorem q944 : (Jvm.Cond.methodLink "LimbBenchesLaw" (382 : Nat) ({ cls := "LimbBenches", name := "sure", desc := "()I" } : Jvm.MethodName)) ∈ lw_all := lw_g (lw_at lw_m4 96 rfl) rfl
theorem q967 : (Jvm.Cond.methodLink "LimbBenchesLaw" (386 : Nat) ({ cls := "LimbBenches", name := "look", desc := "()I" } : Jvm.MethodName)) ∈ lw_all := lw_g (lw_at lw_m4 119 rfl) rfl
theorem q971 : (Jvm.Cond.methodLink "LimbBenchesLaw" (399 : Nat) ({ cls := "LimbBenches", name := "image", desc := "()I" } : Jvm.MethodName)) ∈ lw_all := lw_g (lw_at lw_m4 123 rfl) rfl
theorem q1160 : (Jvm.Cond.methodLink "LimbBenchesLaw" (403 : Nat) ({ cls := "LimbBenches", name := "restore", desc := "()I" } : Jvm.MethodName)) ∈ lw_all := lw_g (lw_at lw_m5 72 rfl) rfl
theorem q1164 : (Jvm.Cond.methodLink "LimbBenchesLaw" (407 : Nat) ({ cls := "LimbBenches", name := "count", desc := "(I)I" } : Jvm.MethodName)) ∈ lw_all := lw_g (lw_at lw_m5 76 rfl) rfl
theorem q1168 : (Jvm.Cond.methodLink "LimbBenchesLaw" (188 : Nat) ({ cls := "LimbBenchesLaw", name := "rules", desc := "(LLimbBenches;II[J)I" } : Jvm.MethodName)) ∈ lw_all := lw_g (lw_at lw_m5 80 rfl) rfl
theorem q1169 : (Jvm.Cond.static ({ cls := "LimbBenchesLaw", name := "rules", desc := "(LLimbBenches;II[J)I" } : Jvm.MethodName)) ∈ lw_all := lw_g (lw_at lw_m5 81 rfl) rfl
theorem q1170 : (Jvm.Cond.codeWith ({ cls := "LimbBenchesLaw", name := "rules", desc := "(LLimbBenches;II[J)I" } : Jvm.MethodName) method_3_code (5 : Nat) (Option.some Jvm.ClassFile.FieldType.int) [((0 : Nat), (10 : Nat), (13 : Nat), (13 : Nat))]) ∈ lw_all := lw_g (lw_at lw_m5 82 rfl) rfl
theorem q1171 : (Jvm.Cond.classLink "LimbBenchesLaw" (13 : Nat) "java/lang/IllegalArgumentException") ∈ lw_all := lw_g (lw_at lw_m5 83 rfl) rfl
theorem q1172 : (Jvm.Cond.methodLink "LimbBenchesLaw" (7 : Nat) ({ cls := "LimbBenches", name := "rules", desc := "(II)I" } : Jvm.MethodName)) ∈ lw_all := lw_g (lw_at lw_m5 84 rfl) rfl
theorem q1606 : (Jvm.Cond.methodLink "LimbBenchesLaw" (198 : Nat) ({ cls := "LimbBenchesLaw", name := "counts", desc := "(LLimbBenches;I[J)I" } : Jvm.MethodName)) ∈ lw_all := lw_g (lw_at lw_m7 38 rfl) rfl
theorem q1607 : (Jvm.Cond.static ({ cls := "LimbBenchesLaw", name := "counts", desc := "(LLimbBenches;I[J)I" } : Jvm.MethodName)) ∈ lw_all := lw_g (lw_at lw_m7 39 rfl) rfl
theorem q1608 : (Jvm.Cond.codeWith ({ cls := "LimbBenchesLaw", name := "counts", desc := "(LLimbBenches;I[J)I" } : Jvm.MethodName) method_4_code (4 : Nat) (Option.some Jvm.ClassFile.FieldType.int) [((0 : Nat), (9 : Nat), (12 : Nat), (13 : Nat))]) ∈ lw_all := lw_g (lw_at lw_m7 40 rfl) rfl
theorem q1609 : (Jvm.Cond.methodLink "LimbBenchesLaw" (15 : Nat) ({ cls := "LimbBenches", name := "counts", desc := "(I)I" } : Jvm.MethodName)) ∈ lw_all := lw_g (lw_at lw_m7 41 rfl) rfl
theorem q1613 : (Jvm.Cond.methodLink "LimbBenchesLaw" (206 : Nat) ({ cls := "LimbBenchesLaw", name := "model", desc := "(LLimbBenches;IIII[J)I" } : Jvm.MethodName)) ∈ lw_all := lw_g (lw_at lw_m7 45 rfl) rfl
theorem q1614 : (Jvm.Cond.static ({ cls := "LimbBenchesLaw", name := "model", desc := "(LLimbBenches;IIII[J)I" } : Jvm.MethodName)) ∈ lw_all := lw_g (lw_at lw_m7 46 rfl) rfl
theorem q1615 : (Jvm.Cond.codeWith ({ cls := "LimbBenchesLaw", name := "model", desc := "(LLimbBenches;IIII[J)I" } : Jvm.MethodName) method_5_code (7 : Nat) (Option.some Jvm.ClassFile.FieldType.int) [((0 : Nat), (14 : Nat), (17 : Nat), (13 : Nat))]) ∈ lw_all := lw_g (lw_at lw_m7 47 rfl) rfl
theorem q1616 : (Jvm.Cond.methodLink "LimbBenchesLaw" (19 : Nat) ({ cls := "LimbBenches", name := "model", desc := "(IIII)I" } : Jvm.MethodName)) ∈ lw_all := lw_g (lw_at lw_m7 48 rfl) rfl
theorem q1646 : (Jvm.Cond.methodLink "LimbBenchesLaw" (210 : Nat) ({ cls := "LimbBenchesLaw", name := "days", desc := "(LLimbBenches;I[J)I" } : Jvm.MethodName)) ∈ lw_all := lw_g (lw_at lw_m7 78 rfl) rfl
theorem q1647 : (Jvm.Cond.static ({ cls := "LimbBenchesLaw", name := "days", desc := "(LLimbBenches;I[J)I" } : Jvm.MethodName)) ∈ lw_all := lw_g (lw_at lw_m7 79 rfl) rfl
theorem q1648 : (Jvm.Cond.codeWith ({ cls := "LimbBenchesLaw", name := "days", desc := "(LLimbBenches;I[J)I" } : Jvm.MethodName) method_6_code (4 : Nat) (Option.some Jvm.ClassFile.FieldType.int) [((0 : Nat), (9 : Nat), (12 : Nat), (13 : Nat)), ((0 : Nat), (9 : Nat), (15 : Nat), (26 : Nat))]) ∈ lw_all := lw_g (lw_at lw_m7 80 rfl) rfl
theorem q1649 : (Jvm.Cond.classLink "LimbBenchesLaw" (26 : Nat) "java/lang/IllegalStateException") ∈ lw_all := lw_g (lw_at lw_m7 81 rfl) rfl
theorem q1650 : (Jvm.Cond.methodLink "LimbBenchesLaw" (23 : Nat) ({ cls := "LimbBenches", name := "days", desc := "(I)I" } : Jvm.MethodName)) ∈ lw_all := lw_g (lw_at lw_m7 82 rfl) rfl
theorem q1669 : (Jvm.Cond.methodLink "LimbBenchesLaw" (213 : Nat) ({ cls := "LimbBenchesLaw", name := "person", desc := "(LLimbBenches;IIIIZ[J)I" } : Jvm.MethodName)) ∈ lw_all := lw_g (lw_at lw_m7 101 rfl) rfl
theorem q1670 : (Jvm.Cond.static ({ cls := "LimbBenchesLaw", name := "person", desc := "(LLimbBenches;IIIIZ[J)I" } : Jvm.MethodName)) ∈ lw_all := lw_g (lw_at lw_m7 102 rfl) rfl
theorem q1671 : (Jvm.Cond.codeWith ({ cls := "LimbBenchesLaw", name := "person", desc := "(LLimbBenches;IIIIZ[J)I" } : Jvm.MethodName) method_7_code (8 : Nat) (Option.some Jvm.ClassFile.FieldType.int) [((0 : Nat), (16 : Nat), (19 : Nat), (13 : Nat))]) ∈ lw_all := lw_g (lw_at lw_m7 103 rfl) rfl
theorem q1672 : (Jvm.Cond.methodLink "LimbBenchesLaw" (28 : Nat) ({ cls := "LimbBenches", name := "person", desc := "(IIIIZ)I" } : Jvm.MethodName)) ∈ lw_all := lw_g (lw_at lw_m7 104 rfl) rfl
theorem q1680 : (Jvm.Cond.methodLink "LimbBenchesLaw" (217 : Nat) ({ cls := "LimbBenchesLaw", name := "stump", desc := "(LLimbBenches;III[J)I" } : Jvm.MethodName)) ∈ lw_all := lw_g (lw_at lw_m7 112 rfl) rfl
theorem q1681 : (Jvm.Cond.static ({ cls := "LimbBenchesLaw", name := "stump", desc := "(LLimbBenches;III[J)I" } : Jvm.MethodName)) ∈ lw_all := lw_g (lw_at lw_m7 113 rfl) rfl
theorem q1682 : (Jvm.Cond.codeWith ({ cls := "LimbBenchesLaw", name := "stump", desc := "(LLimbBenches;III[J)I" } : Jvm.MethodName) method_8_code (6 : Nat) (Option.some Jvm.ClassFile.FieldType.int) [((0 : Nat), (12 : Nat), (15 : Nat), (36 : Nat)), ((0 : Nat), (12 : Nat), (19 : Nat), (13 : Nat))]) ∈ lw_all := lw_g (lw_at lw_m7 114 rfl) rfl
theorem q1683 : (Jvm.Cond.classLink "LimbBenchesLaw" (36 : Nat) "java/util/NoSuchElementException") ∈ lw_all := lw_g (lw_at lw_m7 115 rfl) rfl
theorem q1684 : (Jvm.Cond.methodLink "LimbBenchesLaw" (32 : Nat) ({ cls := "LimbBenches", name := "stump", desc := "(III)I" } : Jvm.MethodName)) ∈ lw_all := lw_g (lw_at lw_m7 116 rfl) rfl
theorem q1711 : (Jvm.Cond.methodLink "LimbBenchesLaw" (221 : Nat) ({ cls := "LimbBenchesLaw", name := "change", desc := "(LLimbBenches;III[J)I" } : Jvm.MethodName)) ∈ lw_all := lw_g (lw_at lw_m7 143 rfl) rfl
theorem q1712 : (Jvm.Cond.static ({ cls := "LimbBenchesLaw", name := "change", desc := "(LLimbBenches;III[J)I" } : Jvm.MethodName)) ∈ lw_all := lw_g (lw_at lw_m7 144 rfl) rfl
theorem q1713 : (Jvm.Cond.codeWith ({ cls := "LimbBenchesLaw", name := "change", desc := "(LLimbBenches;III[J)I" } : Jvm.MethodName) method_9_code (6 : Nat) (Option.some Jvm.ClassFile.FieldType.int) [((0 : Nat), (12 : Nat), (15 : Nat), (36 : Nat)), ((0 : Nat), (12 : Nat), (19 : Nat), (13 : Nat))]) ∈ lw_all := lw_g (lw_at lw_m7 145 rfl) rfl
theorem q1714 : (Jvm.Cond.methodLink "LimbBenchesLaw" (38 : Nat) ({ cls := "LimbBenches", name := "change", desc := "(III)I" } : Jvm.MethodName)) ∈ lw_all := lw_g (lw_at lw_m7 146 rfl) rfl
theorem q1718 : (Jvm.Cond.methodLink "LimbBenchesLaw" (224 : Nat) ({ cls := "LimbBenchesLaw", name := "size", desc := "(LLimbBenches;II[J)I" } : Jvm.MethodName)) ∈ lw_all := lw_g (lw_at lw_m7 150 rfl) rfl
theorem q1719 : (Jvm.Cond.static ({ cls := "LimbBenchesLaw", name := "size", desc := "(LLimbBenches;II[J)I" } : Jvm.MethodName)) ∈ lw_all := lw_g (lw_at lw_m7 151 rfl) rfl
theorem q1720 : (Jvm.Cond.codeWith ({ cls := "LimbBenchesLaw", name := "size", desc := "(LLimbBenches;II[J)I" } : Jvm.MethodName) method_10_code (5 : Nat) (Option.some Jvm.ClassFile.FieldType.int) [((0 : Nat), (10 : Nat), (13 : Nat), (36 : Nat)), ((0 : Nat), (10 : Nat), (17 : Nat), (13 : Nat))]) ∈ lw_all := lw_g (lw_at lw_m7 152 rfl) rfl
theorem q1721 : (Jvm.Cond.methodLink "LimbBenchesLaw" (41 : Nat) ({ cls := "LimbBenches", name := "size", desc := "(II)I" } : Jvm.MethodName)) ∈ lw_all := lw_g (lw_at lw_m7 153 rfl) rfl
theorem q1725 : (Jvm.Cond.methodLink "LimbBenchesLaw" (227 : Nat) ({ cls := "LimbBenchesLaw", name := "told", desc := "(LLimbBenches;III[J)I" } : Jvm.MethodName)) ∈ lw_all := lw_g (lw_at lw_m7 157 rfl) rfl
theorem q1726 : (Jvm.Cond.static ({ cls := "LimbBenchesLaw", name := "told", desc := "(LLimbBenches;III[J)I" } : Jvm.MethodName)) ∈ lw_all := lw_g (lw_at lw_m7 158 rfl) rfl
theorem q1727 : (Jvm.Cond.codeWith ({ cls := "LimbBenchesLaw", name := "told", desc := "(LLimbBenches;III[J)I" } : Jvm.MethodName) method_11_code (6 : Nat) (Option.some Jvm.ClassFile.FieldType.int) [((0 : Nat), (12 : Nat), (15 : Nat), (36 : Nat)), ((0 : Nat), (12 : Nat), (19 : Nat), (13 : Nat))]) ∈ lw_all := lw_g (lw_at lw_m7 159 rfl) rfl
theorem q1728 : (Jvm.Cond.methodLink "LimbBenchesLaw" (44 : Nat) ({ cls := "LimbBenches", name := "told", desc := "(III)I" } : Jvm.MethodName)) ∈ lw_all := lw_g (lw_at lw_m7 160 rfl) rfl
theorem q1737 : (Jvm.Cond.methodLink "LimbBenchesLaw" (230 : Nat) ({ cls := "LimbBenchesLaw", name := "barred", desc := "(LLimbBenches;III[J)I" } : Jvm.MethodName)) ∈ lw_all := lw_g (lw_at lw_m7 169 rfl) rfl
theorem q1738 : (Jvm.Cond.static ({ cls := "LimbBenchesLaw", name := "barred", desc := "(LLimbBenches;III[J)I" } : Jvm.MethodName)) ∈ lw_all := lw_g (lw_at lw_m7 170 rfl) rfl
theorem q1739 : (Jvm.Cond.codeWith ({ cls := "LimbBenchesLaw", name := "barred", desc := "(LLimbBenches;III[J)I" } : Jvm.MethodName) method_12_code (6 : Nat) (Option.some Jvm.ClassFile.FieldType.int) [((0 : Nat), (19 : Nat), (22 : Nat), (36 : Nat)), ((0 : Nat), (19 : Nat), (26 : Nat), (51 : Nat))]) ∈ lw_all := lw_g (lw_at lw_m7 171 rfl) rfl
theorem q1740 : (Jvm.Cond.classLink "LimbBenchesLaw" (51 : Nat) "java/lang/IndexOutOfBoundsException") ∈ lw_all := lw_g (lw_at lw_m7 172 rfl) rfl
theorem q1759 : (Jvm.Cond.methodLink "LimbBenchesLaw" (47 : Nat) ({ cls := "LimbBenches", name := "barred", desc := "(III)Z" } : Jvm.MethodName)) ∈ lw_all := lw_g (lw_at lw_m7 191 rfl) rfl
theorem q1799 : (Jvm.Cond.methodLink "LimbBenchesLaw" (233 : Nat) ({ cls := "LimbBenchesLaw", name := "fit", desc := "(LLimbBenches;III[J)I" } : Jvm.MethodName)) ∈ lw_all := lw_g (lw_at lw_m7 231 rfl) rfl
theorem q1800 : (Jvm.Cond.static ({ cls := "LimbBenchesLaw", name := "fit", desc := "(LLimbBenches;III[J)I" } : Jvm.MethodName)) ∈ lw_all := lw_g (lw_at lw_m7 232 rfl) rfl
theorem q1801 : (Jvm.Cond.codeWith ({ cls := "LimbBenchesLaw", name := "fit", desc := "(LLimbBenches;III[J)I" } : Jvm.MethodName) method_13_code (6 : Nat) (Option.some Jvm.ClassFile.FieldType.int) [((0 : Nat), (12 : Nat), (15 : Nat), (36 : Nat)), ((0 : Nat), (12 : Nat), (19 : Nat), (51 : Nat)), ((0 : Nat), (12 : Nat), (23 : Nat), (13 : Nat))]) ∈ lw_all := lw_g (lw_at lw_m7 233 rfl) rfl
theorem q1802 : (Jvm.Cond.methodLink "LimbBenchesLaw" (53 : Nat) ({ cls := "LimbBenches", name := "fit", desc := "(III)I" } : Jvm.MethodName)) ∈ lw_all := lw_g (lw_at lw_m7 234 rfl) rfl
theorem q1878 : (Jvm.Cond.methodLink "LimbBenchesLaw" (236 : Nat) ({ cls := "LimbBenchesLaw", name := "part", desc := "(LLimbBenches;III[J)I" } : Jvm.MethodName)) ∈ lw_all := lw_g (lw_at lw_m8 70 rfl) rfl
theorem q1879 : (Jvm.Cond.static ({ cls := "LimbBenchesLaw", name := "part", desc := "(LLimbBenches;III[J)I" } : Jvm.MethodName)) ∈ lw_all := lw_g (lw_at lw_m8 71 rfl) rfl
theorem q1880 : (Jvm.Cond.codeWith ({ cls := "LimbBenchesLaw", name := "part", desc := "(LLimbBenches;III[J)I" } : Jvm.MethodName) method_14_code (6 : Nat) (Option.some Jvm.ClassFile.FieldType.int) [((0 : Nat), (12 : Nat), (15 : Nat), (36 : Nat)), ((0 : Nat), (12 : Nat), (19 : Nat), (13 : Nat))]) ∈ lw_all := lw_g (lw_at lw_m8 72 rfl) rfl
theorem q1881 : (Jvm.Cond.methodLink "LimbBenchesLaw" (56 : Nat) ({ cls := "LimbBenches", name := "part", desc := "(III)I" } : Jvm.MethodName)) ∈ lw_all := lw_g (lw_at lw_m8 73 rfl) rfl
theorem q1895 : (Jvm.Cond.methodLink "LimbBenchesLaw" (239 : Nat) ({ cls := "LimbBenchesLaw", name := "reuse", desc := "(LLimbBenches;III[J)I" } : Jvm.MethodName)) ∈ lw_all := lw_g (lw_at lw_m8 87 rfl) rfl
theorem q1896 : (Jvm.Cond.static ({ cls := "LimbBenchesLaw", name := "reuse", desc := "(LLimbBenches;III[J)I" } : Jvm.MethodName)) ∈ lw_all := lw_g (lw_at lw_m8 88 rfl) rfl
theorem q1897 : (Jvm.Cond.codeWith ({ cls := "LimbBenchesLaw", name := "reuse", desc := "(LLimbBenches;III[J)I" } : Jvm.MethodName) method_15_code (6 : Nat) (Option.some Jvm.ClassFile.FieldType.int) [((0 : Nat), (12 : Nat), (15 : Nat), (36 : Nat)), ((0 : Nat), (12 : Nat), (19 : Nat), (13 : Nat))]) ∈ lw_all := lw_g (lw_at lw_m8 89 rfl) rfl
theorem q1898 : (Jvm.Cond.methodLink "LimbBenchesLaw" (59 : Nat) ({ cls := "LimbBenches", name := "reuse", desc := "(III)I" } : Jvm.MethodName)) ∈ lw_all := lw_g (lw_at lw_m8 90 rfl) rfl
theorem q1902 : (Jvm.Cond.methodLink "LimbBenchesLaw" (242 : Nat) ({ cls := "LimbBenchesLaw", name := "next", desc := "(LLimbBenches;II[J)I" } : Jvm.MethodName)) ∈ lw_all := lw_g (lw_at lw_m8 94 rfl) rfl
theorem q1903 : (Jvm.Cond.static ({ cls := "LimbBenchesLaw", name := "next", desc := "(LLimbBenches;II[J)I" } : Jvm.MethodName)) ∈ lw_all := lw_g (lw_at lw_m8 95 rfl) rfl
theorem q1904 : (Jvm.Cond.codeWith ({ cls := "LimbBenchesLaw", name := "next", desc := "(LLimbBenches;II[J)I" } : Jvm.MethodName) method_16_code (5 : Nat) (Option.some Jvm.ClassFile.FieldType.int) [((0 : Nat), (10 : Nat), (13 : Nat), (36 : Nat)), ((0 : Nat), (10 : Nat), (17 : Nat), (13 : Nat))]) ∈ lw_all := lw_g (lw_at lw_m8 96 rfl) rfl
theorem q1905 : (Jvm.Cond.methodLink "LimbBenchesLaw" (62 : Nat) ({ cls := "LimbBenches", name := "next", desc := "(II)I" } : Jvm.MethodName)) ∈ lw_all := lw_g (lw_at lw_m8 97 rfl) rfl
theorem q1915 : (Jvm.Cond.methodLink "LimbBenchesLaw" (245 : Nat) ({ cls := "LimbBenchesLaw", name := "take", desc := "(LLimbBenches;III[J)I" } : Jvm.MethodName)) ∈ lw_all := lw_g (lw_at lw_m8 107 rfl) rfl
theorem q1916 : (Jvm.Cond.static ({ cls := "LimbBenchesLaw", name := "take", desc := "(LLimbBenches;III[J)I" } : Jvm.MethodName)) ∈ lw_all := lw_g (lw_at lw_m8 108 rfl) rfl
theorem q1917 : (Jvm.Cond.codeWith ({ cls := "LimbBenchesLaw", name := "take", desc := "(LLimbBenches;III[J)I" } : Jvm.MethodName) method_17_code (6 : Nat) (Option.some Jvm.ClassFile.FieldType.int) [((0 : Nat), (12 : Nat), (15 : Nat), (36 : Nat)), ((0 : Nat), (12 : Nat), (19 : Nat), (51 : Nat)), ((0 : Nat), (12 : Nat), (23 : Nat), (13 : Nat))]) ∈ lw_all := lw_g (lw_at lw_m8 109 rfl) rfl
theorem q1918 : (Jvm.Cond.methodLink "LimbBenchesLaw" (65 : Nat) ({ cls := "LimbBenches", name := "take", desc := "(III)I" } : Jvm.MethodName)) ∈ lw_all := lw_g (lw_at lw_m8 110 rfl) rfl
theorem q1922 : (Jvm.Cond.methodLink "LimbBenchesLaw" (248 : Nat) ({ cls := "LimbBenchesLaw", name := "beside", desc := "(LLimbBenches;II[J)I" } : Jvm.MethodName)) ∈ lw_all := lw_g (lw_at lw_m8 114 rfl) rfl
theorem q1923 : (Jvm.Cond.static ({ cls := "LimbBenchesLaw", name := "beside", desc := "(LLimbBenches;II[J)I" } : Jvm.MethodName)) ∈ lw_all := lw_g (lw_at lw_m8 115 rfl) rfl
theorem q1924 : (Jvm.Cond.codeWith ({ cls := "LimbBenchesLaw", name := "beside", desc := "(LLimbBenches;II[J)I" } : Jvm.MethodName) method_18_code (5 : Nat) (Option.some Jvm.ClassFile.FieldType.int) [((0 : Nat), (10 : Nat), (13 : Nat), (36 : Nat)), ((0 : Nat), (10 : Nat), (17 : Nat), (13 : Nat))]) ∈ lw_all := lw_g (lw_at lw_m8 116 rfl) rfl
theorem q1925 : (Jvm.Cond.methodLink "LimbBenchesLaw" (68 : Nat) ({ cls := "LimbBenches", name := "beside", desc := "(II)I" } : Jvm.MethodName)) ∈ lw_all := lw_g (lw_at lw_m8 117 rfl) rfl
theorem q1929 : (Jvm.Cond.methodLink "LimbBenchesLaw" (251 : Nat) ({ cls := "LimbBenchesLaw", name := "fits", desc := "(LLimbBenches;III[J)I" } : Jvm.MethodName)) ∈ lw_all := lw_g (lw_at lw_m8 121 rfl) rfl
theorem q1930 : (Jvm.Cond.static ({ cls := "LimbBenchesLaw", name := "fits", desc := "(LLimbBenches;III[J)I" } : Jvm.MethodName)) ∈ lw_all := lw_g (lw_at lw_m8 122 rfl) rfl
theorem q1931 : (Jvm.Cond.codeWith ({ cls := "LimbBenchesLaw", name := "fits", desc := "(LLimbBenches;III[J)I" } : Jvm.MethodName) method_19_code (6 : Nat) (Option.some Jvm.ClassFile.FieldType.int) [((0 : Nat), (12 : Nat), (15 : Nat), (36 : Nat)), ((0 : Nat), (12 : Nat), (19 : Nat), (13 : Nat))]) ∈ lw_all := lw_g (lw_at lw_m8 123 rfl) rfl
theorem q1932 : (Jvm.Cond.methodLink "LimbBenchesLaw" (71 : Nat) ({ cls := "LimbBenches", name := "fits", desc := "(III)I" } : Jvm.MethodName)) ∈ lw_all := lw_g (lw_at lw_m8 124 rfl) rfl
theorem q1939 : (Jvm.Cond.methodLink "LimbBenchesLaw" (254 : Nat) ({ cls := "LimbBenchesLaw", name := "lacks", desc := "(LLimbBenches;II[J)I" } : Jvm.MethodName)) ∈ lw_all := lw_g (lw_at lw_m8 131 rfl) rfl
theorem q1940 : (Jvm.Cond.static ({ cls := "LimbBenchesLaw", name := "lacks", desc := "(LLimbBenches;II[J)I" } : Jvm.MethodName)) ∈ lw_all := lw_g (lw_at lw_m8 132 rfl) rfl
theorem q1941 : (Jvm.Cond.codeWith ({ cls := "LimbBenchesLaw", name := "lacks", desc := "(LLimbBenches;II[J)I" } : Jvm.MethodName) method_20_code (5 : Nat) (Option.some Jvm.ClassFile.FieldType.int) [((0 : Nat), (10 : Nat), (13 : Nat), (36 : Nat)), ((0 : Nat), (10 : Nat), (17 : Nat), (13 : Nat))]) ∈ lw_all := lw_g (lw_at lw_m8 133 rfl) rfl
theorem q1942 : (Jvm.Cond.methodLink "LimbBenchesLaw" (74 : Nat) ({ cls := "LimbBenches", name := "lacks", desc := "(II)I" } : Jvm.MethodName)) ∈ lw_all := lw_g (lw_at lw_m8 134 rfl) rfl
theorem q1946 : (Jvm.Cond.methodLink "LimbBenchesLaw" (265 : Nat) ({ cls := "LimbBenchesLaw", name := "choice", desc := "(LLimbBenches;II[J)I" } : Jvm.MethodName)) ∈ lw_all := lw_g (lw_at lw_m8 138 rfl) rfl
theorem q1947 : (Jvm.Cond.static ({ cls := "LimbBenchesLaw", name := "choice", desc := "(LLimbBenches;II[J)I" } : Jvm.MethodName)) ∈ lw_all := lw_g (lw_at lw_m8 139 rfl) rfl
theorem q1948 : (Jvm.Cond.codeWith ({ cls := "LimbBenchesLaw", name := "choice", desc := "(LLimbBenches;II[J)I" } : Jvm.MethodName) method_21_code (5 : Nat) (Option.some Jvm.ClassFile.FieldType.int) [((0 : Nat), (10 : Nat), (13 : Nat), (36 : Nat)), ((0 : Nat), (10 : Nat), (17 : Nat), (13 : Nat))]) ∈ lw_all := lw_g (lw_at lw_m8 140 rfl) rfl
theorem q1949 : (Jvm.Cond.methodLink "LimbBenchesLaw" (77 : Nat) ({ cls := "LimbBenches", name := "choice", desc := "(II)I" } : Jvm.MethodName)) ∈ lw_all := lw_g (lw_at lw_m8 141 rfl) rfl
theorem q1965 : (Jvm.Cond.methodLink "LimbBenchesLaw" (268 : Nat) ({ cls := "LimbBenchesLaw", name := "choose", desc := "(LLimbBenches;II[J)I" } : Jvm.MethodName)) ∈ lw_all := lw_g (lw_at lw_m8 157 rfl) rfl
theorem q1966 : (Jvm.Cond.static ({ cls := "LimbBenchesLaw", name := "choose", desc := "(LLimbBenches;II[J)I" } : Jvm.MethodName)) ∈ lw_all := lw_g (lw_at lw_m8 158 rfl) rfl
theorem q1967 : (Jvm.Cond.codeWith ({ cls := "LimbBenchesLaw", name := "choose", desc := "(LLimbBenches;II[J)I" } : Jvm.MethodName) method_22_code (5 : Nat) (Option.some Jvm.ClassFile.FieldType.int) [((0 : Nat), (10 : Nat), (13 : Nat), (36 : Nat)), ((0 : Nat), (10 : Nat), (17 : Nat), (13 : Nat))]) ∈ lw_all := lw_g (lw_at lw_m8 159 rfl) rfl
theorem q1968 : (Jvm.Cond.methodLink "LimbBenchesLaw" (80 : Nat) ({ cls := "LimbBenches", name := "choose", desc := "(II)I" } : Jvm.MethodName)) ∈ lw_all := lw_g (lw_at lw_m8 160 rfl) rfl
theorem q1972 : (Jvm.Cond.methodLink "LimbBenchesLaw" (271 : Nat) ({ cls := "LimbBenchesLaw", name := "clause", desc := "(LLimbBenches;II[J)I" } : Jvm.MethodName)) ∈ lw_all := lw_g (lw_at lw_m8 164 rfl) rfl
theorem q1973 : (Jvm.Cond.static ({ cls := "LimbBenchesLaw", name := "clause", desc := "(LLimbBenches;II[J)I" } : Jvm.MethodName)) ∈ lw_all := lw_g (lw_at lw_m8 165 rfl) rfl
theorem q1974 : (Jvm.Cond.codeWith ({ cls := "LimbBenchesLaw", name := "clause", desc := "(LLimbBenches;II[J)I" } : Jvm.MethodName) method_23_code (5 : Nat) (Option.some Jvm.ClassFile.FieldType.int) [((0 : Nat), (10 : Nat), (13 : Nat), (36 : Nat)), ((0 : Nat), (10 : Nat), (17 : Nat), (13 : Nat))]) ∈ lw_all := lw_g (lw_at lw_m8 166 rfl) rfl
theorem q1975 : (Jvm.Cond.methodLink "LimbBenchesLaw" (83 : Nat) ({ cls := "LimbBenches", name := "clause", desc := "(II)I" } : Jvm.MethodName)) ∈ lw_all := lw_g (lw_at lw_m8 167 rfl) rfl
theorem q1979 : (Jvm.Cond.methodLink "LimbBenchesLaw" (274 : Nat) ({ cls := "LimbBenchesLaw", name := "job", desc := "(LLimbBenches;IIII[J)I" } : Jvm.MethodName)) ∈ lw_all := lw_g (lw_at lw_m8 171 rfl) rfl
theorem q1980 : (Jvm.Cond.static ({ cls := "LimbBenchesLaw", name := "job", desc := "(LLimbBenches;IIII[J)I" } : Jvm.MethodName)) ∈ lw_all := lw_g (lw_at lw_m8 172 rfl) rfl
theorem q1981 : (Jvm.Cond.codeWith ({ cls := "LimbBenchesLaw", name := "job", desc := "(LLimbBenches;IIII[J)I" } : Jvm.MethodName) method_24_code (7 : Nat) (Option.some Jvm.ClassFile.FieldType.int) [((0 : Nat), (14 : Nat), (17 : Nat), (36 : Nat)), ((0 : Nat), (14 : Nat), (21 : Nat), (13 : Nat))]) ∈ lw_all := lw_g (lw_at lw_m8 173 rfl) rfl
theorem q1982 : (Jvm.Cond.methodLink "LimbBenchesLaw" (86 : Nat) ({ cls := "LimbBenches", name := "job", desc := "(IIII)I" } : Jvm.MethodName)) ∈ lw_all := lw_g (lw_at lw_m8 174 rfl) rfl
theorem q2007 : (Jvm.Cond.methodLink "LimbBenchesLaw" (277 : Nat) ({ cls := "LimbBenchesLaw", name := "benches", desc := "(LLimbBenches;I[J)I" } : Jvm.MethodName)) ∈ lw_all := lw_g (lw_at lw_m8 199 rfl) rfl
theorem q2008 : (Jvm.Cond.static ({ cls := "LimbBenchesLaw", name := "benches", desc := "(LLimbBenches;I[J)I" } : Jvm.MethodName)) ∈ lw_all := lw_g (lw_at lw_m8 200 rfl) rfl
theorem q2009 : (Jvm.Cond.codeWith ({ cls := "LimbBenchesLaw", name := "benches", desc := "(LLimbBenches;I[J)I" } : Jvm.MethodName) method_25_code (4 : Nat) (Option.some Jvm.ClassFile.FieldType.int) [((0 : Nat), (9 : Nat), (12 : Nat), (13 : Nat))]) ∈ lw_all := lw_g (lw_at lw_m8 201 rfl) rfl
theorem q2010 : (Jvm.Cond.methodLink "LimbBenchesLaw" (89 : Nat) ({ cls := "LimbBenches", name := "benches", desc := "(I)I" } : Jvm.MethodName)) ∈ lw_all := lw_g (lw_at lw_m8 202 rfl) rfl
theorem q2014 : (Jvm.Cond.methodLink "LimbBenchesLaw" (280 : Nat) ({ cls := "LimbBenchesLaw", name := "cost", desc := "(LLimbBenches;I[J)I" } : Jvm.MethodName)) ∈ lw_all := lw_g (lw_at lw_m8 206 rfl) rfl
theorem q2015 : (Jvm.Cond.static ({ cls := "LimbBenchesLaw", name := "cost", desc := "(LLimbBenches;I[J)I" } : Jvm.MethodName)) ∈ lw_all := lw_g (lw_at lw_m8 207 rfl) rfl
theorem q2016 : (Jvm.Cond.codeWith ({ cls := "LimbBenchesLaw", name := "cost", desc := "(LLimbBenches;I[J)I" } : Jvm.MethodName) method_26_code (4 : Nat) (Option.some Jvm.ClassFile.FieldType.int) [((0 : Nat), (9 : Nat), (12 : Nat), (13 : Nat))]) ∈ lw_all := lw_g (lw_at lw_m8 208 rfl) rfl
theorem q2017 : (Jvm.Cond.methodLink "LimbBenchesLaw" (92 : Nat) ({ cls := "LimbBenches", name := "cost", desc := "(I)I" } : Jvm.MethodName)) ∈ lw_all := lw_g (lw_at lw_m8 209 rfl) rfl
theorem q2025 : (Jvm.Cond.methodLink "LimbBenchesLaw" (287 : Nat) ({ cls := "LimbBenchesLaw", name := "delay", desc := "(LLimbBenches;II[J)I" } : Jvm.MethodName)) ∈ lw_all := lw_g (lw_at lw_m8 217 rfl) rfl
theorem q2026 : (Jvm.Cond.static ({ cls := "LimbBenchesLaw", name := "delay", desc := "(LLimbBenches;II[J)I" } : Jvm.MethodName)) ∈ lw_all := lw_g (lw_at lw_m8 218 rfl) rfl
theorem q2027 : (Jvm.Cond.codeWith ({ cls := "LimbBenchesLaw", name := "delay", desc := "(LLimbBenches;II[J)I" } : Jvm.MethodName) method_27_code (5 : Nat) (Option.some Jvm.ClassFile.FieldType.int) [((0 : Nat), (10 : Nat), (13 : Nat), (51 : Nat)), ((0 : Nat), (10 : Nat), (17 : Nat), (13 : Nat))]) ∈ lw_all := lw_g (lw_at lw_m8 219 rfl) rfl
theorem q2028 : (Jvm.Cond.methodLink "LimbBenchesLaw" (95 : Nat) ({ cls := "LimbBenches", name := "delay", desc := "(II)I" } : Jvm.MethodName)) ∈ lw_all := lw_g (lw_at lw_m8 220 rfl) rfl
theorem q2036 : (Jvm.Cond.methodLink "LimbBenchesLaw" (290 : Nat) ({ cls := "LimbBenchesLaw", name := "done", desc := "(LLimbBenches;I[J)I" } : Jvm.MethodName)) ∈ lw_all := lw_g (lw_at lw_m8 228 rfl) rfl
theorem q2037 : (Jvm.Cond.static ({ cls := "LimbBenchesLaw", name := "done", desc := "(LLimbBenches;I[J)I" } : Jvm.MethodName)) ∈ lw_all := lw_g (lw_at lw_m8 229 rfl) rfl
theorem q2038 : (Jvm.Cond.codeWith ({ cls := "LimbBenchesLaw", name := "done", desc := "(LLimbBenches;I[J)I" } : Jvm.MethodName) method_28_code (4 : Nat) (Option.some Jvm.ClassFile.FieldType.int) [((0 : Nat), (9 : Nat), (12 : Nat), (51 : Nat))]) ∈ lw_all := lw_g (lw_at lw_m8 230 rfl) rfl
theorem q2039 : (Jvm.Cond.methodLink "LimbBenchesLaw" (98 : Nat) ({ cls := "LimbBenches", name := "done", desc := "(I)I" } : Jvm.MethodName)) ∈ lw_all := lw_g (lw_at lw_m8 231 rfl) rfl
theorem q2043 : (Jvm.Cond.methodLink "LimbBenchesLaw" (293 : Nat) ({ cls := "LimbBenchesLaw", name := "maker", desc := "(LLimbBenches;I[J)I" } : Jvm.MethodName)) ∈ lw_all := lw_g (lw_at lw_m8 235 rfl) rfl
theorem q2044 : (Jvm.Cond.static ({ cls := "LimbBenchesLaw", name := "maker", desc := "(LLimbBenches;I[J)I" } : Jvm.MethodName)) ∈ lw_all := lw_g (lw_at lw_m8 236 rfl) rfl
theorem q2045 : (Jvm.Cond.codeWith ({ cls := "LimbBenchesLaw", name := "maker", desc := "(LLimbBenches;I[J)I" } : Jvm.MethodName) method_29_code (4 : Nat) (Option.some Jvm.ClassFile.FieldType.int) [((0 : Nat), (9 : Nat), (12 : Nat), (13 : Nat))]) ∈ lw_all := lw_g (lw_at lw_m8 237 rfl) rfl
theorem q2046 : (Jvm.Cond.methodLink "LimbBenchesLaw" (101 : Nat) ({ cls := "LimbBenches", name := "maker", desc := "(I)I" } : Jvm.MethodName)) ∈ lw_all := lw_g (lw_at lw_m8 238 rfl) rfl
theorem q2052 : (Jvm.Cond.methodLink "LimbBenchesLaw" (296 : Nat) ({ cls := "LimbBenchesLaw", name := "order", desc := "(LLimbBenches;II[J)I" } : Jvm.MethodName)) ∈ lw_all := lw_g (lw_at lw_m9 4 rfl) rfl
theorem q2053 : (Jvm.Cond.static ({ cls := "LimbBenchesLaw", name := "order", desc := "(LLimbBenches;II[J)I" } : Jvm.MethodName)) ∈ lw_all := lw_g (lw_at lw_m9 5 rfl) rfl
theorem q2054 : (Jvm.Cond.codeWith ({ cls := "LimbBenchesLaw", name := "order", desc := "(LLimbBenches;II[J)I" } : Jvm.MethodName) method_30_code (5 : Nat) (Option.some Jvm.ClassFile.FieldType.int) [((0 : Nat), (10 : Nat), (13 : Nat), (36 : Nat)), ((0 : Nat), (10 : Nat), (17 : Nat), (51 : Nat))]) ∈ lw_all := lw_g (lw_at lw_m9 6 rfl) rfl
theorem q2055 : (Jvm.Cond.methodLink "LimbBenchesLaw" (104 : Nat) ({ cls := "LimbBenches", name := "order", desc := "(II)I" } : Jvm.MethodName)) ∈ lw_all := lw_g (lw_at lw_m9 7 rfl) rfl
theorem q2086 : (Jvm.Cond.methodLink "LimbBenchesLaw" (299 : Nat) ({ cls := "LimbBenchesLaw", name := "arrive", desc := "(LLimbBenches;I[J)I" } : Jvm.MethodName)) ∈ lw_all := lw_g (lw_at lw_m9 38 rfl) rfl
theorem q2087 : (Jvm.Cond.static ({ cls := "LimbBenchesLaw", name := "arrive", desc := "(LLimbBenches;I[J)I" } : Jvm.MethodName)) ∈ lw_all := lw_g (lw_at lw_m9 39 rfl) rfl
theorem q2088 : (Jvm.Cond.codeWith ({ cls := "LimbBenchesLaw", name := "arrive", desc := "(LLimbBenches;I[J)I" } : Jvm.MethodName) method_31_code (4 : Nat) (Option.some Jvm.ClassFile.FieldType.int) [((0 : Nat), (9 : Nat), (12 : Nat), (36 : Nat))]) ∈ lw_all := lw_g (lw_at lw_m9 40 rfl) rfl
theorem q2089 : (Jvm.Cond.methodLink "LimbBenchesLaw" (107 : Nat) ({ cls := "LimbBenches", name := "arrive", desc := "(I)I" } : Jvm.MethodName)) ∈ lw_all := lw_g (lw_at lw_m9 41 rfl) rfl
theorem q2113 : (Jvm.Cond.methodLink "LimbBenchesLaw" (302 : Nat) ({ cls := "LimbBenchesLaw", name := "lose", desc := "(LLimbBenches;I[J)I" } : Jvm.MethodName)) ∈ lw_all := lw_g (lw_at lw_m9 65 rfl) rfl
theorem q2114 : (Jvm.Cond.static ({ cls := "LimbBenchesLaw", name := "lose", desc := "(LLimbBenches;I[J)I" } : Jvm.MethodName)) ∈ lw_all := lw_g (lw_at lw_m9 66 rfl) rfl
theorem q2115 : (Jvm.Cond.codeWith ({ cls := "LimbBenchesLaw", name := "lose", desc := "(LLimbBenches;I[J)I" } : Jvm.MethodName) method_32_code (4 : Nat) (Option.some Jvm.ClassFile.FieldType.int) [((0 : Nat), (9 : Nat), (12 : Nat), (36 : Nat))]) ∈ lw_all := lw_g (lw_at lw_m9 67 rfl) rfl
theorem q2116 : (Jvm.Cond.methodLink "LimbBenchesLaw" (110 : Nat) ({ cls := "LimbBenches", name := "lose", desc := "(I)I" } : Jvm.MethodName)) ∈ lw_all := lw_g (lw_at lw_m9 68 rfl) rfl
theorem q2120 : (Jvm.Cond.methodLink "LimbBenchesLaw" (305 : Nat) ({ cls := "LimbBenchesLaw", name := "forecast", desc := "(LLimbBenches;IZ[J)I" } : Jvm.MethodName)) ∈ lw_all := lw_g (lw_at lw_m9 72 rfl) rfl
theorem q2121 : (Jvm.Cond.static ({ cls := "LimbBenchesLaw", name := "forecast", desc := "(LLimbBenches;IZ[J)I" } : Jvm.MethodName)) ∈ lw_all := lw_g (lw_at lw_m9 73 rfl) rfl
theorem q2122 : (Jvm.Cond.codeWith ({ cls := "LimbBenchesLaw", name := "forecast", desc := "(LLimbBenches;IZ[J)I" } : Jvm.MethodName) method_33_code (5 : Nat) (Option.some Jvm.ClassFile.FieldType.int) [((0 : Nat), (10 : Nat), (13 : Nat), (36 : Nat))]) ∈ lw_all := lw_g (lw_at lw_m9 74 rfl) rfl
theorem q2123 : (Jvm.Cond.methodLink "LimbBenchesLaw" (113 : Nat) ({ cls := "LimbBenches", name := "forecast", desc := "(IZ)I" } : Jvm.MethodName)) ∈ lw_all := lw_g (lw_at lw_m9 75 rfl) rfl
theorem q2127 : (Jvm.Cond.methodLink "LimbBenchesLaw" (309 : Nat) ({ cls := "LimbBenchesLaw", name := "late", desc := "(LLimbBenches;II[J)I" } : Jvm.MethodName)) ∈ lw_all := lw_g (lw_at lw_m9 79 rfl) rfl
theorem q2128 : (Jvm.Cond.static ({ cls := "LimbBenchesLaw", name := "late", desc := "(LLimbBenches;II[J)I" } : Jvm.MethodName)) ∈ lw_all := lw_g (lw_at lw_m9 80 rfl) rfl
theorem q2129 : (Jvm.Cond.codeWith ({ cls := "LimbBenchesLaw", name := "late", desc := "(LLimbBenches;II[J)I" } : Jvm.MethodName) method_34_code (5 : Nat) (Option.some Jvm.ClassFile.FieldType.int) [((0 : Nat), (10 : Nat), (13 : Nat), (36 : Nat)), ((0 : Nat), (10 : Nat), (17 : Nat), (13 : Nat))]) ∈ lw_all := lw_g (lw_at lw_m9 81 rfl) rfl
theorem q2130 : (Jvm.Cond.methodLink "LimbBenchesLaw" (117 : Nat) ({ cls := "LimbBenches", name := "late", desc := "(II)I" } : Jvm.MethodName)) ∈ lw_all := lw_g (lw_at lw_m9 82 rfl) rfl
theorem q2134 : (Jvm.Cond.methodLink "LimbBenchesLaw" (312 : Nat) ({ cls := "LimbBenchesLaw", name := "stock", desc := "(LLimbBenches;I[J)I" } : Jvm.MethodName)) ∈ lw_all := lw_g (lw_at lw_m9 86 rfl) rfl
theorem q2135 : (Jvm.Cond.static ({ cls := "LimbBenchesLaw", name := "stock", desc := "(LLimbBenches;I[J)I" } : Jvm.MethodName)) ∈ lw_all := lw_g (lw_at lw_m9 87 rfl) rfl
theorem q2136 : (Jvm.Cond.codeWith ({ cls := "LimbBenchesLaw", name := "stock", desc := "(LLimbBenches;I[J)I" } : Jvm.MethodName) method_35_code (4 : Nat) (Option.some Jvm.ClassFile.FieldType.int) [((0 : Nat), (9 : Nat), (12 : Nat), (51 : Nat))]) ∈ lw_all := lw_g (lw_at lw_m9 88 rfl) rfl
theorem q2137 : (Jvm.Cond.methodLink "LimbBenchesLaw" (120 : Nat) ({ cls := "LimbBenches", name := "stock", desc := "(I)I" } : Jvm.MethodName)) ∈ lw_all := lw_g (lw_at lw_m9 89 rfl) rfl
theorem q2141 : (Jvm.Cond.methodLink "LimbBenchesLaw" (315 : Nat) ({ cls := "LimbBenchesLaw", name := "spare", desc := "(LLimbBenches;I[J)I" } : Jvm.MethodName)) ∈ lw_all := lw_g (lw_at lw_m9 93 rfl) rfl
theorem q2142 : (Jvm.Cond.static ({ cls := "LimbBenchesLaw", name := "spare", desc := "(LLimbBenches;I[J)I" } : Jvm.MethodName)) ∈ lw_all := lw_g (lw_at lw_m9 94 rfl) rfl
theorem q2143 : (Jvm.Cond.codeWith ({ cls := "LimbBenchesLaw", name := "spare", desc := "(LLimbBenches;I[J)I" } : Jvm.MethodName) method_36_code (4 : Nat) (Option.some Jvm.ClassFile.FieldType.int) [((0 : Nat), (9 : Nat), (12 : Nat), (51 : Nat))]) ∈ lw_all := lw_g (lw_at lw_m9 95 rfl) rfl
theorem q2144 : (Jvm.Cond.methodLink "LimbBenchesLaw" (123 : Nat) ({ cls := "LimbBenches", name := "spare", desc := "(I)I" } : Jvm.MethodName)) ∈ lw_all := lw_g (lw_at lw_m9 96 rfl) rfl
theorem q2148 : (Jvm.Cond.methodLink "LimbBenchesLaw" (318 : Nat) ({ cls := "LimbBenchesLaw", name := "lent", desc := "(LLimbBenches;I[J)I" } : Jvm.MethodName)) ∈ lw_all := lw_g (lw_at lw_m9 100 rfl) rfl
theorem q2149 : (Jvm.Cond.static ({ cls := "LimbBenchesLaw", name := "lent", desc := "(LLimbBenches;I[J)I" } : Jvm.MethodName)) ∈ lw_all := lw_g (lw_at lw_m9 101 rfl) rfl
theorem q2150 : (Jvm.Cond.codeWith ({ cls := "LimbBenchesLaw", name := "lent", desc := "(LLimbBenches;I[J)I" } : Jvm.MethodName) method_37_code (4 : Nat) (Option.some Jvm.ClassFile.FieldType.int) [((0 : Nat), (9 : Nat), (12 : Nat), (36 : Nat))]) ∈ lw_all := lw_g (lw_at lw_m9 102 rfl) rfl
theorem q2151 : (Jvm.Cond.methodLink "LimbBenchesLaw" (126 : Nat) ({ cls := "LimbBenches", name := "lent", desc := "(I)I" } : Jvm.MethodName)) ∈ lw_all := lw_g (lw_at lw_m9 103 rfl) rfl
theorem q2155 : (Jvm.Cond.methodLink "LimbBenchesLaw" (325 : Nat) ({ cls := "LimbBenchesLaw", name := "recall", desc := "(LLimbBenches;III[J)I" } : Jvm.MethodName)) ∈ lw_all := lw_g (lw_at lw_m9 107 rfl) rfl
theorem q2156 : (Jvm.Cond.static ({ cls := "LimbBenchesLaw", name := "recall", desc := "(LLimbBenches;III[J)I" } : Jvm.MethodName)) ∈ lw_all := lw_g (lw_at lw_m9 108 rfl) rfl
theorem q2157 : (Jvm.Cond.codeWith ({ cls := "LimbBenchesLaw", name := "recall", desc := "(LLimbBenches;III[J)I" } : Jvm.MethodName) method_38_code (6 : Nat) (Option.some Jvm.ClassFile.FieldType.int) [((0 : Nat), (12 : Nat), (15 : Nat), (51 : Nat)), ((0 : Nat), (12 : Nat), (19 : Nat), (13 : Nat))]) ∈ lw_all := lw_g (lw_at lw_m9 109 rfl) rfl
theorem q2158 : (Jvm.Cond.methodLink "LimbBenchesLaw" (129 : Nat) ({ cls := "LimbBenches", name := "recall", desc := "(III)I" } : Jvm.MethodName)) ∈ lw_all := lw_g (lw_at lw_m9 110 rfl) rfl
theorem q2162 : (Jvm.Cond.methodLink "LimbBenchesLaw" (332 : Nat) ({ cls := "LimbBenchesLaw", name := "seen", desc := "(LLimbBenches;II[J)I" } : Jvm.MethodName)) ∈ lw_all := lw_g (lw_at lw_m9 114 rfl) rfl
theorem q2163 : (Jvm.Cond.static ({ cls := "LimbBenchesLaw", name := "seen", desc := "(LLimbBenches;II[J)I" } : Jvm.MethodName)) ∈ lw_all := lw_g (lw_at lw_m9 115 rfl) rfl
theorem q2164 : (Jvm.Cond.codeWith ({ cls := "LimbBenchesLaw", name := "seen", desc := "(LLimbBenches;II[J)I" } : Jvm.MethodName) method_39_code (5 : Nat) (Option.some Jvm.ClassFile.FieldType.int) [((0 : Nat), (10 : Nat), (13 : Nat), (36 : Nat)), ((0 : Nat), (10 : Nat), (17 : Nat), (13 : Nat))]) ∈ lw_all := lw_g (lw_at lw_m9 116 rfl) rfl
theorem q2165 : (Jvm.Cond.methodLink "LimbBenchesLaw" (132 : Nat) ({ cls := "LimbBenches", name := "seen", desc := "(II)I" } : Jvm.MethodName)) ∈ lw_all := lw_g (lw_at lw_m9 117 rfl) rfl
theorem q2169 : (Jvm.Cond.methodLink "LimbBenchesLaw" (335 : Nat) ({ cls := "LimbBenchesLaw", name := "measure", desc := "(LLimbBenches;III[J)I" } : Jvm.MethodName)) ∈ lw_all := lw_g (lw_at lw_m9 121 rfl) rfl
theorem q2170 : (Jvm.Cond.static ({ cls := "LimbBenchesLaw", name := "measure", desc := "(LLimbBenches;III[J)I" } : Jvm.MethodName)) ∈ lw_all := lw_g (lw_at lw_m9 122 rfl) rfl
theorem q2171 : (Jvm.Cond.codeWith ({ cls := "LimbBenchesLaw", name := "measure", desc := "(LLimbBenches;III[J)I" } : Jvm.MethodName) method_40_code (6 : Nat) (Option.some Jvm.ClassFile.FieldType.int) [((0 : Nat), (12 : Nat), (15 : Nat), (36 : Nat)), ((0 : Nat), (12 : Nat), (19 : Nat), (13 : Nat))]) ∈ lw_all := lw_g (lw_at lw_m9 123 rfl) rfl
theorem q2172 : (Jvm.Cond.methodLink "LimbBenchesLaw" (135 : Nat) ({ cls := "LimbBenches", name := "measure", desc := "(III)I" } : Jvm.MethodName)) ∈ lw_all := lw_g (lw_at lw_m9 124 rfl) rfl
theorem q2199 : (Jvm.Cond.methodLink "LimbBenchesLaw" (338 : Nat) ({ cls := "LimbBenchesLaw", name := "growth", desc := "(LLimbBenches;II[J)I" } : Jvm.MethodName)) ∈ lw_all := lw_g (lw_at lw_m9 151 rfl) rfl
theorem q2200 : (Jvm.Cond.static ({ cls := "LimbBenchesLaw", name := "growth", desc := "(LLimbBenches;II[J)I" } : Jvm.MethodName)) ∈ lw_all := lw_g (lw_at lw_m9 152 rfl) rfl
theorem q2201 : (Jvm.Cond.codeWith ({ cls := "LimbBenchesLaw", name := "growth", desc := "(LLimbBenches;II[J)I" } : Jvm.MethodName) method_41_code (5 : Nat) (Option.some Jvm.ClassFile.FieldType.int) [((0 : Nat), (10 : Nat), (13 : Nat), (36 : Nat)), ((0 : Nat), (10 : Nat), (17 : Nat), (13 : Nat))]) ∈ lw_all := lw_g (lw_at lw_m9 153 rfl) rfl
theorem q2202 : (Jvm.Cond.methodLink "LimbBenchesLaw" (138 : Nat) ({ cls := "LimbBenches", name := "growth", desc := "(II)I" } : Jvm.MethodName)) ∈ lw_all := lw_g (lw_at lw_m9 154 rfl) rfl
theorem q2242 : (Jvm.Cond.methodLink "LimbBenchesLaw" (341 : Nat) ({ cls := "LimbBenchesLaw", name := "nextBy", desc := "(LLimbBenches;IIZ[J)I" } : Jvm.MethodName)) ∈ lw_all := lw_g (lw_at lw_m9 194 rfl) rfl
theorem q2243 : (Jvm.Cond.static ({ cls := "LimbBenchesLaw", name := "nextBy", desc := "(LLimbBenches;IIZ[J)I" } : Jvm.MethodName)) ∈ lw_all := lw_g (lw_at lw_m9 195 rfl) rfl
theorem q2244 : (Jvm.Cond.codeWith ({ cls := "LimbBenchesLaw", name := "nextBy", desc := "(LLimbBenches;IIZ[J)I" } : Jvm.MethodName) method_42_code (6 : Nat) (Option.some Jvm.ClassFile.FieldType.int) [((0 : Nat), (12 : Nat), (15 : Nat), (36 : Nat)), ((0 : Nat), (12 : Nat), (19 : Nat), (13 : Nat))]) ∈ lw_all := lw_g (lw_at lw_m9 196 rfl) rfl
theorem q2245 : (Jvm.Cond.methodLink "LimbBenchesLaw" (141 : Nat) ({ cls := "LimbBenches", name := "nextBy", desc := "(IIZ)I" } : Jvm.MethodName)) ∈ lw_all := lw_g (lw_at lw_m9 197 rfl) rfl
theorem q2257 : (Jvm.Cond.methodLink "LimbBenchesLaw" (345 : Nat) ({ cls := "LimbBenchesLaw", name := "chance", desc := "(LLimbBenches;III[J)I" } : Jvm.MethodName)) ∈ lw_all := lw_g (lw_at lw_m9 209 rfl) rfl
theorem q2258 : (Jvm.Cond.static ({ cls := "LimbBenchesLaw", name := "chance", desc := "(LLimbBenches;III[J)I" } : Jvm.MethodName)) ∈ lw_all := lw_g (lw_at lw_m9 210 rfl) rfl
theorem q2259 : (Jvm.Cond.codeWith ({ cls := "LimbBenchesLaw", name := "chance", desc := "(LLimbBenches;III[J)I" } : Jvm.MethodName) method_43_code (6 : Nat) (Option.some Jvm.ClassFile.FieldType.int) [((0 : Nat), (12 : Nat), (15 : Nat), (36 : Nat)), ((0 : Nat), (12 : Nat), (19 : Nat), (13 : Nat))]) ∈ lw_all := lw_g (lw_at lw_m9 211 rfl) rfl
theorem q2260 : (Jvm.Cond.methodLink "LimbBenchesLaw" (145 : Nat) ({ cls := "LimbBenches", name := "chance", desc := "(III)I" } : Jvm.MethodName)) ∈ lw_all := lw_g (lw_at lw_m9 212 rfl) rfl
theorem q2264 : (Jvm.Cond.methodLink "LimbBenchesLaw" (348 : Nat) ({ cls := "LimbBenchesLaw", name := "fitter", desc := "(LLimbBenches;I[J)I" } : Jvm.MethodName)) ∈ lw_all := lw_g (lw_at lw_m9 216 rfl) rfl
theorem q2265 : (Jvm.Cond.static ({ cls := "LimbBenchesLaw", name := "fitter", desc := "(LLimbBenches;I[J)I" } : Jvm.MethodName)) ∈ lw_all := lw_g (lw_at lw_m9 217 rfl) rfl
theorem q2266 : (Jvm.Cond.codeWith ({ cls := "LimbBenchesLaw", name := "fitter", desc := "(LLimbBenches;I[J)I" } : Jvm.MethodName) method_44_code (4 : Nat) (Option.some Jvm.ClassFile.FieldType.int) [((0 : Nat), (9 : Nat), (12 : Nat), (13 : Nat))]) ∈ lw_all := lw_g (lw_at lw_m9 218 rfl) rfl
theorem q2267 : (Jvm.Cond.methodLink "LimbBenchesLaw" (148 : Nat) ({ cls := "LimbBenches", name := "fitter", desc := "(I)I" } : Jvm.MethodName)) ∈ lw_all := lw_g (lw_at lw_m9 219 rfl) rfl
theorem q2274 : (Jvm.Cond.methodLink "LimbBenchesLaw" (351 : Nat) ({ cls := "LimbBenchesLaw", name := "blister", desc := "(LLimbBenches;I[J)I" } : Jvm.MethodName)) ∈ lw_all := lw_g (lw_at lw_m9 226 rfl) rfl
theorem q2275 : (Jvm.Cond.static ({ cls := "LimbBenchesLaw", name := "blister", desc := "(LLimbBenches;I[J)I" } : Jvm.MethodName)) ∈ lw_all := lw_g (lw_at lw_m9 227 rfl) rfl
theorem q2276 : (Jvm.Cond.codeWith ({ cls := "LimbBenchesLaw", name := "blister", desc := "(LLimbBenches;I[J)I" } : Jvm.MethodName) method_45_code (4 : Nat) (Option.some Jvm.ClassFile.FieldType.int) [((0 : Nat), (9 : Nat), (12 : Nat), (36 : Nat))]) ∈ lw_all := lw_g (lw_at lw_m9 228 rfl) rfl
theorem q2277 : (Jvm.Cond.methodLink "LimbBenchesLaw" (151 : Nat) ({ cls := "LimbBenches", name := "blister", desc := "(I)I" } : Jvm.MethodName)) ∈ lw_all := lw_g (lw_at lw_m9 229 rfl) rfl
theorem q2281 : (Jvm.Cond.methodLink "LimbBenchesLaw" (354 : Nat) ({ cls := "LimbBenchesLaw", name := "skill", desc := "(LLimbBenches;IZI[J)I" } : Jvm.MethodName)) ∈ lw_all := lw_g (lw_at lw_m9 233 rfl) rfl
theorem q2282 : (Jvm.Cond.static ({ cls := "LimbBenchesLaw", name := "skill", desc := "(LLimbBenches;IZI[J)I" } : Jvm.MethodName)) ∈ lw_all := lw_g (lw_at lw_m9 234 rfl) rfl
theorem q2283 : (Jvm.Cond.codeWith ({ cls := "LimbBenchesLaw", name := "skill", desc := "(LLimbBenches;IZI[J)I" } : Jvm.MethodName) method_46_code (6 : Nat) (Option.some Jvm.ClassFile.FieldType.int) [((0 : Nat), (12 : Nat), (15 : Nat), (13 : Nat))]) ∈ lw_all := lw_g (lw_at lw_m9 235 rfl) rfl
theorem q2284 : (Jvm.Cond.methodLink "LimbBenchesLaw" (154 : Nat) ({ cls := "LimbBenches", name := "skill", desc := "(IZI)I" } : Jvm.MethodName)) ∈ lw_all := lw_g (lw_at lw_m9 236 rfl) rfl
theorem q2295 : (Jvm.Cond.methodLink "LimbBenchesLaw" (358 : Nat) ({ cls := "LimbBenchesLaw", name := "better", desc := "(LLimbBenches;III[J)I" } : Jvm.MethodName)) ∈ lw_all := lw_g (lw_at lw_m10 7 rfl) rfl
theorem q2296 : (Jvm.Cond.static ({ cls := "LimbBenchesLaw", name := "better", desc := "(LLimbBenches;III[J)I" } : Jvm.MethodName)) ∈ lw_all := lw_g (lw_at lw_m10 8 rfl) rfl
theorem q2297 : (Jvm.Cond.codeWith ({ cls := "LimbBenchesLaw", name := "better", desc := "(LLimbBenches;III[J)I" } : Jvm.MethodName) method_47_code (6 : Nat) (Option.some Jvm.ClassFile.FieldType.int) [((0 : Nat), (12 : Nat), (15 : Nat), (13 : Nat))]) ∈ lw_all := lw_g (lw_at lw_m10 9 rfl) rfl
theorem q2298 : (Jvm.Cond.methodLink "LimbBenchesLaw" (158 : Nat) ({ cls := "LimbBenches", name := "better", desc := "(III)I" } : Jvm.MethodName)) ∈ lw_all := lw_g (lw_at lw_m10 10 rfl) rfl
theorem q2305 : (Jvm.Cond.methodLink "LimbBenchesLaw" (361 : Nat) ({ cls := "LimbBenchesLaw", name := "trial", desc := "(LLimbBenches;II[J)I" } : Jvm.MethodName)) ∈ lw_all := lw_g (lw_at lw_m10 17 rfl) rfl
theorem q2306 : (Jvm.Cond.static ({ cls := "LimbBenchesLaw", name := "trial", desc := "(LLimbBenches;II[J)I" } : Jvm.MethodName)) ∈ lw_all := lw_g (lw_at lw_m10 18 rfl) rfl
theorem q2307 : (Jvm.Cond.codeWith ({ cls := "LimbBenchesLaw", name := "trial", desc := "(LLimbBenches;II[J)I" } : Jvm.MethodName) method_48_code (5 : Nat) (Option.some Jvm.ClassFile.FieldType.int) [((0 : Nat), (10 : Nat), (13 : Nat), (13 : Nat))]) ∈ lw_all := lw_g (lw_at lw_m10 19 rfl) rfl
theorem q2308 : (Jvm.Cond.methodLink "LimbBenchesLaw" (161 : Nat) ({ cls := "LimbBenches", name := "trial", desc := "(II)I" } : Jvm.MethodName)) ∈ lw_all := lw_g (lw_at lw_m10 20 rfl) rfl
theorem q2326 : (Jvm.Cond.methodLink "LimbBenchesLaw" (376 : Nat) ({ cls := "LimbBenchesLaw", name := "cause", desc := "(LLimbBenches;II[J)I" } : Jvm.MethodName)) ∈ lw_all := lw_g (lw_at lw_m10 38 rfl) rfl
theorem q2327 : (Jvm.Cond.static ({ cls := "LimbBenchesLaw", name := "cause", desc := "(LLimbBenches;II[J)I" } : Jvm.MethodName)) ∈ lw_all := lw_g (lw_at lw_m10 39 rfl) rfl
theorem q2328 : (Jvm.Cond.codeWith ({ cls := "LimbBenchesLaw", name := "cause", desc := "(LLimbBenches;II[J)I" } : Jvm.MethodName) method_49_code (5 : Nat) (Option.some Jvm.ClassFile.FieldType.int) [((0 : Nat), (10 : Nat), (13 : Nat), (13 : Nat))]) ∈ lw_all := lw_g (lw_at lw_m10 40 rfl) rfl
theorem q2329 : (Jvm.Cond.methodLink "LimbBenchesLaw" (164 : Nat) ({ cls := "LimbBenches", name := "cause", desc := "(II)I" } : Jvm.MethodName)) ∈ lw_all := lw_g (lw_at lw_m10 41 rfl) rfl
theorem q2350 : (Jvm.Cond.methodLink "LimbBenchesLaw" (379 : Nat) ({ cls := "LimbBenchesLaw", name := "see", desc := "(LLimbBenches;II[J)I" } : Jvm.MethodName)) ∈ lw_all := lw_g (lw_at lw_m10 62 rfl) rfl
theorem q2351 : (Jvm.Cond.static ({ cls := "LimbBenchesLaw", name := "see", desc := "(LLimbBenches;II[J)I" } : Jvm.MethodName)) ∈ lw_all := lw_g (lw_at lw_m10 63 rfl) rfl
theorem q2352 : (Jvm.Cond.codeWith ({ cls := "LimbBenchesLaw", name := "see", desc := "(LLimbBenches;II[J)I" } : Jvm.MethodName) method_50_code (5 : Nat) (Option.some Jvm.ClassFile.FieldType.int) [((0 : Nat), (10 : Nat), (13 : Nat), (13 : Nat))]) ∈ lw_all := lw_g (lw_at lw_m10 64 rfl) rfl
theorem q2353 : (Jvm.Cond.methodLink "LimbBenchesLaw" (167 : Nat) ({ cls := "LimbBenches", name := "see", desc := "(II)I" } : Jvm.MethodName)) ∈ lw_all := lw_g (lw_at lw_m10 65 rfl) rfl
theorem q2357 : (Jvm.Cond.methodLink "LimbBenchesLaw" (390 : Nat) ({ cls := "LimbBenchesLaw", name := "walk", desc := "(LLimbBenches;III[J)I" } : Jvm.MethodName)) ∈ lw_all := lw_g (lw_at lw_m10 69 rfl) rfl
theorem q2358 : (Jvm.Cond.static ({ cls := "LimbBenchesLaw", name := "walk", desc := "(LLimbBenches;III[J)I" } : Jvm.MethodName)) ∈ lw_all := lw_g (lw_at lw_m10 70 rfl) rfl
theorem q2359 : (Jvm.Cond.codeWith ({ cls := "LimbBenchesLaw", name := "walk", desc := "(LLimbBenches;III[J)I" } : Jvm.MethodName) method_51_code (6 : Nat) (Option.some Jvm.ClassFile.FieldType.int) [((0 : Nat), (12 : Nat), (15 : Nat), (36 : Nat)), ((0 : Nat), (12 : Nat), (19 : Nat), (13 : Nat))]) ∈ lw_all := lw_g (lw_at lw_m10 71 rfl) rfl
theorem q2360 : (Jvm.Cond.methodLink "LimbBenchesLaw" (170 : Nat) ({ cls := "LimbBenches", name := "walk", desc := "(III)I" } : Jvm.MethodName)) ∈ lw_all := lw_g (lw_at lw_m10 72 rfl) rfl
theorem q2383 : (Jvm.Cond.methodLink "LimbBenchesLaw" (393 : Nat) ({ cls := "LimbBenchesLaw", name := "changed", desc := "(LLimbBenches;II[J)I" } : Jvm.MethodName)) ∈ lw_all := lw_g (lw_at lw_m10 95 rfl) rfl
theorem q2384 : (Jvm.Cond.static ({ cls := "LimbBenchesLaw", name := "changed", desc := "(LLimbBenches;II[J)I" } : Jvm.MethodName)) ∈ lw_all := lw_g (lw_at lw_m10 96 rfl) rfl
theorem q2385 : (Jvm.Cond.codeWith ({ cls := "LimbBenchesLaw", name := "changed", desc := "(LLimbBenches;II[J)I" } : Jvm.MethodName) method_52_code (5 : Nat) (Option.some Jvm.ClassFile.FieldType.int) [((0 : Nat), (10 : Nat), (13 : Nat), (36 : Nat)), ((0 : Nat), (10 : Nat), (17 : Nat), (13 : Nat))]) ∈ lw_all := lw_g (lw_at lw_m10 97 rfl) rfl
theorem q2386 : (Jvm.Cond.methodLink "LimbBenchesLaw" (173 : Nat) ({ cls := "LimbBenches", name := "changed", desc := "(II)I" } : Jvm.MethodName)) ∈ lw_all := lw_g (lw_at lw_m10 98 rfl) rfl
theorem q2390 : (Jvm.Cond.methodLink "LimbBenchesLaw" (396 : Nat) ({ cls := "LimbBenchesLaw", name := "spent", desc := "(LLimbBenches;II[J)I" } : Jvm.MethodName)) ∈ lw_all := lw_g (lw_at lw_m10 102 rfl) rfl
theorem q2391 : (Jvm.Cond.static ({ cls := "LimbBenchesLaw", name := "spent", desc := "(LLimbBenches;II[J)I" } : Jvm.MethodName)) ∈ lw_all := lw_g (lw_at lw_m10 103 rfl) rfl
theorem q2392 : (Jvm.Cond.codeWith ({ cls := "LimbBenchesLaw", name := "spent", desc := "(LLimbBenches;II[J)I" } : Jvm.MethodName) method_53_code (5 : Nat) (Option.some Jvm.ClassFile.FieldType.int) [((0 : Nat), (10 : Nat), (13 : Nat), (36 : Nat)), ((0 : Nat), (10 : Nat), (17 : Nat), (13 : Nat))]) ∈ lw_all := lw_g (lw_at lw_m10 104 rfl) rfl
theorem q2393 : (Jvm.Cond.methodLink "LimbBenchesLaw" (176 : Nat) ({ cls := "LimbBenches", name := "spent", desc := "(II)I" } : Jvm.MethodName)) ∈ lw_all := lw_g (lw_at lw_m10 105 rfl) rfl
theorem q2397 : (Jvm.Cond.classLink "LimbBenchesLaw" (180 : Nat) "LimbBenchesModel") ∈ lw_all := lw_g (lw_at lw_m10 109 rfl) rfl
theorem q2399 : (Jvm.Cond.methodLink "LimbBenchesLaw" (182 : Nat) ({ cls := "LimbBenchesModel", name := "<init>", desc := "()V" } : Jvm.MethodName)) ∈ lw_all := lw_g (lw_at lw_m10 111 rfl) rfl
theorem q2619 : (Jvm.Cond.methodLink "LimbBenchesLaw" (194 : Nat) ({ cls := "LimbBenchesModel", name := "thrown", desc := "()I" } : Jvm.MethodName)) ∈ lw_all := lw_g (lw_at lw_m11 91 rfl) rfl
theorem q2623 : (Jvm.Cond.methodLink "LimbBenchesLaw" (187 : Nat) ({ cls := "LimbBenchesModel", name := "feed", desc := "(IIIII)I" } : Jvm.MethodName)) ∈ lw_all := lw_g (lw_at lw_m11 95 rfl) rfl
theorem q2627 : (Jvm.Cond.methodLink "LimbBenchesLaw" (193 : Nat) ({ cls := "LimbBenchesModel", name := "rules", desc := "(II)I" } : Jvm.MethodName)) ∈ lw_all := lw_g (lw_at lw_m11 99 rfl) rfl
theorem q2729 : (Jvm.Cond.methodLink "LimbBenchesLaw" (201 : Nat) ({ cls := "LimbBenchesModel", name := "counts", desc := "(I)I" } : Jvm.MethodName)) ∈ lw_all := lw_g (lw_at lw_m11 201 rfl) rfl
theorem q2737 : (Jvm.Cond.methodLink "LimbBenchesLaw" (205 : Nat) ({ cls := "LimbBenchesModel", name := "fault", desc := "()I" } : Jvm.MethodName)) ∈ lw_all := lw_g (lw_at lw_m11 209 rfl) rfl
theorem q2741 : (Jvm.Cond.methodLink "LimbBenchesLaw" (209 : Nat) ({ cls := "LimbBenchesModel", name := "model", desc := "(IIII)I" } : Jvm.MethodName)) ∈ lw_all := lw_g (lw_at lw_m11 213 rfl) rfl
theorem q2746 : (Jvm.Cond.methodLink "LimbBenchesLaw" (212 : Nat) ({ cls := "LimbBenchesModel", name := "days", desc := "(I)I" } : Jvm.MethodName)) ∈ lw_all := lw_g (lw_at lw_m11 218 rfl) rfl
theorem q2750 : (Jvm.Cond.methodLink "LimbBenchesLaw" (216 : Nat) ({ cls := "LimbBenchesModel", name := "person", desc := "(IIIIZ)I" } : Jvm.MethodName)) ∈ lw_all := lw_g (lw_at lw_m11 222 rfl) rfl
theorem q2754 : (Jvm.Cond.methodLink "LimbBenchesLaw" (220 : Nat) ({ cls := "LimbBenchesModel", name := "stump", desc := "(III)I" } : Jvm.MethodName)) ∈ lw_all := lw_g (lw_at lw_m11 226 rfl) rfl
theorem q2766 : (Jvm.Cond.methodLink "LimbBenchesLaw" (223 : Nat) ({ cls := "LimbBenchesModel", name := "change", desc := "(III)I" } : Jvm.MethodName)) ∈ lw_all := lw_g (lw_at lw_m11 238 rfl) rfl
theorem q2770 : (Jvm.Cond.methodLink "LimbBenchesLaw" (226 : Nat) ({ cls := "LimbBenchesModel", name := "size", desc := "(II)I" } : Jvm.MethodName)) ∈ lw_all := lw_g (lw_at lw_m12 2 rfl) rfl
theorem q2774 : (Jvm.Cond.methodLink "LimbBenchesLaw" (229 : Nat) ({ cls := "LimbBenchesModel", name := "told", desc := "(III)I" } : Jvm.MethodName)) ∈ lw_all := lw_g (lw_at lw_m12 6 rfl) rfl
theorem q2782 : (Jvm.Cond.methodLink "LimbBenchesLaw" (232 : Nat) ({ cls := "LimbBenchesModel", name := "barred", desc := "(III)Z" } : Jvm.MethodName)) ∈ lw_all := lw_g (lw_at lw_m12 14 rfl) rfl
theorem q2794 : (Jvm.Cond.methodLink "LimbBenchesLaw" (235 : Nat) ({ cls := "LimbBenchesModel", name := "fit", desc := "(III)I" } : Jvm.MethodName)) ∈ lw_all := lw_g (lw_at lw_m12 26 rfl) rfl
theorem q2826 : (Jvm.Cond.methodLink "LimbBenchesLaw" (247 : Nat) ({ cls := "LimbBenchesModel", name := "take", desc := "(III)I" } : Jvm.MethodName)) ∈ lw_all := lw_g (lw_at lw_m12 58 rfl) rfl
theorem q2830 : (Jvm.Cond.methodLink "LimbBenchesLaw" (238 : Nat) ({ cls := "LimbBenchesModel", name := "part", desc := "(III)I" } : Jvm.MethodName)) ∈ lw_all := lw_g (lw_at lw_m12 62 rfl) rfl
theorem q2850 : (Jvm.Cond.methodLink "LimbBenchesLaw" (250 : Nat) ({ cls := "LimbBenchesModel", name := "beside", desc := "(II)I" } : Jvm.MethodName)) ∈ lw_all := lw_g (lw_at lw_m12 82 rfl) rfl
theorem q2854 : (Jvm.Cond.methodLink "LimbBenchesLaw" (253 : Nat) ({ cls := "LimbBenchesModel", name := "fits", desc := "(III)I" } : Jvm.MethodName)) ∈ lw_all := lw_g (lw_at lw_m12 86 rfl) rfl
theorem q2858 : (Jvm.Cond.methodLink "LimbBenchesLaw" (241 : Nat) ({ cls := "LimbBenchesModel", name := "reuse", desc := "(III)I" } : Jvm.MethodName)) ∈ lw_all := lw_g (lw_at lw_m12 90 rfl) rfl
theorem q2862 : (Jvm.Cond.methodLink "LimbBenchesLaw" (244 : Nat) ({ cls := "LimbBenchesModel", name := "next", desc := "(II)I" } : Jvm.MethodName)) ∈ lw_all := lw_g (lw_at lw_m12 94 rfl) rfl
theorem q2869 : (Jvm.Cond.methodLink "LimbBenchesLaw" (256 : Nat) ({ cls := "LimbBenchesModel", name := "lacks", desc := "(II)I" } : Jvm.MethodName)) ∈ lw_all := lw_g (lw_at lw_m12 101 rfl) rfl
theorem q2884 : (Jvm.Cond.methodLink "LimbBenchesLaw" (260 : Nat) ({ cls := "LimbBenchesModel", name := "beyond", desc := "()I" } : Jvm.MethodName)) ∈ lw_all := lw_g (lw_at lw_m12 116 rfl) rfl
theorem q2892 : (Jvm.Cond.methodLink "LimbBenchesLaw" (264 : Nat) ({ cls := "LimbBenchesModel", name := "served", desc := "(I)I" } : Jvm.MethodName)) ∈ lw_all := lw_g (lw_at lw_m12 124 rfl) rfl
theorem q2896 : (Jvm.Cond.methodLink "LimbBenchesLaw" (267 : Nat) ({ cls := "LimbBenchesModel", name := "choice", desc := "(II)I" } : Jvm.MethodName)) ∈ lw_all := lw_g (lw_at lw_m12 128 rfl) rfl
theorem q2908 : (Jvm.Cond.methodLink "LimbBenchesLaw" (270 : Nat) ({ cls := "LimbBenchesModel", name := "choose", desc := "(II)I" } : Jvm.MethodName)) ∈ lw_all := lw_g (lw_at lw_m12 140 rfl) rfl
theorem q2912 : (Jvm.Cond.methodLink "LimbBenchesLaw" (273 : Nat) ({ cls := "LimbBenchesModel", name := "clause", desc := "(II)I" } : Jvm.MethodName)) ∈ lw_all := lw_g (lw_at lw_m12 144 rfl) rfl
theorem q2916 : (Jvm.Cond.methodLink "LimbBenchesLaw" (276 : Nat) ({ cls := "LimbBenchesModel", name := "job", desc := "(IIII)I" } : Jvm.MethodName)) ∈ lw_all := lw_g (lw_at lw_m12 148 rfl) rfl
theorem q2920 : (Jvm.Cond.methodLink "LimbBenchesLaw" (279 : Nat) ({ cls := "LimbBenchesModel", name := "benches", desc := "(I)I" } : Jvm.MethodName)) ∈ lw_all := lw_g (lw_at lw_m12 152 rfl) rfl
theorem q2924 : (Jvm.Cond.methodLink "LimbBenchesLaw" (282 : Nat) ({ cls := "LimbBenchesModel", name := "cost", desc := "(I)I" } : Jvm.MethodName)) ∈ lw_all := lw_g (lw_at lw_m12 156 rfl) rfl
theorem q2932 : (Jvm.Cond.methodLink "LimbBenchesLaw" (286 : Nat) ({ cls := "LimbBenchesModel", name := "best", desc := "()I" } : Jvm.MethodName)) ∈ lw_all := lw_g (lw_at lw_m12 164 rfl) rfl
theorem q2944 : (Jvm.Cond.methodLink "LimbBenchesLaw" (289 : Nat) ({ cls := "LimbBenchesModel", name := "delay", desc := "(II)I" } : Jvm.MethodName)) ∈ lw_all := lw_g (lw_at lw_m12 176 rfl) rfl
theorem q2952 : (Jvm.Cond.methodLink "LimbBenchesLaw" (292 : Nat) ({ cls := "LimbBenchesModel", name := "done", desc := "(I)I" } : Jvm.MethodName)) ∈ lw_all := lw_g (lw_at lw_m12 184 rfl) rfl
theorem q2956 : (Jvm.Cond.methodLink "LimbBenchesLaw" (295 : Nat) ({ cls := "LimbBenchesModel", name := "maker", desc := "(I)I" } : Jvm.MethodName)) ∈ lw_all := lw_g (lw_at lw_m12 188 rfl) rfl
theorem q2960 : (Jvm.Cond.methodLink "LimbBenchesLaw" (298 : Nat) ({ cls := "LimbBenchesModel", name := "order", desc := "(II)I" } : Jvm.MethodName)) ∈ lw_all := lw_g (lw_at lw_m12 192 rfl) rfl
theorem q2968 : (Jvm.Cond.methodLink "LimbBenchesLaw" (301 : Nat) ({ cls := "LimbBenchesModel", name := "arrive", desc := "(I)I" } : Jvm.MethodName)) ∈ lw_all := lw_g (lw_at lw_m12 200 rfl) rfl
theorem q2976 : (Jvm.Cond.methodLink "LimbBenchesLaw" (304 : Nat) ({ cls := "LimbBenchesModel", name := "lose", desc := "(I)I" } : Jvm.MethodName)) ∈ lw_all := lw_g (lw_at lw_m12 208 rfl) rfl
theorem q2980 : (Jvm.Cond.methodLink "LimbBenchesLaw" (308 : Nat) ({ cls := "LimbBenchesModel", name := "forecast", desc := "(IZ)I" } : Jvm.MethodName)) ∈ lw_all := lw_g (lw_at lw_m12 212 rfl) rfl
theorem q2988 : (Jvm.Cond.methodLink "LimbBenchesLaw" (311 : Nat) ({ cls := "LimbBenchesModel", name := "late", desc := "(II)I" } : Jvm.MethodName)) ∈ lw_all := lw_g (lw_at lw_m12 220 rfl) rfl
theorem q2992 : (Jvm.Cond.methodLink "LimbBenchesLaw" (314 : Nat) ({ cls := "LimbBenchesModel", name := "stock", desc := "(I)I" } : Jvm.MethodName)) ∈ lw_all := lw_g (lw_at lw_m12 224 rfl) rfl
theorem q2996 : (Jvm.Cond.methodLink "LimbBenchesLaw" (317 : Nat) ({ cls := "LimbBenchesModel", name := "spare", desc := "(I)I" } : Jvm.MethodName)) ∈ lw_all := lw_g (lw_at lw_m12 228 rfl) rfl
theorem q3000 : (Jvm.Cond.methodLink "LimbBenchesLaw" (320 : Nat) ({ cls := "LimbBenchesModel", name := "lent", desc := "(I)I" } : Jvm.MethodName)) ∈ lw_all := lw_g (lw_at lw_m12 232 rfl) rfl
theorem q3012 : (Jvm.Cond.methodLink "LimbBenchesLaw" (324 : Nat) ({ cls := "LimbBenchesModel", name := "lending", desc := "()I" } : Jvm.MethodName)) ∈ lw_all := lw_g (lw_at lw_m13 4 rfl) rfl
theorem q3016 : (Jvm.Cond.methodLink "LimbBenchesLaw" (327 : Nat) ({ cls := "LimbBenchesModel", name := "recall", desc := "(III)I" } : Jvm.MethodName)) ∈ lw_all := lw_g (lw_at lw_m13 8 rfl) rfl
theorem q3020 : (Jvm.Cond.methodLink "LimbBenchesLaw" (331 : Nat) ({ cls := "LimbBenchesModel", name := "recalled", desc := "()I" } : Jvm.MethodName)) ∈ lw_all := lw_g (lw_at lw_m13 12 rfl) rfl
theorem q3028 : (Jvm.Cond.methodLink "LimbBenchesLaw" (334 : Nat) ({ cls := "LimbBenchesModel", name := "seen", desc := "(II)I" } : Jvm.MethodName)) ∈ lw_all := lw_g (lw_at lw_m13 20 rfl) rfl
theorem q3032 : (Jvm.Cond.methodLink "LimbBenchesLaw" (337 : Nat) ({ cls := "LimbBenchesModel", name := "measure", desc := "(III)I" } : Jvm.MethodName)) ∈ lw_all := lw_g (lw_at lw_m13 24 rfl) rfl
theorem q3040 : (Jvm.Cond.methodLink "LimbBenchesLaw" (340 : Nat) ({ cls := "LimbBenchesModel", name := "growth", desc := "(II)I" } : Jvm.MethodName)) ∈ lw_all := lw_g (lw_at lw_m13 32 rfl) rfl
theorem q3056 : (Jvm.Cond.methodLink "LimbBenchesLaw" (344 : Nat) ({ cls := "LimbBenchesModel", name := "nextBy", desc := "(IIZ)I" } : Jvm.MethodName)) ∈ lw_all := lw_g (lw_at lw_m13 48 rfl) rfl
theorem q3065 : (Jvm.Cond.methodLink "LimbBenchesLaw" (347 : Nat) ({ cls := "LimbBenchesModel", name := "chance", desc := "(III)I" } : Jvm.MethodName)) ∈ lw_all := lw_g (lw_at lw_m13 57 rfl) rfl
theorem q3069 : (Jvm.Cond.methodLink "LimbBenchesLaw" (350 : Nat) ({ cls := "LimbBenchesModel", name := "fitter", desc := "(I)I" } : Jvm.MethodName)) ∈ lw_all := lw_g (lw_at lw_m13 61 rfl) rfl
theorem q3076 : (Jvm.Cond.methodLink "LimbBenchesLaw" (353 : Nat) ({ cls := "LimbBenchesModel", name := "blister", desc := "(I)I" } : Jvm.MethodName)) ∈ lw_all := lw_g (lw_at lw_m13 68 rfl) rfl
theorem q3080 : (Jvm.Cond.methodLink "LimbBenchesLaw" (357 : Nat) ({ cls := "LimbBenchesModel", name := "skill", desc := "(IZI)I" } : Jvm.MethodName)) ∈ lw_all := lw_g (lw_at lw_m13 72 rfl) rfl
theorem q3088 : (Jvm.Cond.methodLink "LimbBenchesLaw" (360 : Nat) ({ cls := "LimbBenchesModel", name := "better", desc := "(III)I" } : Jvm.MethodName)) ∈ lw_all := lw_g (lw_at lw_m13 80 rfl) rfl
theorem q3092 : (Jvm.Cond.methodLink "LimbBenchesLaw" (363 : Nat) ({ cls := "LimbBenchesModel", name := "trial", desc := "(II)I" } : Jvm.MethodName)) ∈ lw_all := lw_g (lw_at lw_m13 84 rfl) rfl
theorem q3096 : (Jvm.Cond.methodLink "LimbBenchesLaw" (367 : Nat) ({ cls := "LimbBenchesModel", name := "gain", desc := "()I" } : Jvm.MethodName)) ∈ lw_all := lw_g (lw_at lw_m13 88 rfl) rfl
theorem q3104 : (Jvm.Cond.methodLink "LimbBenchesLaw" (371 : Nat) ({ cls := "LimbBenchesModel", name := "ways", desc := "()I" } : Jvm.MethodName)) ∈ lw_all := lw_g (lw_at lw_m13 96 rfl) rfl
theorem q3108 : (Jvm.Cond.methodLink "LimbBenchesLaw" (375 : Nat) ({ cls := "LimbBenchesModel", name := "anew", desc := "()I" } : Jvm.MethodName)) ∈ lw_all := lw_g (lw_at lw_m13 100 rfl) rfl
theorem q3112 : (Jvm.Cond.methodLink "LimbBenchesLaw" (378 : Nat) ({ cls := "LimbBenchesModel", name := "cause", desc := "(II)I" } : Jvm.MethodName)) ∈ lw_all := lw_g (lw_at lw_m13 104 rfl) rfl
theorem q3116 : (Jvm.Cond.methodLink "LimbBenchesLaw" (381 : Nat) ({ cls := "LimbBenchesModel", name := "see", desc := "(II)I" } : Jvm.MethodName)) ∈ lw_all := lw_g (lw_at lw_m13 108 rfl) rfl
theorem q3128 : (Jvm.Cond.methodLink "LimbBenchesLaw" (385 : Nat) ({ cls := "LimbBenchesModel", name := "sure", desc := "()I" } : Jvm.MethodName)) ∈ lw_all := lw_g (lw_at lw_m13 120 rfl) rfl
theorem q3132 : (Jvm.Cond.methodLink "LimbBenchesLaw" (389 : Nat) ({ cls := "LimbBenchesModel", name := "look", desc := "()I" } : Jvm.MethodName)) ∈ lw_all := lw_g (lw_at lw_m13 124 rfl) rfl
theorem q3136 : (Jvm.Cond.methodLink "LimbBenchesLaw" (392 : Nat) ({ cls := "LimbBenchesModel", name := "walk", desc := "(III)I" } : Jvm.MethodName)) ∈ lw_all := lw_g (lw_at lw_m13 128 rfl) rfl
theorem q3140 : (Jvm.Cond.methodLink "LimbBenchesLaw" (395 : Nat) ({ cls := "LimbBenchesModel", name := "changed", desc := "(II)I" } : Jvm.MethodName)) ∈ lw_all := lw_g (lw_at lw_m13 132 rfl) rfl
theorem q3144 : (Jvm.Cond.methodLink "LimbBenchesLaw" (398 : Nat) ({ cls := "LimbBenchesModel", name := "spent", desc := "(II)I" } : Jvm.MethodName)) ∈ lw_all := lw_g (lw_at lw_m13 136 rfl) rfl
theorem q3148 : (Jvm.Cond.methodLink "LimbBenchesLaw" (402 : Nat) ({ cls := "LimbBenchesModel", name := "image", desc := "()I" } : Jvm.MethodName)) ∈ lw_all := lw_g (lw_at lw_m13 140 rfl) rfl
theorem q3168 : (Jvm.Cond.methodLink "LimbBenchesLaw" (406 : Nat) ({ cls := "LimbBenchesModel", name := "restore", desc := "()I" } : Jvm.MethodName)) ∈ lw_all := lw_g (lw_at lw_m13 160 rfl) rfl
theorem q3172 : (Jvm.Cond.methodLink "LimbBenchesLaw" (410 : Nat) ({ cls := "LimbBenchesModel", name := "count", desc := "(I)I" } : Jvm.MethodName)) ∈ lw_all := lw_g (lw_at lw_m13 164 rfl) rfl

/-! the law's own entry -/
set_option maxRecDepth 100000
abbrev cL_law : ByteArray := code
def dkwL_law_171 : List UInt8 := [21, 4, 4, 96, 46, 182, 1, 154, 159, 0, 5, 3, 172, 132, 4, 6, 167, 239, 114, 4, 172]
abbrev dktL_law_171 : List UInt8 := dkwL_law_171 ++ []
def dkwL_law_170 : List UInt8 := [182, 1, 147, 44, 182, 1, 150, 159, 0, 30, 3, 172, 43, 42, 21, 4, 4, 96, 46, 182, 1, 151, 44, 42]
abbrev dktL_law_170 : List UInt8 := dkwL_law_170 ++ dktL_law_171
def dkwL_law_169 : List UInt8 := [153, 0, 5, 3, 172, 167, 0, 54, 43, 182, 1, 143, 44, 182, 1, 146, 159, 0, 43, 3, 172, 43]
abbrev dktL_law_169 : List UInt8 := dkwL_law_169 ++ dktL_law_170
def dkwL_law_168 : List UInt8 := [182, 0, 194, 21, 5, 159, 0, 5, 3, 172, 21, 5, 154, 0, 15, 45, 3, 47, 21, 6, 133, 148]
abbrev dktL_law_168 : List UInt8 := dkwL_law_168 ++ dktL_law_169
def dkwL_law_167 : List UInt8 := [184, 1, 140, 54, 5, 44, 42, 21, 4, 4, 96, 46, 42, 21, 4, 5, 96, 46, 182, 1, 142, 54, 6, 44]
abbrev dktL_law_167 : List UInt8 := dkwL_law_167 ++ dktL_law_168
def dkwL_law_166 : List UInt8 := [153, 0, 5, 3, 172, 167, 0, 122, 43, 42, 21, 4, 4, 96, 46, 42, 21, 4, 5, 96, 46, 45]
abbrev dktL_law_166 : List UInt8 := dkwL_law_166 ++ dktL_law_167
def dkwL_law_165 : List UInt8 := [182, 0, 194, 21, 5, 159, 0, 5, 3, 172, 21, 5, 154, 0, 15, 45, 3, 47, 21, 6, 133, 148]
abbrev dktL_law_165 : List UInt8 := dkwL_law_165 ++ dktL_law_166
def dkwL_law_164 : List UInt8 := [184, 1, 137, 54, 5, 44, 42, 21, 4, 4, 96, 46, 42, 21, 4, 5, 96, 46, 182, 1, 139, 54, 6, 44]
abbrev dktL_law_164 : List UInt8 := dkwL_law_164 ++ dktL_law_165
def dkwL_law_163 : List UInt8 := [153, 0, 5, 3, 172, 167, 0, 190, 43, 42, 21, 4, 4, 96, 46, 42, 21, 4, 5, 96, 46, 45]
abbrev dktL_law_163 : List UInt8 := dkwL_law_163 ++ dktL_law_164
def dkwL_law_162 : List UInt8 := [182, 0, 194, 21, 5, 159, 0, 5, 3, 172, 21, 5, 154, 0, 15, 45, 3, 47, 21, 6, 133, 148]
abbrev dktL_law_162 : List UInt8 := dkwL_law_162 ++ dktL_law_163
def dkwL_law_161 : List UInt8 := [42, 21, 4, 4, 96, 46, 42, 21, 4, 5, 96, 46, 42, 21, 4, 6, 96, 46, 182, 1, 136, 54, 6, 44]
abbrev dktL_law_161 : List UInt8 := dkwL_law_161 ++ dktL_law_162
def dkwL_law_160 : List UInt8 := [21, 4, 4, 96, 46, 42, 21, 4, 5, 96, 46, 42, 21, 4, 6, 96, 46, 45, 184, 1, 134, 54, 5, 44]
abbrev dktL_law_160 : List UInt8 := dkwL_law_160 ++ dktL_law_161
def dkwL_law_159 : List UInt8 := [182, 1, 129, 159, 1, 29, 3, 172, 43, 182, 1, 130, 44, 182, 1, 133, 159, 1, 16, 3, 172, 43, 42]
abbrev dktL_law_159 : List UInt8 := dkwL_law_159 ++ dktL_law_160
def dkwL_law_158 : List UInt8 := [154, 0, 15, 45, 3, 47, 21, 6, 133, 148, 153, 0, 5, 3, 172, 167, 1, 40, 43, 182, 1, 126, 44]
abbrev dktL_law_158 : List UInt8 := dkwL_law_158 ++ dktL_law_159
def dkwL_law_157 : List UInt8 := [42, 21, 4, 5, 96, 46, 182, 1, 125, 54, 6, 44, 182, 0, 194, 21, 5, 159, 0, 5, 3, 172, 21, 5]
abbrev dktL_law_157 : List UInt8 := dkwL_law_157 ++ dktL_law_158
def dkwL_law_156 : List UInt8 := [21, 4, 4, 96, 46, 42, 21, 4, 5, 96, 46, 45, 184, 1, 123, 54, 5, 44, 42, 21, 4, 4, 96, 46]
abbrev dktL_law_156 : List UInt8 := dkwL_law_156 ++ dktL_law_157
def dkwL_law_155 : List UInt8 := [172, 21, 5, 154, 0, 15, 45, 3, 47, 21, 6, 133, 148, 153, 0, 5, 3, 172, 167, 1, 108, 43, 42]
abbrev dktL_law_155 : List UInt8 := dkwL_law_155 ++ dktL_law_156
def dkwL_law_154 : List UInt8 := [4, 96, 46, 42, 21, 4, 5, 96, 46, 182, 1, 122, 54, 6, 44, 182, 0, 194, 21, 5, 159, 0, 5, 3]
abbrev dktL_law_154 : List UInt8 := dkwL_law_154 ++ dktL_law_155
def dkwL_law_153 : List UInt8 := [172, 43, 42, 21, 4, 4, 96, 46, 42, 21, 4, 5, 96, 46, 45, 184, 1, 120, 54, 5, 44, 42, 21, 4]
abbrev dktL_law_153 : List UInt8 := dkwL_law_153 ++ dktL_law_154
def dkwL_law_152 : List UInt8 := [182, 1, 112, 44, 182, 1, 115, 159, 1, 191, 3, 172, 43, 182, 1, 116, 44, 182, 1, 119, 159, 1, 178, 3]
abbrev dktL_law_152 : List UInt8 := dkwL_law_152 ++ dktL_law_153
def dkwL_law_151 : List UInt8 := [153, 0, 5, 3, 172, 167, 1, 215, 43, 182, 1, 108, 44, 182, 1, 111, 159, 1, 204, 3, 172, 43]
abbrev dktL_law_151 : List UInt8 := dkwL_law_151 ++ dktL_law_152
def dkwL_law_150 : List UInt8 := [182, 0, 194, 21, 5, 159, 0, 5, 3, 172, 21, 5, 154, 0, 15, 45, 3, 47, 21, 6, 133, 148]
abbrev dktL_law_150 : List UInt8 := dkwL_law_150 ++ dktL_law_151
def dkwL_law_149 : List UInt8 := [184, 1, 105, 54, 5, 44, 42, 21, 4, 4, 96, 46, 42, 21, 4, 5, 96, 46, 182, 1, 107, 54, 6, 44]
abbrev dktL_law_149 : List UInt8 := dkwL_law_149 ++ dktL_law_150
def dkwL_law_148 : List UInt8 := [153, 0, 5, 3, 172, 167, 2, 27, 43, 42, 21, 4, 4, 96, 46, 42, 21, 4, 5, 96, 46, 45]
abbrev dktL_law_148 : List UInt8 := dkwL_law_148 ++ dktL_law_149
def dkwL_law_147 : List UInt8 := [182, 0, 194, 21, 5, 159, 0, 5, 3, 172, 21, 5, 154, 0, 15, 45, 3, 47, 21, 6, 133, 148]
abbrev dktL_law_147 : List UInt8 := dkwL_law_147 ++ dktL_law_148
def dkwL_law_146 : List UInt8 := [42, 21, 4, 4, 96, 46, 42, 21, 4, 5, 96, 46, 42, 21, 4, 6, 96, 46, 182, 1, 104, 54, 6, 44]
abbrev dktL_law_146 : List UInt8 := dkwL_law_146 ++ dktL_law_147
def dkwL_law_145 : List UInt8 := [21, 4, 4, 96, 46, 42, 21, 4, 5, 96, 46, 42, 21, 4, 6, 96, 46, 45, 184, 1, 102, 54, 5, 44]
abbrev dktL_law_145 : List UInt8 := dkwL_law_145 ++ dktL_law_146
def dkwL_law_144 : List UInt8 := [3, 172, 21, 5, 154, 0, 15, 45, 3, 47, 21, 6, 133, 148, 153, 0, 5, 3, 172, 167, 2, 107, 43, 42]
abbrev dktL_law_144 : List UInt8 := dkwL_law_144 ++ dktL_law_145
def dkwL_law_143 : List UInt8 := [167, 0, 4, 3, 42, 21, 4, 6, 96, 46, 182, 1, 101, 54, 6, 44, 182, 0, 194, 21, 5, 159, 0, 5]
abbrev dktL_law_143 : List UInt8 := dkwL_law_143 ++ dktL_law_144
def dkwL_law_142 : List UInt8 := [46, 45, 184, 1, 98, 54, 5, 44, 42, 21, 4, 4, 96, 46, 42, 21, 4, 5, 96, 46, 153, 0, 7, 4]
abbrev dktL_law_142 : List UInt8 := dkwL_law_142 ++ dktL_law_143
def dkwL_law_141 : List UInt8 := [21, 4, 4, 96, 46, 42, 21, 4, 5, 96, 46, 153, 0, 7, 4, 167, 0, 4, 3, 42, 21, 4, 6, 96]
abbrev dktL_law_141 : List UInt8 := dkwL_law_141 ++ dktL_law_142
def dkwL_law_140 : List UInt8 := [172, 21, 5, 154, 0, 15, 45, 3, 47, 21, 6, 133, 148, 153, 0, 5, 3, 172, 167, 2, 203, 43, 42]
abbrev dktL_law_140 : List UInt8 := dkwL_law_140 ++ dktL_law_141
def dkwL_law_139 : List UInt8 := [54, 5, 44, 42, 21, 4, 4, 96, 46, 182, 1, 97, 54, 6, 44, 182, 0, 194, 21, 5, 159, 0, 5, 3]
abbrev dktL_law_139 : List UInt8 := dkwL_law_139 ++ dktL_law_140
def dkwL_law_138 : List UInt8 := [21, 6, 133, 148, 153, 0, 5, 3, 172, 167, 3, 3, 43, 42, 21, 4, 4, 96, 46, 45, 184, 1, 95]
abbrev dktL_law_138 : List UInt8 := dkwL_law_138 ++ dktL_law_139
def dkwL_law_137 : List UInt8 := [182, 1, 94, 54, 6, 44, 182, 0, 194, 21, 5, 159, 0, 5, 3, 172, 21, 5, 154, 0, 15, 45, 3, 47]
abbrev dktL_law_137 : List UInt8 := dkwL_law_137 ++ dktL_law_138
def dkwL_law_136 : List UInt8 := [167, 3, 59, 43, 42, 21, 4, 4, 96, 46, 45, 184, 1, 92, 54, 5, 44, 42, 21, 4, 4, 96, 46]
abbrev dktL_law_136 : List UInt8 := dkwL_law_136 ++ dktL_law_137
def dkwL_law_135 : List UInt8 := [21, 5, 159, 0, 5, 3, 172, 21, 5, 154, 0, 15, 45, 3, 47, 21, 6, 133, 148, 153, 0, 5, 3, 172]
abbrev dktL_law_135 : List UInt8 := dkwL_law_135 ++ dktL_law_136
def dkwL_law_134 : List UInt8 := [96, 46, 42, 21, 4, 5, 96, 46, 42, 21, 4, 6, 96, 46, 182, 1, 91, 54, 6, 44, 182, 0, 194]
abbrev dktL_law_134 : List UInt8 := dkwL_law_134 ++ dktL_law_135
def dkwL_law_133 : List UInt8 := [46, 42, 21, 4, 5, 96, 46, 42, 21, 4, 6, 96, 46, 45, 184, 1, 89, 54, 5, 44, 42, 21, 4, 4]
abbrev dktL_law_133 : List UInt8 := dkwL_law_133 ++ dktL_law_134
def dkwL_law_132 : List UInt8 := [154, 0, 15, 45, 3, 47, 21, 6, 133, 148, 153, 0, 5, 3, 172, 167, 3, 139, 43, 42, 21, 4, 4, 96]
abbrev dktL_law_132 : List UInt8 := dkwL_law_132 ++ dktL_law_133
def dkwL_law_131 : List UInt8 := [167, 0, 4, 3, 182, 1, 88, 54, 6, 44, 182, 0, 194, 21, 5, 159, 0, 5, 3, 172, 21, 5]
abbrev dktL_law_131 : List UInt8 := dkwL_law_131 ++ dktL_law_132
def dkwL_law_130 : List UInt8 := [42, 21, 4, 4, 96, 46, 42, 21, 4, 5, 96, 46, 42, 21, 4, 6, 96, 46, 153, 0, 7, 4]
abbrev dktL_law_130 : List UInt8 := dkwL_law_130 ++ dktL_law_131
def dkwL_law_129 : List UInt8 := [5, 96, 46, 42, 21, 4, 6, 96, 46, 153, 0, 7, 4, 167, 0, 4, 3, 45, 184, 1, 85, 54, 5, 44]
abbrev dktL_law_129 : List UInt8 := dkwL_law_129 ++ dktL_law_130
def dkwL_law_128 : List UInt8 := [3, 47, 21, 6, 133, 148, 153, 0, 5, 3, 172, 167, 3, 235, 43, 42, 21, 4, 4, 96, 46, 42, 21, 4]
abbrev dktL_law_128 : List UInt8 := dkwL_law_128 ++ dktL_law_129
def dkwL_law_127 : List UInt8 := [96, 46, 182, 1, 84, 54, 6, 44, 182, 0, 194, 21, 5, 159, 0, 5, 3, 172, 21, 5, 154, 0, 15, 45]
abbrev dktL_law_127 : List UInt8 := dkwL_law_127 ++ dktL_law_128
def dkwL_law_126 : List UInt8 := [46, 42, 21, 4, 5, 96, 46, 45, 184, 1, 82, 54, 5, 44, 42, 21, 4, 4, 96, 46, 42, 21, 4, 5]
abbrev dktL_law_126 : List UInt8 := dkwL_law_126 ++ dktL_law_127
def dkwL_law_125 : List UInt8 := [154, 0, 15, 45, 3, 47, 21, 6, 133, 148, 153, 0, 5, 3, 172, 167, 4, 47, 43, 42, 21, 4, 4, 96]
abbrev dktL_law_125 : List UInt8 := dkwL_law_125 ++ dktL_law_126
def dkwL_law_124 : List UInt8 := [21, 4, 6, 96, 46, 182, 1, 81, 54, 6, 44, 182, 0, 194, 21, 5, 159, 0, 5, 3, 172, 21, 5]
abbrev dktL_law_124 : List UInt8 := dkwL_law_124 ++ dktL_law_125
def dkwL_law_123 : List UInt8 := [6, 96, 46, 45, 184, 1, 79, 54, 5, 44, 42, 21, 4, 4, 96, 46, 42, 21, 4, 5, 96, 46, 42]
abbrev dktL_law_123 : List UInt8 := dkwL_law_123 ++ dktL_law_124
def dkwL_law_122 : List UInt8 := [153, 0, 5, 3, 172, 167, 4, 127, 43, 42, 21, 4, 4, 96, 46, 42, 21, 4, 5, 96, 46, 42, 21, 4]
abbrev dktL_law_122 : List UInt8 := dkwL_law_122 ++ dktL_law_123
def dkwL_law_121 : List UInt8 := [182, 0, 194, 21, 5, 159, 0, 5, 3, 172, 21, 5, 154, 0, 15, 45, 3, 47, 21, 6, 133, 148]
abbrev dktL_law_121 : List UInt8 := dkwL_law_121 ++ dktL_law_122
def dkwL_law_120 : List UInt8 := [184, 1, 76, 54, 5, 44, 42, 21, 4, 4, 96, 46, 42, 21, 4, 5, 96, 46, 182, 1, 78, 54, 6, 44]
abbrev dktL_law_120 : List UInt8 := dkwL_law_120 ++ dktL_law_121
def dkwL_law_119 : List UInt8 := [44, 182, 1, 75, 159, 4, 197, 3, 172, 43, 42, 21, 4, 4, 96, 46, 42, 21, 4, 5, 96, 46, 45]
abbrev dktL_law_119 : List UInt8 := dkwL_law_119 ++ dktL_law_120
def dkwL_law_118 : List UInt8 := [21, 5, 154, 0, 15, 45, 3, 47, 21, 6, 133, 148, 153, 0, 5, 3, 172, 167, 4, 208, 43, 182, 1, 72]
abbrev dktL_law_118 : List UInt8 := dkwL_law_118 ++ dktL_law_119
def dkwL_law_117 : List UInt8 := [96, 46, 42, 21, 4, 6, 96, 46, 182, 1, 71, 54, 6, 44, 182, 0, 194, 21, 5, 159, 0, 5, 3, 172]
abbrev dktL_law_117 : List UInt8 := dkwL_law_117 ++ dktL_law_118
def dkwL_law_116 : List UInt8 := [46, 42, 21, 4, 6, 96, 46, 45, 184, 1, 69, 54, 5, 44, 42, 21, 4, 4, 96, 46, 42, 21, 4, 5]
abbrev dktL_law_116 : List UInt8 := dkwL_law_116 ++ dktL_law_117
def dkwL_law_115 : List UInt8 := [182, 1, 65, 44, 182, 1, 68, 159, 5, 34, 3, 172, 43, 42, 21, 4, 4, 96, 46, 42, 21, 4, 5, 96]
abbrev dktL_law_115 : List UInt8 := dkwL_law_115 ++ dktL_law_116
def dkwL_law_114 : List UInt8 := [172, 21, 5, 154, 0, 15, 45, 3, 47, 21, 6, 133, 148, 153, 0, 5, 3, 172, 167, 5, 45, 43]
abbrev dktL_law_114 : List UInt8 := dkwL_law_114 ++ dktL_law_115
def dkwL_law_113 : List UInt8 := [54, 5, 44, 42, 21, 4, 4, 96, 46, 182, 1, 64, 54, 6, 44, 182, 0, 194, 21, 5, 159, 0, 5, 3]
abbrev dktL_law_113 : List UInt8 := dkwL_law_113 ++ dktL_law_114
def dkwL_law_112 : List UInt8 := [21, 6, 133, 148, 153, 0, 5, 3, 172, 167, 5, 101, 43, 42, 21, 4, 4, 96, 46, 45, 184, 1, 62]
abbrev dktL_law_112 : List UInt8 := dkwL_law_112 ++ dktL_law_113
def dkwL_law_111 : List UInt8 := [182, 1, 61, 54, 6, 44, 182, 0, 194, 21, 5, 159, 0, 5, 3, 172, 21, 5, 154, 0, 15, 45, 3, 47]
abbrev dktL_law_111 : List UInt8 := dkwL_law_111 ++ dktL_law_112
def dkwL_law_110 : List UInt8 := [167, 5, 157, 43, 42, 21, 4, 4, 96, 46, 45, 184, 1, 59, 54, 5, 44, 42, 21, 4, 4, 96, 46]
abbrev dktL_law_110 : List UInt8 := dkwL_law_110 ++ dktL_law_111
def dkwL_law_109 : List UInt8 := [159, 0, 5, 3, 172, 21, 5, 154, 0, 15, 45, 3, 47, 21, 6, 133, 148, 153, 0, 5, 3, 172]
abbrev dktL_law_109 : List UInt8 := dkwL_law_109 ++ dktL_law_110
def dkwL_law_108 : List UInt8 := [184, 1, 56, 54, 5, 44, 42, 21, 4, 4, 96, 46, 182, 1, 58, 54, 6, 44, 182, 0, 194, 21, 5]
abbrev dktL_law_108 : List UInt8 := dkwL_law_108 ++ dktL_law_109
def dkwL_law_107 : List UInt8 := [3, 47, 21, 6, 133, 148, 153, 0, 5, 3, 172, 167, 5, 213, 43, 42, 21, 4, 4, 96, 46, 45]
abbrev dktL_law_107 : List UInt8 := dkwL_law_107 ++ dktL_law_108
def dkwL_law_106 : List UInt8 := [96, 46, 182, 1, 55, 54, 6, 44, 182, 0, 194, 21, 5, 159, 0, 5, 3, 172, 21, 5, 154, 0, 15, 45]
abbrev dktL_law_106 : List UInt8 := dkwL_law_106 ++ dktL_law_107
def dkwL_law_105 : List UInt8 := [46, 42, 21, 4, 5, 96, 46, 45, 184, 1, 53, 54, 5, 44, 42, 21, 4, 4, 96, 46, 42, 21, 4, 5]
abbrev dktL_law_105 : List UInt8 := dkwL_law_105 ++ dktL_law_106
def dkwL_law_104 : List UInt8 := [154, 0, 15, 45, 3, 47, 21, 6, 133, 148, 153, 0, 5, 3, 172, 167, 6, 25, 43, 42, 21, 4, 4, 96]
abbrev dktL_law_104 : List UInt8 := dkwL_law_104 ++ dktL_law_105
def dkwL_law_103 : List UInt8 := [167, 0, 4, 3, 182, 1, 52, 54, 6, 44, 182, 0, 194, 21, 5, 159, 0, 5, 3, 172, 21, 5]
abbrev dktL_law_103 : List UInt8 := dkwL_law_103 ++ dktL_law_104
def dkwL_law_102 : List UInt8 := [45, 184, 1, 49, 54, 5, 44, 42, 21, 4, 4, 96, 46, 42, 21, 4, 5, 96, 46, 153, 0, 7, 4]
abbrev dktL_law_102 : List UInt8 := dkwL_law_102 ++ dktL_law_103
def dkwL_law_101 : List UInt8 := [167, 6, 109, 43, 42, 21, 4, 4, 96, 46, 42, 21, 4, 5, 96, 46, 153, 0, 7, 4, 167, 0, 4, 3]
abbrev dktL_law_101 : List UInt8 := dkwL_law_101 ++ dktL_law_102
def dkwL_law_100 : List UInt8 := [21, 5, 159, 0, 5, 3, 172, 21, 5, 154, 0, 15, 45, 3, 47, 21, 6, 133, 148, 153, 0, 5, 3, 172]
abbrev dktL_law_100 : List UInt8 := dkwL_law_100 ++ dktL_law_101
def dkwL_law_99 : List UInt8 := [46, 45, 184, 1, 46, 54, 5, 44, 42, 21, 4, 4, 96, 46, 182, 1, 48, 54, 6, 44, 182, 0, 194]
abbrev dktL_law_99 : List UInt8 := dkwL_law_99 ++ dktL_law_100
def dkwL_law_98 : List UInt8 := [154, 0, 15, 45, 3, 47, 21, 6, 133, 148, 153, 0, 5, 3, 172, 167, 6, 165, 43, 42, 21, 4, 4, 96]
abbrev dktL_law_98 : List UInt8 := dkwL_law_98 ++ dktL_law_99
def dkwL_law_97 : List UInt8 := [21, 4, 4, 96, 46, 182, 1, 45, 54, 6, 44, 182, 0, 194, 21, 5, 159, 0, 5, 3, 172, 21, 5]
abbrev dktL_law_97 : List UInt8 := dkwL_law_97 ++ dktL_law_98
def dkwL_law_96 : List UInt8 := [153, 0, 5, 3, 172, 167, 6, 221, 43, 42, 21, 4, 4, 96, 46, 45, 184, 1, 43, 54, 5, 44, 42]
abbrev dktL_law_96 : List UInt8 := dkwL_law_96 ++ dktL_law_97
def dkwL_law_95 : List UInt8 := [182, 0, 194, 21, 5, 159, 0, 5, 3, 172, 21, 5, 154, 0, 15, 45, 3, 47, 21, 6, 133, 148]
abbrev dktL_law_95 : List UInt8 := dkwL_law_95 ++ dktL_law_96
def dkwL_law_94 : List UInt8 := [184, 1, 40, 54, 5, 44, 42, 21, 4, 4, 96, 46, 42, 21, 4, 5, 96, 46, 182, 1, 42, 54, 6, 44]
abbrev dktL_law_94 : List UInt8 := dkwL_law_94 ++ dktL_law_95
def dkwL_law_93 : List UInt8 := [153, 0, 5, 3, 172, 167, 7, 33, 43, 42, 21, 4, 4, 96, 46, 42, 21, 4, 5, 96, 46, 45]
abbrev dktL_law_93 : List UInt8 := dkwL_law_93 ++ dktL_law_94
def dkwL_law_92 : List UInt8 := [182, 0, 194, 21, 5, 159, 0, 5, 3, 172, 21, 5, 154, 0, 15, 45, 3, 47, 21, 6, 133, 148]
abbrev dktL_law_92 : List UInt8 := dkwL_law_92 ++ dktL_law_93
def dkwL_law_91 : List UInt8 := [21, 4, 4, 96, 46, 45, 184, 1, 37, 54, 5, 44, 42, 21, 4, 4, 96, 46, 182, 1, 39, 54, 6, 44]
abbrev dktL_law_91 : List UInt8 := dkwL_law_91 ++ dktL_law_92
def dkwL_law_90 : List UInt8 := [172, 21, 5, 154, 0, 15, 45, 3, 47, 21, 6, 133, 148, 153, 0, 5, 3, 172, 167, 7, 89, 43, 42]
abbrev dktL_law_90 : List UInt8 := dkwL_law_90 ++ dktL_law_91
def dkwL_law_89 : List UInt8 := [54, 5, 44, 42, 21, 4, 4, 96, 46, 182, 1, 36, 54, 6, 44, 182, 0, 194, 21, 5, 159, 0, 5, 3]
abbrev dktL_law_89 : List UInt8 := dkwL_law_89 ++ dktL_law_90
def dkwL_law_88 : List UInt8 := [21, 6, 133, 148, 153, 0, 5, 3, 172, 167, 7, 145, 43, 42, 21, 4, 4, 96, 46, 45, 184, 1, 34]
abbrev dktL_law_88 : List UInt8 := dkwL_law_88 ++ dktL_law_89
def dkwL_law_87 : List UInt8 := [182, 1, 33, 54, 6, 44, 182, 0, 194, 21, 5, 159, 0, 5, 3, 172, 21, 5, 154, 0, 15, 45, 3, 47]
abbrev dktL_law_87 : List UInt8 := dkwL_law_87 ++ dktL_law_88
def dkwL_law_86 : List UInt8 := [21, 4, 5, 96, 46, 45, 184, 1, 31, 54, 5, 44, 42, 21, 4, 4, 96, 46, 42, 21, 4, 5, 96, 46]
abbrev dktL_law_86 : List UInt8 := dkwL_law_86 ++ dktL_law_87
def dkwL_law_85 : List UInt8 := [167, 7, 226, 43, 182, 1, 27, 44, 182, 1, 30, 159, 7, 215, 3, 172, 43, 42, 21, 4, 4, 96, 46, 42]
abbrev dktL_law_85 : List UInt8 := dkwL_law_85 ++ dktL_law_86
def dkwL_law_84 : List UInt8 := [21, 5, 159, 0, 5, 3, 172, 21, 5, 154, 0, 15, 45, 3, 47, 21, 6, 133, 148, 153, 0, 5, 3, 172]
abbrev dktL_law_84 : List UInt8 := dkwL_law_84 ++ dktL_law_85
def dkwL_law_83 : List UInt8 := [46, 45, 184, 1, 24, 54, 5, 44, 42, 21, 4, 4, 96, 46, 182, 1, 26, 54, 6, 44, 182, 0, 194]
abbrev dktL_law_83 : List UInt8 := dkwL_law_83 ++ dktL_law_84
def dkwL_law_82 : List UInt8 := [154, 0, 15, 45, 3, 47, 21, 6, 133, 148, 153, 0, 5, 3, 172, 167, 8, 26, 43, 42, 21, 4, 4, 96]
abbrev dktL_law_82 : List UInt8 := dkwL_law_82 ++ dktL_law_83
def dkwL_law_81 : List UInt8 := [21, 4, 4, 96, 46, 182, 1, 23, 54, 6, 44, 182, 0, 194, 21, 5, 159, 0, 5, 3, 172, 21, 5]
abbrev dktL_law_81 : List UInt8 := dkwL_law_81 ++ dktL_law_82
def dkwL_law_80 : List UInt8 := [153, 0, 5, 3, 172, 167, 8, 82, 43, 42, 21, 4, 4, 96, 46, 45, 184, 1, 21, 54, 5, 44, 42]
abbrev dktL_law_80 : List UInt8 := dkwL_law_80 ++ dktL_law_81
def dkwL_law_79 : List UInt8 := [182, 0, 194, 21, 5, 159, 0, 5, 3, 172, 21, 5, 154, 0, 15, 45, 3, 47, 21, 6, 133, 148]
abbrev dktL_law_79 : List UInt8 := dkwL_law_79 ++ dktL_law_80
def dkwL_law_78 : List UInt8 := [42, 21, 4, 5, 96, 46, 42, 21, 4, 6, 96, 46, 42, 21, 4, 7, 96, 46, 182, 1, 20, 54, 6, 44]
abbrev dktL_law_78 : List UInt8 := dkwL_law_78 ++ dktL_law_79
def dkwL_law_77 : List UInt8 := [21, 4, 6, 96, 46, 42, 21, 4, 7, 96, 46, 45, 184, 1, 18, 54, 5, 44, 42, 21, 4, 4, 96, 46]
abbrev dktL_law_77 : List UInt8 := dkwL_law_77 ++ dktL_law_78
def dkwL_law_76 : List UInt8 := [148, 153, 0, 5, 3, 172, 167, 8, 174, 43, 42, 21, 4, 4, 96, 46, 42, 21, 4, 5, 96, 46, 42]
abbrev dktL_law_76 : List UInt8 := dkwL_law_76 ++ dktL_law_77
def dkwL_law_75 : List UInt8 := [54, 6, 44, 182, 0, 194, 21, 5, 159, 0, 5, 3, 172, 21, 5, 154, 0, 15, 45, 3, 47, 21, 6, 133]
abbrev dktL_law_75 : List UInt8 := dkwL_law_75 ++ dktL_law_76
def dkwL_law_74 : List UInt8 := [46, 45, 184, 1, 15, 54, 5, 44, 42, 21, 4, 4, 96, 46, 42, 21, 4, 5, 96, 46, 182, 1, 17]
abbrev dktL_law_74 : List UInt8 := dkwL_law_74 ++ dktL_law_75
def dkwL_law_73 : List UInt8 := [21, 6, 133, 148, 153, 0, 5, 3, 172, 167, 8, 242, 43, 42, 21, 4, 4, 96, 46, 42, 21, 4, 5, 96]
abbrev dktL_law_73 : List UInt8 := dkwL_law_73 ++ dktL_law_74
def dkwL_law_72 : List UInt8 := [182, 1, 14, 54, 6, 44, 182, 0, 194, 21, 5, 159, 0, 5, 3, 172, 21, 5, 154, 0, 15, 45, 3, 47]
abbrev dktL_law_72 : List UInt8 := dkwL_law_72 ++ dktL_law_73
def dkwL_law_71 : List UInt8 := [5, 96, 46, 45, 184, 1, 12, 54, 5, 44, 42, 21, 4, 4, 96, 46, 42, 21, 4, 5, 96, 46]
abbrev dktL_law_71 : List UInt8 := dkwL_law_71 ++ dktL_law_72
def dkwL_law_70 : List UInt8 := [3, 47, 21, 6, 133, 148, 153, 0, 5, 3, 172, 167, 9, 54, 43, 42, 21, 4, 4, 96, 46, 42, 21, 4]
abbrev dktL_law_70 : List UInt8 := dkwL_law_70 ++ dktL_law_71
def dkwL_law_69 : List UInt8 := [96, 46, 182, 1, 11, 54, 6, 44, 182, 0, 194, 21, 5, 159, 0, 5, 3, 172, 21, 5, 154, 0, 15, 45]
abbrev dktL_law_69 : List UInt8 := dkwL_law_69 ++ dktL_law_70
def dkwL_law_68 : List UInt8 := [46, 42, 21, 4, 5, 96, 46, 45, 184, 1, 9, 54, 5, 44, 42, 21, 4, 4, 96, 46, 42, 21, 4, 5]
abbrev dktL_law_68 : List UInt8 := dkwL_law_68 ++ dktL_law_69
def dkwL_law_67 : List UInt8 := [182, 1, 5, 44, 42, 21, 4, 4, 96, 46, 182, 1, 8, 159, 9, 124, 3, 172, 43, 42, 21, 4, 4, 96]
abbrev dktL_law_67 : List UInt8 := dkwL_law_67 ++ dktL_law_68
def dkwL_law_66 : List UInt8 := [167, 9, 160, 43, 182, 1, 1, 44, 182, 1, 4, 159, 9, 149, 3, 172, 43, 42, 21, 4, 4, 96, 46]
abbrev dktL_law_66 : List UInt8 := dkwL_law_66 ++ dktL_law_67
def dkwL_law_65 : List UInt8 := [159, 0, 5, 3, 172, 21, 5, 154, 0, 15, 45, 3, 47, 21, 6, 133, 148, 153, 0, 5, 3, 172]
abbrev dktL_law_65 : List UInt8 := dkwL_law_65 ++ dktL_law_66
def dkwL_law_64 : List UInt8 := [21, 4, 4, 96, 46, 42, 21, 4, 5, 96, 46, 182, 1, 0, 54, 6, 44, 182, 0, 194, 21, 5]
abbrev dktL_law_64 : List UInt8 := dkwL_law_64 ++ dktL_law_65
def dkwL_law_63 : List UInt8 := [167, 9, 228, 43, 42, 21, 4, 4, 96, 46, 42, 21, 4, 5, 96, 46, 45, 184, 0, 254, 54, 5, 44, 42]
abbrev dktL_law_63 : List UInt8 := dkwL_law_63 ++ dktL_law_64
def dkwL_law_62 : List UInt8 := [159, 0, 5, 3, 172, 21, 5, 154, 0, 15, 45, 3, 47, 21, 6, 133, 148, 153, 0, 5, 3, 172]
abbrev dktL_law_62 : List UInt8 := dkwL_law_62 ++ dktL_law_63
def dkwL_law_61 : List UInt8 := [21, 4, 5, 96, 46, 42, 21, 4, 6, 96, 46, 182, 0, 253, 54, 6, 44, 182, 0, 194, 21, 5]
abbrev dktL_law_61 : List UInt8 := dkwL_law_61 ++ dktL_law_62
def dkwL_law_60 : List UInt8 := [5, 96, 46, 42, 21, 4, 6, 96, 46, 45, 184, 0, 251, 54, 5, 44, 42, 21, 4, 4, 96, 46, 42]
abbrev dktL_law_60 : List UInt8 := dkwL_law_60 ++ dktL_law_61
def dkwL_law_59 : List UInt8 := [3, 47, 21, 6, 133, 148, 153, 0, 5, 3, 172, 167, 10, 52, 43, 42, 21, 4, 4, 96, 46, 42, 21, 4]
abbrev dktL_law_59 : List UInt8 := dkwL_law_59 ++ dktL_law_60
def dkwL_law_58 : List UInt8 := [96, 46, 182, 0, 250, 54, 6, 44, 182, 0, 194, 21, 5, 159, 0, 5, 3, 172, 21, 5, 154, 0, 15, 45]
abbrev dktL_law_58 : List UInt8 := dkwL_law_58 ++ dktL_law_59
def dkwL_law_57 : List UInt8 := [46, 42, 21, 4, 5, 96, 46, 45, 184, 0, 248, 54, 5, 44, 42, 21, 4, 4, 96, 46, 42, 21, 4, 5]
abbrev dktL_law_57 : List UInt8 := dkwL_law_57 ++ dktL_law_58
def dkwL_law_56 : List UInt8 := [154, 0, 15, 45, 3, 47, 21, 6, 133, 148, 153, 0, 5, 3, 172, 167, 10, 120, 43, 42, 21, 4, 4, 96]
abbrev dktL_law_56 : List UInt8 := dkwL_law_56 ++ dktL_law_57
def dkwL_law_55 : List UInt8 := [21, 4, 6, 96, 46, 182, 0, 247, 54, 6, 44, 182, 0, 194, 21, 5, 159, 0, 5, 3, 172, 21, 5]
abbrev dktL_law_55 : List UInt8 := dkwL_law_55 ++ dktL_law_56
def dkwL_law_54 : List UInt8 := [6, 96, 46, 45, 184, 0, 245, 54, 5, 44, 42, 21, 4, 4, 96, 46, 42, 21, 4, 5, 96, 46, 42]
abbrev dktL_law_54 : List UInt8 := dkwL_law_54 ++ dktL_law_55
def dkwL_law_53 : List UInt8 := [153, 0, 5, 3, 172, 167, 10, 200, 43, 42, 21, 4, 4, 96, 46, 42, 21, 4, 5, 96, 46, 42, 21, 4]
abbrev dktL_law_53 : List UInt8 := dkwL_law_53 ++ dktL_law_54
def dkwL_law_52 : List UInt8 := [182, 0, 194, 21, 5, 159, 0, 5, 3, 172, 21, 5, 154, 0, 15, 45, 3, 47, 21, 6, 133, 148]
abbrev dktL_law_52 : List UInt8 := dkwL_law_52 ++ dktL_law_53
def dkwL_law_51 : List UInt8 := [184, 0, 242, 54, 5, 44, 42, 21, 4, 4, 96, 46, 42, 21, 4, 5, 96, 46, 182, 0, 244, 54, 6, 44]
abbrev dktL_law_51 : List UInt8 := dkwL_law_51 ++ dktL_law_52
def dkwL_law_50 : List UInt8 := [153, 0, 5, 3, 172, 167, 11, 12, 43, 42, 21, 4, 4, 96, 46, 42, 21, 4, 5, 96, 46, 45]
abbrev dktL_law_50 : List UInt8 := dkwL_law_50 ++ dktL_law_51
def dkwL_law_49 : List UInt8 := [182, 0, 194, 21, 5, 159, 0, 5, 3, 172, 21, 5, 154, 0, 15, 45, 3, 47, 21, 6, 133, 148]
abbrev dktL_law_49 : List UInt8 := dkwL_law_49 ++ dktL_law_50
def dkwL_law_48 : List UInt8 := [21, 4, 4, 96, 46, 42, 21, 4, 5, 96, 46, 42, 21, 4, 6, 96, 46, 182, 0, 241, 54, 6, 44]
abbrev dktL_law_48 : List UInt8 := dkwL_law_48 ++ dktL_law_49
def dkwL_law_47 : List UInt8 := [4, 96, 46, 42, 21, 4, 5, 96, 46, 42, 21, 4, 6, 96, 46, 45, 184, 0, 239, 54, 5, 44, 42]
abbrev dktL_law_47 : List UInt8 := dkwL_law_47 ++ dktL_law_48
def dkwL_law_46 : List UInt8 := [21, 5, 154, 0, 15, 45, 3, 47, 21, 6, 133, 148, 153, 0, 5, 3, 172, 167, 11, 92, 43, 42, 21, 4]
abbrev dktL_law_46 : List UInt8 := dkwL_law_46 ++ dktL_law_47
def dkwL_law_45 : List UInt8 := [96, 46, 42, 21, 4, 6, 96, 46, 182, 0, 238, 54, 6, 44, 182, 0, 194, 21, 5, 159, 0, 5, 3, 172]
abbrev dktL_law_45 : List UInt8 := dkwL_law_45 ++ dktL_law_46
def dkwL_law_44 : List UInt8 := [46, 42, 21, 4, 6, 96, 46, 45, 184, 0, 236, 54, 5, 44, 42, 21, 4, 4, 96, 46, 42, 21, 4, 5]
abbrev dktL_law_44 : List UInt8 := dkwL_law_44 ++ dktL_law_45
def dkwL_law_43 : List UInt8 := [21, 6, 133, 148, 153, 0, 5, 3, 172, 167, 11, 172, 43, 42, 21, 4, 4, 96, 46, 42, 21, 4, 5, 96]
abbrev dktL_law_43 : List UInt8 := dkwL_law_43 ++ dktL_law_44
def dkwL_law_42 : List UInt8 := [182, 0, 235, 54, 6, 44, 182, 0, 194, 21, 5, 159, 0, 5, 3, 172, 21, 5, 154, 0, 15, 45, 3, 47]
abbrev dktL_law_42 : List UInt8 := dkwL_law_42 ++ dktL_law_43
def dkwL_law_41 : List UInt8 := [184, 0, 233, 54, 5, 44, 42, 21, 4, 4, 96, 46, 42, 21, 4, 5, 96, 46, 42, 21, 4, 6, 96, 46]
abbrev dktL_law_41 : List UInt8 := dkwL_law_41 ++ dktL_law_42
def dkwL_law_40 : List UInt8 := [167, 11, 252, 43, 42, 21, 4, 4, 96, 46, 42, 21, 4, 5, 96, 46, 42, 21, 4, 6, 96, 46, 45]
abbrev dktL_law_40 : List UInt8 := dkwL_law_40 ++ dktL_law_41
def dkwL_law_39 : List UInt8 := [21, 5, 154, 0, 22, 45, 3, 47, 21, 6, 153, 0, 7, 10, 167, 0, 4, 9, 148, 153, 0, 5, 3, 172]
abbrev dktL_law_39 : List UInt8 := dkwL_law_39 ++ dktL_law_40
def dkwL_law_38 : List UInt8 := [96, 46, 42, 21, 4, 6, 96, 46, 182, 0, 232, 54, 6, 44, 182, 0, 194, 21, 5, 159, 0, 5, 3, 172]
abbrev dktL_law_38 : List UInt8 := dkwL_law_38 ++ dktL_law_39
def dkwL_law_37 : List UInt8 := [46, 42, 21, 4, 6, 96, 46, 45, 184, 0, 230, 54, 5, 44, 42, 21, 4, 4, 96, 46, 42, 21, 4, 5]
abbrev dktL_law_37 : List UInt8 := dkwL_law_37 ++ dktL_law_38
def dkwL_law_36 : List UInt8 := [21, 6, 133, 148, 153, 0, 5, 3, 172, 167, 12, 83, 43, 42, 21, 4, 4, 96, 46, 42, 21, 4, 5, 96]
abbrev dktL_law_36 : List UInt8 := dkwL_law_36 ++ dktL_law_37
def dkwL_law_35 : List UInt8 := [182, 0, 229, 54, 6, 44, 182, 0, 194, 21, 5, 159, 0, 5, 3, 172, 21, 5, 154, 0, 15, 45, 3, 47]
abbrev dktL_law_35 : List UInt8 := dkwL_law_35 ++ dktL_law_36
def dkwL_law_34 : List UInt8 := [184, 0, 227, 54, 5, 44, 42, 21, 4, 4, 96, 46, 42, 21, 4, 5, 96, 46, 42, 21, 4, 6, 96, 46]
abbrev dktL_law_34 : List UInt8 := dkwL_law_34 ++ dktL_law_35
def dkwL_law_33 : List UInt8 := [167, 12, 163, 43, 42, 21, 4, 4, 96, 46, 42, 21, 4, 5, 96, 46, 42, 21, 4, 6, 96, 46, 45]
abbrev dktL_law_33 : List UInt8 := dkwL_law_33 ++ dktL_law_34
def dkwL_law_32 : List UInt8 := [159, 0, 5, 3, 172, 21, 5, 154, 0, 15, 45, 3, 47, 21, 6, 133, 148, 153, 0, 5, 3, 172]
abbrev dktL_law_32 : List UInt8 := dkwL_law_32 ++ dktL_law_33
def dkwL_law_31 : List UInt8 := [21, 4, 4, 96, 46, 42, 21, 4, 5, 96, 46, 182, 0, 226, 54, 6, 44, 182, 0, 194, 21, 5]
abbrev dktL_law_31 : List UInt8 := dkwL_law_31 ++ dktL_law_32
def dkwL_law_30 : List UInt8 := [167, 12, 231, 43, 42, 21, 4, 4, 96, 46, 42, 21, 4, 5, 96, 46, 45, 184, 0, 224, 54, 5, 44, 42]
abbrev dktL_law_30 : List UInt8 := dkwL_law_30 ++ dktL_law_31
def dkwL_law_29 : List UInt8 := [21, 5, 159, 0, 5, 3, 172, 21, 5, 154, 0, 15, 45, 3, 47, 21, 6, 133, 148, 153, 0, 5, 3, 172]
abbrev dktL_law_29 : List UInt8 := dkwL_law_29 ++ dktL_law_30
def dkwL_law_28 : List UInt8 := [96, 46, 42, 21, 4, 5, 96, 46, 42, 21, 4, 6, 96, 46, 182, 0, 223, 54, 6, 44, 182, 0, 194]
abbrev dktL_law_28 : List UInt8 := dkwL_law_28 ++ dktL_law_29
def dkwL_law_27 : List UInt8 := [46, 42, 21, 4, 5, 96, 46, 42, 21, 4, 6, 96, 46, 45, 184, 0, 221, 54, 5, 44, 42, 21, 4, 4]
abbrev dktL_law_27 : List UInt8 := dkwL_law_27 ++ dktL_law_28
def dkwL_law_26 : List UInt8 := [154, 0, 15, 45, 3, 47, 21, 6, 133, 148, 153, 0, 5, 3, 172, 167, 13, 55, 43, 42, 21, 4, 4, 96]
abbrev dktL_law_26 : List UInt8 := dkwL_law_26 ++ dktL_law_27
def dkwL_law_25 : List UInt8 := [21, 4, 6, 96, 46, 182, 0, 220, 54, 6, 44, 182, 0, 194, 21, 5, 159, 0, 5, 3, 172, 21, 5]
abbrev dktL_law_25 : List UInt8 := dkwL_law_25 ++ dktL_law_26
def dkwL_law_24 : List UInt8 := [6, 96, 46, 45, 184, 0, 217, 54, 5, 44, 42, 21, 4, 4, 96, 46, 42, 21, 4, 5, 96, 46, 42]
abbrev dktL_law_24 : List UInt8 := dkwL_law_24 ++ dktL_law_25
def dkwL_law_23 : List UInt8 := [153, 0, 5, 3, 172, 167, 13, 135, 43, 42, 21, 4, 4, 96, 46, 42, 21, 4, 5, 96, 46, 42, 21, 4]
abbrev dktL_law_23 : List UInt8 := dkwL_law_23 ++ dktL_law_24
def dkwL_law_22 : List UInt8 := [182, 0, 194, 21, 5, 159, 0, 5, 3, 172, 21, 5, 154, 0, 15, 45, 3, 47, 21, 6, 133, 148]
abbrev dktL_law_22 : List UInt8 := dkwL_law_22 ++ dktL_law_23
def dkwL_law_21 : List UInt8 := [7, 96, 46, 42, 21, 4, 8, 96, 46, 153, 0, 7, 4, 167, 0, 4, 3, 182, 0, 216, 54, 6, 44]
abbrev dktL_law_21 : List UInt8 := dkwL_law_21 ++ dktL_law_22
def dkwL_law_20 : List UInt8 := [54, 5, 44, 42, 21, 4, 4, 96, 46, 42, 21, 4, 5, 96, 46, 42, 21, 4, 6, 96, 46, 42, 21, 4]
abbrev dktL_law_20 : List UInt8 := dkwL_law_20 ++ dktL_law_21
def dkwL_law_19 : List UInt8 := [21, 4, 7, 96, 46, 42, 21, 4, 8, 96, 46, 153, 0, 7, 4, 167, 0, 4, 3, 45, 184, 0, 213]
abbrev dktL_law_19 : List UInt8 := dkwL_law_19 ++ dktL_law_20
def dkwL_law_18 : List UInt8 := [167, 13, 255, 43, 42, 21, 4, 4, 96, 46, 42, 21, 4, 5, 96, 46, 42, 21, 4, 6, 96, 46, 42]
abbrev dktL_law_18 : List UInt8 := dkwL_law_18 ++ dktL_law_19
def dkwL_law_17 : List UInt8 := [21, 5, 159, 0, 5, 3, 172, 21, 5, 154, 0, 15, 45, 3, 47, 21, 6, 133, 148, 153, 0, 5, 3, 172]
abbrev dktL_law_17 : List UInt8 := dkwL_law_17 ++ dktL_law_18
def dkwL_law_16 : List UInt8 := [46, 45, 184, 0, 210, 54, 5, 44, 42, 21, 4, 4, 96, 46, 182, 0, 212, 54, 6, 44, 182, 0, 194]
abbrev dktL_law_16 : List UInt8 := dkwL_law_16 ++ dktL_law_17
def dkwL_law_15 : List UInt8 := [154, 0, 15, 45, 3, 47, 21, 6, 133, 148, 153, 0, 5, 3, 172, 167, 14, 55, 43, 42, 21, 4, 4, 96]
abbrev dktL_law_15 : List UInt8 := dkwL_law_15 ++ dktL_law_16
def dkwL_law_14 : List UInt8 := [42, 21, 4, 7, 96, 46, 182, 0, 209, 54, 6, 44, 182, 0, 194, 21, 5, 159, 0, 5, 3, 172, 21, 5]
abbrev dktL_law_14 : List UInt8 := dkwL_law_14 ++ dktL_law_15
def dkwL_law_13 : List UInt8 := [184, 0, 206, 54, 5, 44, 42, 21, 4, 4, 96, 46, 42, 21, 4, 5, 96, 46, 42, 21, 4, 6, 96, 46]
abbrev dktL_law_13 : List UInt8 := dkwL_law_13 ++ dktL_law_14
def dkwL_law_12 : List UInt8 := [21, 4, 4, 96, 46, 42, 21, 4, 5, 96, 46, 42, 21, 4, 6, 96, 46, 42, 21, 4, 7, 96, 46, 45]
abbrev dktL_law_12 : List UInt8 := dkwL_law_12 ++ dktL_law_13
def dkwL_law_11 : List UInt8 := [153, 0, 5, 3, 172, 167, 14, 160, 43, 182, 0, 202, 44, 182, 0, 205, 159, 14, 149, 3, 172, 43, 42]
abbrev dktL_law_11 : List UInt8 := dkwL_law_11 ++ dktL_law_12
def dkwL_law_10 : List UInt8 := [182, 0, 194, 21, 5, 159, 0, 5, 3, 172, 21, 5, 154, 0, 15, 45, 3, 47, 21, 6, 133, 148]
abbrev dktL_law_10 : List UInt8 := dkwL_law_10 ++ dktL_law_11
def dkwL_law_9 : List UInt8 := [21, 4, 4, 96, 46, 45, 184, 0, 198, 54, 5, 44, 42, 21, 4, 4, 96, 46, 182, 0, 201, 54, 6, 44]
abbrev dktL_law_9 : List UInt8 := dkwL_law_9 ++ dktL_law_10
def dkwL_law_8 : List UInt8 := [172, 21, 5, 154, 0, 15, 45, 3, 47, 21, 6, 133, 148, 153, 0, 5, 3, 172, 167, 14, 216, 43, 42]
abbrev dktL_law_8 : List UInt8 := dkwL_law_8 ++ dktL_law_9
def dkwL_law_7 : List UInt8 := [4, 96, 46, 42, 21, 4, 5, 96, 46, 182, 0, 193, 54, 6, 44, 182, 0, 194, 21, 5, 159, 0, 5, 3]
abbrev dktL_law_7 : List UInt8 := dkwL_law_7 ++ dktL_law_8
def dkwL_law_6 : List UInt8 := [172, 43, 42, 21, 4, 4, 96, 46, 42, 21, 4, 5, 96, 46, 45, 184, 0, 188, 54, 5, 44, 42, 21, 4]
abbrev dktL_law_6 : List UInt8 := dkwL_law_6 ++ dktL_law_7
def dkwL_law_5 : List UInt8 := [21, 4, 6, 96, 46, 42, 21, 4, 7, 96, 46, 42, 21, 4, 8, 96, 46, 182, 0, 187, 159, 15, 30, 3]
abbrev dktL_law_5 : List UInt8 := dkwL_law_5 ++ dktL_law_6
def dkwL_law_4 : List UInt8 := [46, 42, 21, 4, 8, 96, 46, 182, 0, 183, 44, 42, 21, 4, 4, 96, 46, 42, 21, 4, 5, 96, 46, 42]
abbrev dktL_law_4 : List UInt8 := dkwL_law_4 ++ dktL_law_5
def dkwL_law_3 : List UInt8 := [43, 42, 21, 4, 4, 96, 46, 42, 21, 4, 5, 96, 46, 42, 21, 4, 6, 96, 46, 42, 21, 4, 7, 96]
abbrev dktL_law_3 : List UInt8 := dkwL_law_3 ++ dktL_law_4
def dkwL_law_2 : List UInt8 := [170, 0, 0, 0, 0, 0, 16, 122, 0, 0, 0, 0, 0, 0, 0, 65, 0, 0, 1, 24, 0, 0, 1, 97, 0, 0, 1, 165, 0, 0, 1, 221, 0, 0, 1, 234, 0, 0, 2, 70, 0, 0, 2, 126, 0, 0, 2, 246, 0, 0, 3, 70, 0, 0, 3, 150, 0, 0, 3, 218, 0, 0, 4, 42, 0, 0, 4, 129, 0, 0, 4, 209, 0, 0, 5, 33, 0, 0, 5, 113, 0, 0, 5, 181, 0, 0, 6, 5, 0, 0, 6, 73, 0, 0, 6, 153, 0, 0, 6, 221, 0, 0, 6, 234, 0, 0, 7, 3, 0, 0, 7, 71, 0, 0, 7, 139, 0, 0, 7, 207, 0, 0, 8, 43, 0, 0, 8, 99, 0, 0, 8, 155, 0, 0, 8, 168, 0, 0, 8, 236, 0, 0, 9, 36, 0, 0, 9, 92, 0, 0, 9, 160, 0, 0, 9, 216, 0, 0, 10, 16, 0, 0, 10, 100, 0, 0, 10, 168, 0, 0, 10, 224, 0, 0, 11, 24, 0, 0, 11, 80, 0, 0, 11, 93, 0, 0, 11, 173, 0, 0, 11, 186, 0, 0, 11, 254, 0, 0, 12, 78, 0, 0, 12, 146, 0, 0, 12, 242, 0, 0, 13, 66, 0, 0, 13, 122, 0, 0, 13, 178, 0, 0, 14, 18, 0, 0, 14, 98, 0, 0, 14, 166, 0, 0, 14, 179, 0, 0, 14, 192, 0, 0, 14, 205, 0, 0, 15, 17, 0, 0, 15, 85, 0, 0, 15, 98, 0, 0, 15, 111, 0, 0, 15, 191, 0, 0, 16, 3, 0, 0, 16, 71, 0, 0, 16, 84, 0, 0, 16, 97]
abbrev dktL_law_2 : List UInt8 := dkwL_law_2 ++ dktL_law_3
def dkwL_law_1 : List UInt8 := [21, 4, 42, 190, 16, 6, 100, 163, 16, 138, 42, 21, 4, 46, 16, 127, 126]
abbrev dktL_law_1 : List UInt8 := dkwL_law_1 ++ dktL_law_2
def dkwL_law_0 : List UInt8 := [187, 0, 8, 89, 183, 0, 179, 76, 187, 0, 180, 89, 183, 0, 182, 77, 4, 188, 11, 78, 3, 54, 4]
abbrev dktL_law_0 : List UInt8 := dkwL_law_0 ++ dktL_law_1
theorem dksL_law_0 : cL_law.data.toList.drop 0 = dktL_law_0 := by decide +kernel
theorem dksL_law_1 : cL_law.data.toList.drop 23 = dktL_law_1 := dk_seg dksL_law_0 23 rfl rfl
theorem dksL_law_2 : cL_law.data.toList.drop 40 = dktL_law_2 := dk_seg dksL_law_1 17 rfl rfl
theorem dksL_law_3 : cL_law.data.toList.drop 320 = dktL_law_3 := dk_seg dksL_law_2 280 rfl rfl
theorem dksL_law_4 : cL_law.data.toList.drop 344 = dktL_law_4 := dk_seg dksL_law_3 24 rfl rfl
theorem dksL_law_5 : cL_law.data.toList.drop 368 = dktL_law_5 := dk_seg dksL_law_4 24 rfl rfl
theorem dksL_law_6 : cL_law.data.toList.drop 392 = dktL_law_6 := dk_seg dksL_law_5 24 rfl rfl
theorem dksL_law_7 : cL_law.data.toList.drop 416 = dktL_law_7 := dk_seg dksL_law_6 24 rfl rfl
theorem dksL_law_8 : cL_law.data.toList.drop 440 = dktL_law_8 := dk_seg dksL_law_7 24 rfl rfl
theorem dksL_law_9 : cL_law.data.toList.drop 463 = dktL_law_9 := dk_seg dksL_law_8 23 rfl rfl
theorem dksL_law_10 : cL_law.data.toList.drop 487 = dktL_law_10 := dk_seg dksL_law_9 24 rfl rfl
theorem dksL_law_11 : cL_law.data.toList.drop 509 = dktL_law_11 := dk_seg dksL_law_10 22 rfl rfl
theorem dksL_law_12 : cL_law.data.toList.drop 532 = dktL_law_12 := dk_seg dksL_law_11 23 rfl rfl
theorem dksL_law_13 : cL_law.data.toList.drop 556 = dktL_law_13 := dk_seg dksL_law_12 24 rfl rfl
theorem dksL_law_14 : cL_law.data.toList.drop 580 = dktL_law_14 := dk_seg dksL_law_13 24 rfl rfl
theorem dksL_law_15 : cL_law.data.toList.drop 604 = dktL_law_15 := dk_seg dksL_law_14 24 rfl rfl
theorem dksL_law_16 : cL_law.data.toList.drop 628 = dktL_law_16 := dk_seg dksL_law_15 24 rfl rfl
theorem dksL_law_17 : cL_law.data.toList.drop 651 = dktL_law_17 := dk_seg dksL_law_16 23 rfl rfl
theorem dksL_law_18 : cL_law.data.toList.drop 675 = dktL_law_18 := dk_seg dksL_law_17 24 rfl rfl
theorem dksL_law_19 : cL_law.data.toList.drop 698 = dktL_law_19 := dk_seg dksL_law_18 23 rfl rfl
theorem dksL_law_20 : cL_law.data.toList.drop 721 = dktL_law_20 := dk_seg dksL_law_19 23 rfl rfl
theorem dksL_law_21 : cL_law.data.toList.drop 745 = dktL_law_21 := dk_seg dksL_law_20 24 rfl rfl
theorem dksL_law_22 : cL_law.data.toList.drop 768 = dktL_law_22 := dk_seg dksL_law_21 23 rfl rfl
theorem dksL_law_23 : cL_law.data.toList.drop 790 = dktL_law_23 := dk_seg dksL_law_22 22 rfl rfl
theorem dksL_law_24 : cL_law.data.toList.drop 814 = dktL_law_24 := dk_seg dksL_law_23 24 rfl rfl
theorem dksL_law_25 : cL_law.data.toList.drop 837 = dktL_law_25 := dk_seg dksL_law_24 23 rfl rfl
theorem dksL_law_26 : cL_law.data.toList.drop 860 = dktL_law_26 := dk_seg dksL_law_25 23 rfl rfl
theorem dksL_law_27 : cL_law.data.toList.drop 884 = dktL_law_27 := dk_seg dksL_law_26 24 rfl rfl
theorem dksL_law_28 : cL_law.data.toList.drop 908 = dktL_law_28 := dk_seg dksL_law_27 24 rfl rfl
theorem dksL_law_29 : cL_law.data.toList.drop 931 = dktL_law_29 := dk_seg dksL_law_28 23 rfl rfl
theorem dksL_law_30 : cL_law.data.toList.drop 955 = dktL_law_30 := dk_seg dksL_law_29 24 rfl rfl
theorem dksL_law_31 : cL_law.data.toList.drop 979 = dktL_law_31 := dk_seg dksL_law_30 24 rfl rfl
theorem dksL_law_32 : cL_law.data.toList.drop 1001 = dktL_law_32 := dk_seg dksL_law_31 22 rfl rfl
theorem dksL_law_33 : cL_law.data.toList.drop 1023 = dktL_law_33 := dk_seg dksL_law_32 22 rfl rfl
theorem dksL_law_34 : cL_law.data.toList.drop 1046 = dktL_law_34 := dk_seg dksL_law_33 23 rfl rfl
theorem dksL_law_35 : cL_law.data.toList.drop 1070 = dktL_law_35 := dk_seg dksL_law_34 24 rfl rfl
theorem dksL_law_36 : cL_law.data.toList.drop 1094 = dktL_law_36 := dk_seg dksL_law_35 24 rfl rfl
theorem dksL_law_37 : cL_law.data.toList.drop 1118 = dktL_law_37 := dk_seg dksL_law_36 24 rfl rfl
theorem dksL_law_38 : cL_law.data.toList.drop 1142 = dktL_law_38 := dk_seg dksL_law_37 24 rfl rfl
theorem dksL_law_39 : cL_law.data.toList.drop 1166 = dktL_law_39 := dk_seg dksL_law_38 24 rfl rfl
theorem dksL_law_40 : cL_law.data.toList.drop 1190 = dktL_law_40 := dk_seg dksL_law_39 24 rfl rfl
theorem dksL_law_41 : cL_law.data.toList.drop 1213 = dktL_law_41 := dk_seg dksL_law_40 23 rfl rfl
theorem dksL_law_42 : cL_law.data.toList.drop 1237 = dktL_law_42 := dk_seg dksL_law_41 24 rfl rfl
theorem dksL_law_43 : cL_law.data.toList.drop 1261 = dktL_law_43 := dk_seg dksL_law_42 24 rfl rfl
theorem dksL_law_44 : cL_law.data.toList.drop 1285 = dktL_law_44 := dk_seg dksL_law_43 24 rfl rfl
theorem dksL_law_45 : cL_law.data.toList.drop 1309 = dktL_law_45 := dk_seg dksL_law_44 24 rfl rfl
theorem dksL_law_46 : cL_law.data.toList.drop 1333 = dktL_law_46 := dk_seg dksL_law_45 24 rfl rfl
theorem dksL_law_47 : cL_law.data.toList.drop 1357 = dktL_law_47 := dk_seg dksL_law_46 24 rfl rfl
theorem dksL_law_48 : cL_law.data.toList.drop 1380 = dktL_law_48 := dk_seg dksL_law_47 23 rfl rfl
theorem dksL_law_49 : cL_law.data.toList.drop 1403 = dktL_law_49 := dk_seg dksL_law_48 23 rfl rfl
theorem dksL_law_50 : cL_law.data.toList.drop 1425 = dktL_law_50 := dk_seg dksL_law_49 22 rfl rfl
theorem dksL_law_51 : cL_law.data.toList.drop 1447 = dktL_law_51 := dk_seg dksL_law_50 22 rfl rfl
theorem dksL_law_52 : cL_law.data.toList.drop 1471 = dktL_law_52 := dk_seg dksL_law_51 24 rfl rfl
theorem dksL_law_53 : cL_law.data.toList.drop 1493 = dktL_law_53 := dk_seg dksL_law_52 22 rfl rfl
theorem dksL_law_54 : cL_law.data.toList.drop 1517 = dktL_law_54 := dk_seg dksL_law_53 24 rfl rfl
theorem dksL_law_55 : cL_law.data.toList.drop 1540 = dktL_law_55 := dk_seg dksL_law_54 23 rfl rfl
theorem dksL_law_56 : cL_law.data.toList.drop 1563 = dktL_law_56 := dk_seg dksL_law_55 23 rfl rfl
theorem dksL_law_57 : cL_law.data.toList.drop 1587 = dktL_law_57 := dk_seg dksL_law_56 24 rfl rfl
theorem dksL_law_58 : cL_law.data.toList.drop 1611 = dktL_law_58 := dk_seg dksL_law_57 24 rfl rfl
theorem dksL_law_59 : cL_law.data.toList.drop 1635 = dktL_law_59 := dk_seg dksL_law_58 24 rfl rfl
theorem dksL_law_60 : cL_law.data.toList.drop 1659 = dktL_law_60 := dk_seg dksL_law_59 24 rfl rfl
theorem dksL_law_61 : cL_law.data.toList.drop 1682 = dktL_law_61 := dk_seg dksL_law_60 23 rfl rfl
theorem dksL_law_62 : cL_law.data.toList.drop 1704 = dktL_law_62 := dk_seg dksL_law_61 22 rfl rfl
theorem dksL_law_63 : cL_law.data.toList.drop 1726 = dktL_law_63 := dk_seg dksL_law_62 22 rfl rfl
theorem dksL_law_64 : cL_law.data.toList.drop 1750 = dktL_law_64 := dk_seg dksL_law_63 24 rfl rfl
theorem dksL_law_65 : cL_law.data.toList.drop 1772 = dktL_law_65 := dk_seg dksL_law_64 22 rfl rfl
theorem dksL_law_66 : cL_law.data.toList.drop 1794 = dktL_law_66 := dk_seg dksL_law_65 22 rfl rfl
theorem dksL_law_67 : cL_law.data.toList.drop 1817 = dktL_law_67 := dk_seg dksL_law_66 23 rfl rfl
theorem dksL_law_68 : cL_law.data.toList.drop 1841 = dktL_law_68 := dk_seg dksL_law_67 24 rfl rfl
theorem dksL_law_69 : cL_law.data.toList.drop 1865 = dktL_law_69 := dk_seg dksL_law_68 24 rfl rfl
theorem dksL_law_70 : cL_law.data.toList.drop 1889 = dktL_law_70 := dk_seg dksL_law_69 24 rfl rfl
theorem dksL_law_71 : cL_law.data.toList.drop 1913 = dktL_law_71 := dk_seg dksL_law_70 24 rfl rfl
theorem dksL_law_72 : cL_law.data.toList.drop 1935 = dktL_law_72 := dk_seg dksL_law_71 22 rfl rfl
theorem dksL_law_73 : cL_law.data.toList.drop 1959 = dktL_law_73 := dk_seg dksL_law_72 24 rfl rfl
theorem dksL_law_74 : cL_law.data.toList.drop 1983 = dktL_law_74 := dk_seg dksL_law_73 24 rfl rfl
theorem dksL_law_75 : cL_law.data.toList.drop 2006 = dktL_law_75 := dk_seg dksL_law_74 23 rfl rfl
theorem dksL_law_76 : cL_law.data.toList.drop 2030 = dktL_law_76 := dk_seg dksL_law_75 24 rfl rfl
theorem dksL_law_77 : cL_law.data.toList.drop 2053 = dktL_law_77 := dk_seg dksL_law_76 23 rfl rfl
theorem dksL_law_78 : cL_law.data.toList.drop 2077 = dktL_law_78 := dk_seg dksL_law_77 24 rfl rfl
theorem dksL_law_79 : cL_law.data.toList.drop 2101 = dktL_law_79 := dk_seg dksL_law_78 24 rfl rfl
theorem dksL_law_80 : cL_law.data.toList.drop 2123 = dktL_law_80 := dk_seg dksL_law_79 22 rfl rfl
theorem dksL_law_81 : cL_law.data.toList.drop 2146 = dktL_law_81 := dk_seg dksL_law_80 23 rfl rfl
theorem dksL_law_82 : cL_law.data.toList.drop 2169 = dktL_law_82 := dk_seg dksL_law_81 23 rfl rfl
theorem dksL_law_83 : cL_law.data.toList.drop 2193 = dktL_law_83 := dk_seg dksL_law_82 24 rfl rfl
theorem dksL_law_84 : cL_law.data.toList.drop 2216 = dktL_law_84 := dk_seg dksL_law_83 23 rfl rfl
theorem dksL_law_85 : cL_law.data.toList.drop 2240 = dktL_law_85 := dk_seg dksL_law_84 24 rfl rfl
theorem dksL_law_86 : cL_law.data.toList.drop 2264 = dktL_law_86 := dk_seg dksL_law_85 24 rfl rfl
theorem dksL_law_87 : cL_law.data.toList.drop 2288 = dktL_law_87 := dk_seg dksL_law_86 24 rfl rfl
theorem dksL_law_88 : cL_law.data.toList.drop 2312 = dktL_law_88 := dk_seg dksL_law_87 24 rfl rfl
theorem dksL_law_89 : cL_law.data.toList.drop 2335 = dktL_law_89 := dk_seg dksL_law_88 23 rfl rfl
theorem dksL_law_90 : cL_law.data.toList.drop 2359 = dktL_law_90 := dk_seg dksL_law_89 24 rfl rfl
theorem dksL_law_91 : cL_law.data.toList.drop 2382 = dktL_law_91 := dk_seg dksL_law_90 23 rfl rfl
theorem dksL_law_92 : cL_law.data.toList.drop 2406 = dktL_law_92 := dk_seg dksL_law_91 24 rfl rfl
theorem dksL_law_93 : cL_law.data.toList.drop 2428 = dktL_law_93 := dk_seg dksL_law_92 22 rfl rfl
theorem dksL_law_94 : cL_law.data.toList.drop 2450 = dktL_law_94 := dk_seg dksL_law_93 22 rfl rfl
theorem dksL_law_95 : cL_law.data.toList.drop 2474 = dktL_law_95 := dk_seg dksL_law_94 24 rfl rfl
theorem dksL_law_96 : cL_law.data.toList.drop 2496 = dktL_law_96 := dk_seg dksL_law_95 22 rfl rfl
theorem dksL_law_97 : cL_law.data.toList.drop 2519 = dktL_law_97 := dk_seg dksL_law_96 23 rfl rfl
theorem dksL_law_98 : cL_law.data.toList.drop 2542 = dktL_law_98 := dk_seg dksL_law_97 23 rfl rfl
theorem dksL_law_99 : cL_law.data.toList.drop 2566 = dktL_law_99 := dk_seg dksL_law_98 24 rfl rfl
theorem dksL_law_100 : cL_law.data.toList.drop 2589 = dktL_law_100 := dk_seg dksL_law_99 23 rfl rfl
theorem dksL_law_101 : cL_law.data.toList.drop 2613 = dktL_law_101 := dk_seg dksL_law_100 24 rfl rfl
theorem dksL_law_102 : cL_law.data.toList.drop 2637 = dktL_law_102 := dk_seg dksL_law_101 24 rfl rfl
theorem dksL_law_103 : cL_law.data.toList.drop 2660 = dktL_law_103 := dk_seg dksL_law_102 23 rfl rfl
theorem dksL_law_104 : cL_law.data.toList.drop 2682 = dktL_law_104 := dk_seg dksL_law_103 22 rfl rfl
theorem dksL_law_105 : cL_law.data.toList.drop 2706 = dktL_law_105 := dk_seg dksL_law_104 24 rfl rfl
theorem dksL_law_106 : cL_law.data.toList.drop 2730 = dktL_law_106 := dk_seg dksL_law_105 24 rfl rfl
theorem dksL_law_107 : cL_law.data.toList.drop 2754 = dktL_law_107 := dk_seg dksL_law_106 24 rfl rfl
theorem dksL_law_108 : cL_law.data.toList.drop 2776 = dktL_law_108 := dk_seg dksL_law_107 22 rfl rfl
theorem dksL_law_109 : cL_law.data.toList.drop 2799 = dktL_law_109 := dk_seg dksL_law_108 23 rfl rfl
theorem dksL_law_110 : cL_law.data.toList.drop 2821 = dktL_law_110 := dk_seg dksL_law_109 22 rfl rfl
theorem dksL_law_111 : cL_law.data.toList.drop 2844 = dktL_law_111 := dk_seg dksL_law_110 23 rfl rfl
theorem dksL_law_112 : cL_law.data.toList.drop 2868 = dktL_law_112 := dk_seg dksL_law_111 24 rfl rfl
theorem dksL_law_113 : cL_law.data.toList.drop 2891 = dktL_law_113 := dk_seg dksL_law_112 23 rfl rfl
theorem dksL_law_114 : cL_law.data.toList.drop 2915 = dktL_law_114 := dk_seg dksL_law_113 24 rfl rfl
theorem dksL_law_115 : cL_law.data.toList.drop 2937 = dktL_law_115 := dk_seg dksL_law_114 22 rfl rfl
theorem dksL_law_116 : cL_law.data.toList.drop 2961 = dktL_law_116 := dk_seg dksL_law_115 24 rfl rfl
theorem dksL_law_117 : cL_law.data.toList.drop 2985 = dktL_law_117 := dk_seg dksL_law_116 24 rfl rfl
theorem dksL_law_118 : cL_law.data.toList.drop 3009 = dktL_law_118 := dk_seg dksL_law_117 24 rfl rfl
theorem dksL_law_119 : cL_law.data.toList.drop 3033 = dktL_law_119 := dk_seg dksL_law_118 24 rfl rfl
theorem dksL_law_120 : cL_law.data.toList.drop 3056 = dktL_law_120 := dk_seg dksL_law_119 23 rfl rfl
theorem dksL_law_121 : cL_law.data.toList.drop 3080 = dktL_law_121 := dk_seg dksL_law_120 24 rfl rfl
theorem dksL_law_122 : cL_law.data.toList.drop 3102 = dktL_law_122 := dk_seg dksL_law_121 22 rfl rfl
theorem dksL_law_123 : cL_law.data.toList.drop 3126 = dktL_law_123 := dk_seg dksL_law_122 24 rfl rfl
theorem dksL_law_124 : cL_law.data.toList.drop 3149 = dktL_law_124 := dk_seg dksL_law_123 23 rfl rfl
theorem dksL_law_125 : cL_law.data.toList.drop 3172 = dktL_law_125 := dk_seg dksL_law_124 23 rfl rfl
theorem dksL_law_126 : cL_law.data.toList.drop 3196 = dktL_law_126 := dk_seg dksL_law_125 24 rfl rfl
theorem dksL_law_127 : cL_law.data.toList.drop 3220 = dktL_law_127 := dk_seg dksL_law_126 24 rfl rfl
theorem dksL_law_128 : cL_law.data.toList.drop 3244 = dktL_law_128 := dk_seg dksL_law_127 24 rfl rfl
theorem dksL_law_129 : cL_law.data.toList.drop 3268 = dktL_law_129 := dk_seg dksL_law_128 24 rfl rfl
theorem dksL_law_130 : cL_law.data.toList.drop 3292 = dktL_law_130 := dk_seg dksL_law_129 24 rfl rfl
theorem dksL_law_131 : cL_law.data.toList.drop 3314 = dktL_law_131 := dk_seg dksL_law_130 22 rfl rfl
theorem dksL_law_132 : cL_law.data.toList.drop 3336 = dktL_law_132 := dk_seg dksL_law_131 22 rfl rfl
theorem dksL_law_133 : cL_law.data.toList.drop 3360 = dktL_law_133 := dk_seg dksL_law_132 24 rfl rfl
theorem dksL_law_134 : cL_law.data.toList.drop 3384 = dktL_law_134 := dk_seg dksL_law_133 24 rfl rfl
theorem dksL_law_135 : cL_law.data.toList.drop 3407 = dktL_law_135 := dk_seg dksL_law_134 23 rfl rfl
theorem dksL_law_136 : cL_law.data.toList.drop 3431 = dktL_law_136 := dk_seg dksL_law_135 24 rfl rfl
theorem dksL_law_137 : cL_law.data.toList.drop 3454 = dktL_law_137 := dk_seg dksL_law_136 23 rfl rfl
theorem dksL_law_138 : cL_law.data.toList.drop 3478 = dktL_law_138 := dk_seg dksL_law_137 24 rfl rfl
theorem dksL_law_139 : cL_law.data.toList.drop 3501 = dktL_law_139 := dk_seg dksL_law_138 23 rfl rfl
theorem dksL_law_140 : cL_law.data.toList.drop 3525 = dktL_law_140 := dk_seg dksL_law_139 24 rfl rfl
theorem dksL_law_141 : cL_law.data.toList.drop 3548 = dktL_law_141 := dk_seg dksL_law_140 23 rfl rfl
theorem dksL_law_142 : cL_law.data.toList.drop 3572 = dktL_law_142 := dk_seg dksL_law_141 24 rfl rfl
theorem dksL_law_143 : cL_law.data.toList.drop 3596 = dktL_law_143 := dk_seg dksL_law_142 24 rfl rfl
theorem dksL_law_144 : cL_law.data.toList.drop 3620 = dktL_law_144 := dk_seg dksL_law_143 24 rfl rfl
theorem dksL_law_145 : cL_law.data.toList.drop 3644 = dktL_law_145 := dk_seg dksL_law_144 24 rfl rfl
theorem dksL_law_146 : cL_law.data.toList.drop 3668 = dktL_law_146 := dk_seg dksL_law_145 24 rfl rfl
theorem dksL_law_147 : cL_law.data.toList.drop 3692 = dktL_law_147 := dk_seg dksL_law_146 24 rfl rfl
theorem dksL_law_148 : cL_law.data.toList.drop 3714 = dktL_law_148 := dk_seg dksL_law_147 22 rfl rfl
theorem dksL_law_149 : cL_law.data.toList.drop 3736 = dktL_law_149 := dk_seg dksL_law_148 22 rfl rfl
theorem dksL_law_150 : cL_law.data.toList.drop 3760 = dktL_law_150 := dk_seg dksL_law_149 24 rfl rfl
theorem dksL_law_151 : cL_law.data.toList.drop 3782 = dktL_law_151 := dk_seg dksL_law_150 22 rfl rfl
theorem dksL_law_152 : cL_law.data.toList.drop 3804 = dktL_law_152 := dk_seg dksL_law_151 22 rfl rfl
theorem dksL_law_153 : cL_law.data.toList.drop 3828 = dktL_law_153 := dk_seg dksL_law_152 24 rfl rfl
theorem dksL_law_154 : cL_law.data.toList.drop 3852 = dktL_law_154 := dk_seg dksL_law_153 24 rfl rfl
theorem dksL_law_155 : cL_law.data.toList.drop 3876 = dktL_law_155 := dk_seg dksL_law_154 24 rfl rfl
theorem dksL_law_156 : cL_law.data.toList.drop 3899 = dktL_law_156 := dk_seg dksL_law_155 23 rfl rfl
theorem dksL_law_157 : cL_law.data.toList.drop 3923 = dktL_law_157 := dk_seg dksL_law_156 24 rfl rfl
theorem dksL_law_158 : cL_law.data.toList.drop 3947 = dktL_law_158 := dk_seg dksL_law_157 24 rfl rfl
theorem dksL_law_159 : cL_law.data.toList.drop 3970 = dktL_law_159 := dk_seg dksL_law_158 23 rfl rfl
theorem dksL_law_160 : cL_law.data.toList.drop 3993 = dktL_law_160 := dk_seg dksL_law_159 23 rfl rfl
theorem dksL_law_161 : cL_law.data.toList.drop 4017 = dktL_law_161 := dk_seg dksL_law_160 24 rfl rfl
theorem dksL_law_162 : cL_law.data.toList.drop 4041 = dktL_law_162 := dk_seg dksL_law_161 24 rfl rfl
theorem dksL_law_163 : cL_law.data.toList.drop 4063 = dktL_law_163 := dk_seg dksL_law_162 22 rfl rfl
theorem dksL_law_164 : cL_law.data.toList.drop 4085 = dktL_law_164 := dk_seg dksL_law_163 22 rfl rfl
theorem dksL_law_165 : cL_law.data.toList.drop 4109 = dktL_law_165 := dk_seg dksL_law_164 24 rfl rfl
theorem dksL_law_166 : cL_law.data.toList.drop 4131 = dktL_law_166 := dk_seg dksL_law_165 22 rfl rfl
theorem dksL_law_167 : cL_law.data.toList.drop 4153 = dktL_law_167 := dk_seg dksL_law_166 22 rfl rfl
theorem dksL_law_168 : cL_law.data.toList.drop 4177 = dktL_law_168 := dk_seg dksL_law_167 24 rfl rfl
theorem dksL_law_169 : cL_law.data.toList.drop 4199 = dktL_law_169 := dk_seg dksL_law_168 22 rfl rfl
theorem dksL_law_170 : cL_law.data.toList.drop 4221 = dktL_law_170 := dk_seg dksL_law_169 22 rfl rfl
theorem dksL_law_171 : cL_law.data.toList.drop 4245 = dktL_law_171 := dk_seg dksL_law_170 24 rfl rfl
theorem dL_law_0 : decode cL_law 0 = .ok (.new 8, 3) := dk_187 0 8 (dk_at dksL_law_0 0 rfl rfl)
theorem dL_law_3 : decode cL_law 3 = .ok (.dup, 1) := dk_89 (dk_at dksL_law_0 3 rfl rfl)
theorem dL_law_4 : decode cL_law 4 = .ok (.invokespecial 179, 3) := dk_183 0 179 (dk_at dksL_law_0 4 rfl rfl)
theorem dL_law_7 : decode cL_law 7 = .ok (.astore_n 1, 1) := dk_76 (dk_at dksL_law_0 7 rfl rfl)
theorem dL_law_8 : decode cL_law 8 = .ok (.new 180, 3) := dk_187 0 180 (dk_at dksL_law_0 8 rfl rfl)
theorem dL_law_11 : decode cL_law 11 = .ok (.dup, 1) := dk_89 (dk_at dksL_law_0 11 rfl rfl)
theorem dL_law_12 : decode cL_law 12 = .ok (.invokespecial 182, 3) := dk_183 0 182 (dk_at dksL_law_0 12 rfl rfl)
theorem dL_law_15 : decode cL_law 15 = .ok (.astore_n 2, 1) := dk_77 (dk_at dksL_law_0 15 rfl rfl)
theorem dL_law_16 : decode cL_law 16 = .ok (.iconst 1, 1) := dk_4 (dk_at dksL_law_0 16 rfl rfl)
theorem dL_law_17 : decode cL_law 17 = .ok (.newarray .long, 2) := dk_188_11 (dk_at dksL_law_0 17 rfl rfl)
theorem dL_law_19 : decode cL_law 19 = .ok (.astore_n 3, 1) := dk_78 (dk_at dksL_law_0 19 rfl rfl)
theorem dL_law_20 : decode cL_law 20 = .ok (.iconst 0, 1) := dk_3 (dk_at dksL_law_0 20 rfl rfl)
theorem dL_law_21 : decode cL_law 21 = .ok (.istore 4, 2) := dk_54 4 (dk_at dksL_law_0 21 rfl rfl)
theorem dL_law_23 : decode cL_law 23 = .ok (.iload 4, 2) := dk_21 4 (dk_at dksL_law_1 0 rfl rfl)
theorem dL_law_25 : decode cL_law 25 = .ok (.aload_n 0, 1) := dk_42 (dk_at dksL_law_1 2 rfl rfl)
theorem dL_law_26 : decode cL_law 26 = .ok (.arraylength, 1) := dk_190 (dk_at dksL_law_1 3 rfl rfl)
theorem dL_law_27 : decode cL_law 27 = .ok (.bipush 6, 2) := dk_16 6 (dk_at dksL_law_1 4 rfl rfl)
theorem dL_law_29 : decode cL_law 29 = .ok (.isub, 1) := dk_100 (dk_at dksL_law_1 6 rfl rfl)
theorem dL_law_30 : decode cL_law 30 = .ok (.if_icmp .gt 4234, 3) := dk_163 16 138 (dk_at dksL_law_1 7 rfl rfl)
theorem dL_law_33 : decode cL_law 33 = .ok (.aload_n 0, 1) := dk_42 (dk_at dksL_law_1 10 rfl rfl)
theorem dL_law_34 : decode cL_law 34 = .ok (.iload 4, 2) := dk_21 4 (dk_at dksL_law_1 11 rfl rfl)
theorem dL_law_36 : decode cL_law 36 = .ok (.iaload, 1) := dk_46 (dk_at dksL_law_1 13 rfl rfl)
theorem dL_law_37 : decode cL_law 37 = .ok (.bipush 127, 2) := dk_16 127 (dk_at dksL_law_1 14 rfl rfl)
theorem dL_law_39 : decode cL_law 39 = .ok (.iand, 1) := dk_126 (dk_at dksL_law_1 16 rfl rfl)
theorem dL_law_40 : decode cL_law 40 = .ok (.tableswitch 4218 0 65 #[280, 353, 421, 477, 490, 582, 638, 758, 838, 918, 986, 1066, 1153, 1233, 1313, 1393, 1461, 1541, 1609, 1689, 1757, 1770, 1795, 1863, 1931, 1999, 2091, 2147, 2203, 2216, 2284, 2340, 2396, 2464, 2520, 2576, 2660, 2728, 2784, 2840, 2896, 2909, 2989, 3002, 3070, 3150, 3218, 3314, 3394, 3450, 3506, 3602, 3682, 3750, 3763, 3776, 3789, 3857, 3925, 3938, 3951, 4031, 4099, 4167, 4180, 4193], 280) := by decide +kernel
theorem dL_law_320 : decode cL_law 320 = .ok (.aload_n 1, 1) := dk_43 (dk_at dksL_law_3 0 rfl rfl)
theorem dL_law_321 : decode cL_law 321 = .ok (.aload_n 0, 1) := dk_42 (dk_at dksL_law_3 1 rfl rfl)
theorem dL_law_322 : decode cL_law 322 = .ok (.iload 4, 2) := dk_21 4 (dk_at dksL_law_3 2 rfl rfl)
theorem dL_law_324 : decode cL_law 324 = .ok (.iconst 1, 1) := dk_4 (dk_at dksL_law_3 4 rfl rfl)
theorem dL_law_325 : decode cL_law 325 = .ok (.iadd, 1) := dk_96 (dk_at dksL_law_3 5 rfl rfl)
theorem dL_law_326 : decode cL_law 326 = .ok (.iaload, 1) := dk_46 (dk_at dksL_law_3 6 rfl rfl)
theorem dL_law_327 : decode cL_law 327 = .ok (.aload_n 0, 1) := dk_42 (dk_at dksL_law_3 7 rfl rfl)
theorem dL_law_328 : decode cL_law 328 = .ok (.iload 4, 2) := dk_21 4 (dk_at dksL_law_3 8 rfl rfl)
theorem dL_law_330 : decode cL_law 330 = .ok (.iconst 2, 1) := dk_5 (dk_at dksL_law_3 10 rfl rfl)
theorem dL_law_331 : decode cL_law 331 = .ok (.iadd, 1) := dk_96 (dk_at dksL_law_3 11 rfl rfl)
theorem dL_law_332 : decode cL_law 332 = .ok (.iaload, 1) := dk_46 (dk_at dksL_law_3 12 rfl rfl)
theorem dL_law_333 : decode cL_law 333 = .ok (.aload_n 0, 1) := dk_42 (dk_at dksL_law_3 13 rfl rfl)
theorem dL_law_334 : decode cL_law 334 = .ok (.iload 4, 2) := dk_21 4 (dk_at dksL_law_3 14 rfl rfl)
theorem dL_law_336 : decode cL_law 336 = .ok (.iconst 3, 1) := dk_6 (dk_at dksL_law_3 16 rfl rfl)
theorem dL_law_337 : decode cL_law 337 = .ok (.iadd, 1) := dk_96 (dk_at dksL_law_3 17 rfl rfl)
theorem dL_law_338 : decode cL_law 338 = .ok (.iaload, 1) := dk_46 (dk_at dksL_law_3 18 rfl rfl)
theorem dL_law_339 : decode cL_law 339 = .ok (.aload_n 0, 1) := dk_42 (dk_at dksL_law_3 19 rfl rfl)
theorem dL_law_340 : decode cL_law 340 = .ok (.iload 4, 2) := dk_21 4 (dk_at dksL_law_3 20 rfl rfl)
theorem dL_law_342 : decode cL_law 342 = .ok (.iconst 4, 1) := dk_7 (dk_at dksL_law_3 22 rfl rfl)
theorem dL_law_343 : decode cL_law 343 = .ok (.iadd, 1) := dk_96 (dk_at dksL_law_3 23 rfl rfl)
theorem dL_law_344 : decode cL_law 344 = .ok (.iaload, 1) := dk_46 (dk_at dksL_law_4 0 rfl rfl)
theorem dL_law_345 : decode cL_law 345 = .ok (.aload_n 0, 1) := dk_42 (dk_at dksL_law_4 1 rfl rfl)
theorem dL_law_346 : decode cL_law 346 = .ok (.iload 4, 2) := dk_21 4 (dk_at dksL_law_4 2 rfl rfl)
theorem dL_law_348 : decode cL_law 348 = .ok (.iconst 5, 1) := dk_8 (dk_at dksL_law_4 4 rfl rfl)
theorem dL_law_349 : decode cL_law 349 = .ok (.iadd, 1) := dk_96 (dk_at dksL_law_4 5 rfl rfl)
theorem dL_law_350 : decode cL_law 350 = .ok (.iaload, 1) := dk_46 (dk_at dksL_law_4 6 rfl rfl)
theorem dL_law_351 : decode cL_law 351 = .ok (.invokevirtual 183, 3) := dk_182 0 183 (dk_at dksL_law_4 7 rfl rfl)
theorem dL_law_354 : decode cL_law 354 = .ok (.aload_n 2, 1) := dk_44 (dk_at dksL_law_4 10 rfl rfl)
theorem dL_law_355 : decode cL_law 355 = .ok (.aload_n 0, 1) := dk_42 (dk_at dksL_law_4 11 rfl rfl)
theorem dL_law_356 : decode cL_law 356 = .ok (.iload 4, 2) := dk_21 4 (dk_at dksL_law_4 12 rfl rfl)
theorem dL_law_358 : decode cL_law 358 = .ok (.iconst 1, 1) := dk_4 (dk_at dksL_law_4 14 rfl rfl)
theorem dL_law_359 : decode cL_law 359 = .ok (.iadd, 1) := dk_96 (dk_at dksL_law_4 15 rfl rfl)
theorem dL_law_360 : decode cL_law 360 = .ok (.iaload, 1) := dk_46 (dk_at dksL_law_4 16 rfl rfl)
theorem dL_law_361 : decode cL_law 361 = .ok (.aload_n 0, 1) := dk_42 (dk_at dksL_law_4 17 rfl rfl)
theorem dL_law_362 : decode cL_law 362 = .ok (.iload 4, 2) := dk_21 4 (dk_at dksL_law_4 18 rfl rfl)
theorem dL_law_364 : decode cL_law 364 = .ok (.iconst 2, 1) := dk_5 (dk_at dksL_law_4 20 rfl rfl)
theorem dL_law_365 : decode cL_law 365 = .ok (.iadd, 1) := dk_96 (dk_at dksL_law_4 21 rfl rfl)
theorem dL_law_366 : decode cL_law 366 = .ok (.iaload, 1) := dk_46 (dk_at dksL_law_4 22 rfl rfl)
theorem dL_law_367 : decode cL_law 367 = .ok (.aload_n 0, 1) := dk_42 (dk_at dksL_law_4 23 rfl rfl)
theorem dL_law_368 : decode cL_law 368 = .ok (.iload 4, 2) := dk_21 4 (dk_at dksL_law_5 0 rfl rfl)
theorem dL_law_370 : decode cL_law 370 = .ok (.iconst 3, 1) := dk_6 (dk_at dksL_law_5 2 rfl rfl)
theorem dL_law_371 : decode cL_law 371 = .ok (.iadd, 1) := dk_96 (dk_at dksL_law_5 3 rfl rfl)
theorem dL_law_372 : decode cL_law 372 = .ok (.iaload, 1) := dk_46 (dk_at dksL_law_5 4 rfl rfl)
theorem dL_law_373 : decode cL_law 373 = .ok (.aload_n 0, 1) := dk_42 (dk_at dksL_law_5 5 rfl rfl)
theorem dL_law_374 : decode cL_law 374 = .ok (.iload 4, 2) := dk_21 4 (dk_at dksL_law_5 6 rfl rfl)
theorem dL_law_376 : decode cL_law 376 = .ok (.iconst 4, 1) := dk_7 (dk_at dksL_law_5 8 rfl rfl)
theorem dL_law_377 : decode cL_law 377 = .ok (.iadd, 1) := dk_96 (dk_at dksL_law_5 9 rfl rfl)
theorem dL_law_378 : decode cL_law 378 = .ok (.iaload, 1) := dk_46 (dk_at dksL_law_5 10 rfl rfl)
theorem dL_law_379 : decode cL_law 379 = .ok (.aload_n 0, 1) := dk_42 (dk_at dksL_law_5 11 rfl rfl)
theorem dL_law_380 : decode cL_law 380 = .ok (.iload 4, 2) := dk_21 4 (dk_at dksL_law_5 12 rfl rfl)
theorem dL_law_382 : decode cL_law 382 = .ok (.iconst 5, 1) := dk_8 (dk_at dksL_law_5 14 rfl rfl)
theorem dL_law_383 : decode cL_law 383 = .ok (.iadd, 1) := dk_96 (dk_at dksL_law_5 15 rfl rfl)
theorem dL_law_384 : decode cL_law 384 = .ok (.iaload, 1) := dk_46 (dk_at dksL_law_5 16 rfl rfl)
theorem dL_law_385 : decode cL_law 385 = .ok (.invokevirtual 187, 3) := dk_182 0 187 (dk_at dksL_law_5 17 rfl rfl)
theorem dL_law_388 : decode cL_law 388 = .ok (.if_icmp .eq 3870, 3) := dk_159 15 30 (dk_at dksL_law_5 20 rfl rfl)
theorem dL_law_391 : decode cL_law 391 = .ok (.iconst 0, 1) := dk_3 (dk_at dksL_law_5 23 rfl rfl)
theorem dL_law_392 : decode cL_law 392 = .ok (.ireturn, 1) := dk_172 (dk_at dksL_law_6 0 rfl rfl)
theorem dL_law_393 : decode cL_law 393 = .ok (.aload_n 1, 1) := dk_43 (dk_at dksL_law_6 1 rfl rfl)
theorem dL_law_394 : decode cL_law 394 = .ok (.aload_n 0, 1) := dk_42 (dk_at dksL_law_6 2 rfl rfl)
theorem dL_law_395 : decode cL_law 395 = .ok (.iload 4, 2) := dk_21 4 (dk_at dksL_law_6 3 rfl rfl)
theorem dL_law_397 : decode cL_law 397 = .ok (.iconst 1, 1) := dk_4 (dk_at dksL_law_6 5 rfl rfl)
theorem dL_law_398 : decode cL_law 398 = .ok (.iadd, 1) := dk_96 (dk_at dksL_law_6 6 rfl rfl)
theorem dL_law_399 : decode cL_law 399 = .ok (.iaload, 1) := dk_46 (dk_at dksL_law_6 7 rfl rfl)
theorem dL_law_400 : decode cL_law 400 = .ok (.aload_n 0, 1) := dk_42 (dk_at dksL_law_6 8 rfl rfl)
theorem dL_law_401 : decode cL_law 401 = .ok (.iload 4, 2) := dk_21 4 (dk_at dksL_law_6 9 rfl rfl)
theorem dL_law_403 : decode cL_law 403 = .ok (.iconst 2, 1) := dk_5 (dk_at dksL_law_6 11 rfl rfl)
theorem dL_law_404 : decode cL_law 404 = .ok (.iadd, 1) := dk_96 (dk_at dksL_law_6 12 rfl rfl)
theorem dL_law_405 : decode cL_law 405 = .ok (.iaload, 1) := dk_46 (dk_at dksL_law_6 13 rfl rfl)
theorem dL_law_406 : decode cL_law 406 = .ok (.aload_n 3, 1) := dk_45 (dk_at dksL_law_6 14 rfl rfl)
theorem dL_law_407 : decode cL_law 407 = .ok (.invokestatic 188, 3) := dk_184 0 188 (dk_at dksL_law_6 15 rfl rfl)
theorem dL_law_410 : decode cL_law 410 = .ok (.istore 5, 2) := dk_54 5 (dk_at dksL_law_6 18 rfl rfl)
theorem dL_law_412 : decode cL_law 412 = .ok (.aload_n 2, 1) := dk_44 (dk_at dksL_law_6 20 rfl rfl)
theorem dL_law_413 : decode cL_law 413 = .ok (.aload_n 0, 1) := dk_42 (dk_at dksL_law_6 21 rfl rfl)
theorem dL_law_414 : decode cL_law 414 = .ok (.iload 4, 2) := dk_21 4 (dk_at dksL_law_6 22 rfl rfl)
theorem dL_law_416 : decode cL_law 416 = .ok (.iconst 1, 1) := dk_4 (dk_at dksL_law_7 0 rfl rfl)
theorem dL_law_417 : decode cL_law 417 = .ok (.iadd, 1) := dk_96 (dk_at dksL_law_7 1 rfl rfl)
theorem dL_law_418 : decode cL_law 418 = .ok (.iaload, 1) := dk_46 (dk_at dksL_law_7 2 rfl rfl)
theorem dL_law_419 : decode cL_law 419 = .ok (.aload_n 0, 1) := dk_42 (dk_at dksL_law_7 3 rfl rfl)
theorem dL_law_420 : decode cL_law 420 = .ok (.iload 4, 2) := dk_21 4 (dk_at dksL_law_7 4 rfl rfl)
theorem dL_law_422 : decode cL_law 422 = .ok (.iconst 2, 1) := dk_5 (dk_at dksL_law_7 6 rfl rfl)
theorem dL_law_423 : decode cL_law 423 = .ok (.iadd, 1) := dk_96 (dk_at dksL_law_7 7 rfl rfl)
theorem dL_law_424 : decode cL_law 424 = .ok (.iaload, 1) := dk_46 (dk_at dksL_law_7 8 rfl rfl)
theorem dL_law_425 : decode cL_law 425 = .ok (.invokevirtual 193, 3) := dk_182 0 193 (dk_at dksL_law_7 9 rfl rfl)
theorem dL_law_428 : decode cL_law 428 = .ok (.istore 6, 2) := dk_54 6 (dk_at dksL_law_7 12 rfl rfl)
theorem dL_law_430 : decode cL_law 430 = .ok (.aload_n 2, 1) := dk_44 (dk_at dksL_law_7 14 rfl rfl)
theorem dL_law_431 : decode cL_law 431 = .ok (.invokevirtual 194, 3) := dk_182 0 194 (dk_at dksL_law_7 15 rfl rfl)
theorem dL_law_434 : decode cL_law 434 = .ok (.iload 5, 2) := dk_21 5 (dk_at dksL_law_7 18 rfl rfl)
theorem dL_law_436 : decode cL_law 436 = .ok (.if_icmp .eq 5, 3) := dk_159 0 5 (dk_at dksL_law_7 20 rfl rfl)
theorem dL_law_439 : decode cL_law 439 = .ok (.iconst 0, 1) := dk_3 (dk_at dksL_law_7 23 rfl rfl)
theorem dL_law_440 : decode cL_law 440 = .ok (.ireturn, 1) := dk_172 (dk_at dksL_law_8 0 rfl rfl)
theorem dL_law_441 : decode cL_law 441 = .ok (.iload 5, 2) := dk_21 5 (dk_at dksL_law_8 1 rfl rfl)
theorem dL_law_443 : decode cL_law 443 = .ok (.ifCond .ne 15, 3) := dk_154 0 15 (dk_at dksL_law_8 3 rfl rfl)
theorem dL_law_446 : decode cL_law 446 = .ok (.aload_n 3, 1) := dk_45 (dk_at dksL_law_8 6 rfl rfl)
theorem dL_law_447 : decode cL_law 447 = .ok (.iconst 0, 1) := dk_3 (dk_at dksL_law_8 7 rfl rfl)
theorem dL_law_448 : decode cL_law 448 = .ok (.laload, 1) := dk_47 (dk_at dksL_law_8 8 rfl rfl)
theorem dL_law_449 : decode cL_law 449 = .ok (.iload 6, 2) := dk_21 6 (dk_at dksL_law_8 9 rfl rfl)
theorem dL_law_451 : decode cL_law 451 = .ok (.i2l, 1) := dk_133 (dk_at dksL_law_8 11 rfl rfl)
theorem dL_law_452 : decode cL_law 452 = .ok (.lcmp, 1) := dk_148 (dk_at dksL_law_8 12 rfl rfl)
theorem dL_law_453 : decode cL_law 453 = .ok (.ifCond .eq 5, 3) := dk_153 0 5 (dk_at dksL_law_8 13 rfl rfl)
theorem dL_law_456 : decode cL_law 456 = .ok (.iconst 0, 1) := dk_3 (dk_at dksL_law_8 16 rfl rfl)
theorem dL_law_457 : decode cL_law 457 = .ok (.ireturn, 1) := dk_172 (dk_at dksL_law_8 17 rfl rfl)
theorem dL_law_458 : decode cL_law 458 = .ok (.goto 3800, 3) := dk_167 14 216 (dk_at dksL_law_8 18 rfl rfl)
theorem dL_law_461 : decode cL_law 461 = .ok (.aload_n 1, 1) := dk_43 (dk_at dksL_law_8 21 rfl rfl)
theorem dL_law_462 : decode cL_law 462 = .ok (.aload_n 0, 1) := dk_42 (dk_at dksL_law_8 22 rfl rfl)
theorem dL_law_463 : decode cL_law 463 = .ok (.iload 4, 2) := dk_21 4 (dk_at dksL_law_9 0 rfl rfl)
theorem dL_law_465 : decode cL_law 465 = .ok (.iconst 1, 1) := dk_4 (dk_at dksL_law_9 2 rfl rfl)
theorem dL_law_466 : decode cL_law 466 = .ok (.iadd, 1) := dk_96 (dk_at dksL_law_9 3 rfl rfl)
theorem dL_law_467 : decode cL_law 467 = .ok (.iaload, 1) := dk_46 (dk_at dksL_law_9 4 rfl rfl)
theorem dL_law_468 : decode cL_law 468 = .ok (.aload_n 3, 1) := dk_45 (dk_at dksL_law_9 5 rfl rfl)
theorem dL_law_469 : decode cL_law 469 = .ok (.invokestatic 198, 3) := dk_184 0 198 (dk_at dksL_law_9 6 rfl rfl)
theorem dL_law_472 : decode cL_law 472 = .ok (.istore 5, 2) := dk_54 5 (dk_at dksL_law_9 9 rfl rfl)
theorem dL_law_474 : decode cL_law 474 = .ok (.aload_n 2, 1) := dk_44 (dk_at dksL_law_9 11 rfl rfl)
theorem dL_law_475 : decode cL_law 475 = .ok (.aload_n 0, 1) := dk_42 (dk_at dksL_law_9 12 rfl rfl)
theorem dL_law_476 : decode cL_law 476 = .ok (.iload 4, 2) := dk_21 4 (dk_at dksL_law_9 13 rfl rfl)
theorem dL_law_478 : decode cL_law 478 = .ok (.iconst 1, 1) := dk_4 (dk_at dksL_law_9 15 rfl rfl)
theorem dL_law_479 : decode cL_law 479 = .ok (.iadd, 1) := dk_96 (dk_at dksL_law_9 16 rfl rfl)
theorem dL_law_480 : decode cL_law 480 = .ok (.iaload, 1) := dk_46 (dk_at dksL_law_9 17 rfl rfl)
theorem dL_law_481 : decode cL_law 481 = .ok (.invokevirtual 201, 3) := dk_182 0 201 (dk_at dksL_law_9 18 rfl rfl)
theorem dL_law_484 : decode cL_law 484 = .ok (.istore 6, 2) := dk_54 6 (dk_at dksL_law_9 21 rfl rfl)
theorem dL_law_486 : decode cL_law 486 = .ok (.aload_n 2, 1) := dk_44 (dk_at dksL_law_9 23 rfl rfl)
theorem dL_law_487 : decode cL_law 487 = .ok (.invokevirtual 194, 3) := dk_182 0 194 (dk_at dksL_law_10 0 rfl rfl)
theorem dL_law_490 : decode cL_law 490 = .ok (.iload 5, 2) := dk_21 5 (dk_at dksL_law_10 3 rfl rfl)
theorem dL_law_492 : decode cL_law 492 = .ok (.if_icmp .eq 5, 3) := dk_159 0 5 (dk_at dksL_law_10 5 rfl rfl)
theorem dL_law_495 : decode cL_law 495 = .ok (.iconst 0, 1) := dk_3 (dk_at dksL_law_10 8 rfl rfl)
theorem dL_law_496 : decode cL_law 496 = .ok (.ireturn, 1) := dk_172 (dk_at dksL_law_10 9 rfl rfl)
theorem dL_law_497 : decode cL_law 497 = .ok (.iload 5, 2) := dk_21 5 (dk_at dksL_law_10 10 rfl rfl)
theorem dL_law_499 : decode cL_law 499 = .ok (.ifCond .ne 15, 3) := dk_154 0 15 (dk_at dksL_law_10 12 rfl rfl)
theorem dL_law_502 : decode cL_law 502 = .ok (.aload_n 3, 1) := dk_45 (dk_at dksL_law_10 15 rfl rfl)
theorem dL_law_503 : decode cL_law 503 = .ok (.iconst 0, 1) := dk_3 (dk_at dksL_law_10 16 rfl rfl)
theorem dL_law_504 : decode cL_law 504 = .ok (.laload, 1) := dk_47 (dk_at dksL_law_10 17 rfl rfl)
theorem dL_law_505 : decode cL_law 505 = .ok (.iload 6, 2) := dk_21 6 (dk_at dksL_law_10 18 rfl rfl)
theorem dL_law_507 : decode cL_law 507 = .ok (.i2l, 1) := dk_133 (dk_at dksL_law_10 20 rfl rfl)
theorem dL_law_508 : decode cL_law 508 = .ok (.lcmp, 1) := dk_148 (dk_at dksL_law_10 21 rfl rfl)
theorem dL_law_509 : decode cL_law 509 = .ok (.ifCond .eq 5, 3) := dk_153 0 5 (dk_at dksL_law_11 0 rfl rfl)
theorem dL_law_512 : decode cL_law 512 = .ok (.iconst 0, 1) := dk_3 (dk_at dksL_law_11 3 rfl rfl)
theorem dL_law_513 : decode cL_law 513 = .ok (.ireturn, 1) := dk_172 (dk_at dksL_law_11 4 rfl rfl)
theorem dL_law_514 : decode cL_law 514 = .ok (.goto 3744, 3) := dk_167 14 160 (dk_at dksL_law_11 5 rfl rfl)
theorem dL_law_517 : decode cL_law 517 = .ok (.aload_n 1, 1) := dk_43 (dk_at dksL_law_11 8 rfl rfl)
theorem dL_law_518 : decode cL_law 518 = .ok (.invokevirtual 202, 3) := dk_182 0 202 (dk_at dksL_law_11 9 rfl rfl)
theorem dL_law_521 : decode cL_law 521 = .ok (.aload_n 2, 1) := dk_44 (dk_at dksL_law_11 12 rfl rfl)
theorem dL_law_522 : decode cL_law 522 = .ok (.invokevirtual 205, 3) := dk_182 0 205 (dk_at dksL_law_11 13 rfl rfl)
theorem dL_law_525 : decode cL_law 525 = .ok (.if_icmp .eq 3733, 3) := dk_159 14 149 (dk_at dksL_law_11 16 rfl rfl)
theorem dL_law_528 : decode cL_law 528 = .ok (.iconst 0, 1) := dk_3 (dk_at dksL_law_11 19 rfl rfl)
theorem dL_law_529 : decode cL_law 529 = .ok (.ireturn, 1) := dk_172 (dk_at dksL_law_11 20 rfl rfl)
theorem dL_law_530 : decode cL_law 530 = .ok (.aload_n 1, 1) := dk_43 (dk_at dksL_law_11 21 rfl rfl)
theorem dL_law_531 : decode cL_law 531 = .ok (.aload_n 0, 1) := dk_42 (dk_at dksL_law_11 22 rfl rfl)
theorem dL_law_532 : decode cL_law 532 = .ok (.iload 4, 2) := dk_21 4 (dk_at dksL_law_12 0 rfl rfl)
theorem dL_law_534 : decode cL_law 534 = .ok (.iconst 1, 1) := dk_4 (dk_at dksL_law_12 2 rfl rfl)
theorem dL_law_535 : decode cL_law 535 = .ok (.iadd, 1) := dk_96 (dk_at dksL_law_12 3 rfl rfl)
theorem dL_law_536 : decode cL_law 536 = .ok (.iaload, 1) := dk_46 (dk_at dksL_law_12 4 rfl rfl)
theorem dL_law_537 : decode cL_law 537 = .ok (.aload_n 0, 1) := dk_42 (dk_at dksL_law_12 5 rfl rfl)
theorem dL_law_538 : decode cL_law 538 = .ok (.iload 4, 2) := dk_21 4 (dk_at dksL_law_12 6 rfl rfl)
theorem dL_law_540 : decode cL_law 540 = .ok (.iconst 2, 1) := dk_5 (dk_at dksL_law_12 8 rfl rfl)
theorem dL_law_541 : decode cL_law 541 = .ok (.iadd, 1) := dk_96 (dk_at dksL_law_12 9 rfl rfl)
theorem dL_law_542 : decode cL_law 542 = .ok (.iaload, 1) := dk_46 (dk_at dksL_law_12 10 rfl rfl)
theorem dL_law_543 : decode cL_law 543 = .ok (.aload_n 0, 1) := dk_42 (dk_at dksL_law_12 11 rfl rfl)
theorem dL_law_544 : decode cL_law 544 = .ok (.iload 4, 2) := dk_21 4 (dk_at dksL_law_12 12 rfl rfl)
theorem dL_law_546 : decode cL_law 546 = .ok (.iconst 3, 1) := dk_6 (dk_at dksL_law_12 14 rfl rfl)
theorem dL_law_547 : decode cL_law 547 = .ok (.iadd, 1) := dk_96 (dk_at dksL_law_12 15 rfl rfl)
theorem dL_law_548 : decode cL_law 548 = .ok (.iaload, 1) := dk_46 (dk_at dksL_law_12 16 rfl rfl)
theorem dL_law_549 : decode cL_law 549 = .ok (.aload_n 0, 1) := dk_42 (dk_at dksL_law_12 17 rfl rfl)
theorem dL_law_550 : decode cL_law 550 = .ok (.iload 4, 2) := dk_21 4 (dk_at dksL_law_12 18 rfl rfl)
theorem dL_law_552 : decode cL_law 552 = .ok (.iconst 4, 1) := dk_7 (dk_at dksL_law_12 20 rfl rfl)
theorem dL_law_553 : decode cL_law 553 = .ok (.iadd, 1) := dk_96 (dk_at dksL_law_12 21 rfl rfl)
theorem dL_law_554 : decode cL_law 554 = .ok (.iaload, 1) := dk_46 (dk_at dksL_law_12 22 rfl rfl)
theorem dL_law_555 : decode cL_law 555 = .ok (.aload_n 3, 1) := dk_45 (dk_at dksL_law_12 23 rfl rfl)
theorem dL_law_556 : decode cL_law 556 = .ok (.invokestatic 206, 3) := dk_184 0 206 (dk_at dksL_law_13 0 rfl rfl)
theorem dL_law_559 : decode cL_law 559 = .ok (.istore 5, 2) := dk_54 5 (dk_at dksL_law_13 3 rfl rfl)
theorem dL_law_561 : decode cL_law 561 = .ok (.aload_n 2, 1) := dk_44 (dk_at dksL_law_13 5 rfl rfl)
theorem dL_law_562 : decode cL_law 562 = .ok (.aload_n 0, 1) := dk_42 (dk_at dksL_law_13 6 rfl rfl)
theorem dL_law_563 : decode cL_law 563 = .ok (.iload 4, 2) := dk_21 4 (dk_at dksL_law_13 7 rfl rfl)
theorem dL_law_565 : decode cL_law 565 = .ok (.iconst 1, 1) := dk_4 (dk_at dksL_law_13 9 rfl rfl)
theorem dL_law_566 : decode cL_law 566 = .ok (.iadd, 1) := dk_96 (dk_at dksL_law_13 10 rfl rfl)
theorem dL_law_567 : decode cL_law 567 = .ok (.iaload, 1) := dk_46 (dk_at dksL_law_13 11 rfl rfl)
theorem dL_law_568 : decode cL_law 568 = .ok (.aload_n 0, 1) := dk_42 (dk_at dksL_law_13 12 rfl rfl)
theorem dL_law_569 : decode cL_law 569 = .ok (.iload 4, 2) := dk_21 4 (dk_at dksL_law_13 13 rfl rfl)
theorem dL_law_571 : decode cL_law 571 = .ok (.iconst 2, 1) := dk_5 (dk_at dksL_law_13 15 rfl rfl)
theorem dL_law_572 : decode cL_law 572 = .ok (.iadd, 1) := dk_96 (dk_at dksL_law_13 16 rfl rfl)
theorem dL_law_573 : decode cL_law 573 = .ok (.iaload, 1) := dk_46 (dk_at dksL_law_13 17 rfl rfl)
theorem dL_law_574 : decode cL_law 574 = .ok (.aload_n 0, 1) := dk_42 (dk_at dksL_law_13 18 rfl rfl)
theorem dL_law_575 : decode cL_law 575 = .ok (.iload 4, 2) := dk_21 4 (dk_at dksL_law_13 19 rfl rfl)
theorem dL_law_577 : decode cL_law 577 = .ok (.iconst 3, 1) := dk_6 (dk_at dksL_law_13 21 rfl rfl)
theorem dL_law_578 : decode cL_law 578 = .ok (.iadd, 1) := dk_96 (dk_at dksL_law_13 22 rfl rfl)
theorem dL_law_579 : decode cL_law 579 = .ok (.iaload, 1) := dk_46 (dk_at dksL_law_13 23 rfl rfl)
theorem dL_law_580 : decode cL_law 580 = .ok (.aload_n 0, 1) := dk_42 (dk_at dksL_law_14 0 rfl rfl)
theorem dL_law_581 : decode cL_law 581 = .ok (.iload 4, 2) := dk_21 4 (dk_at dksL_law_14 1 rfl rfl)
theorem dL_law_583 : decode cL_law 583 = .ok (.iconst 4, 1) := dk_7 (dk_at dksL_law_14 3 rfl rfl)
theorem dL_law_584 : decode cL_law 584 = .ok (.iadd, 1) := dk_96 (dk_at dksL_law_14 4 rfl rfl)
theorem dL_law_585 : decode cL_law 585 = .ok (.iaload, 1) := dk_46 (dk_at dksL_law_14 5 rfl rfl)
theorem dL_law_586 : decode cL_law 586 = .ok (.invokevirtual 209, 3) := dk_182 0 209 (dk_at dksL_law_14 6 rfl rfl)
theorem dL_law_589 : decode cL_law 589 = .ok (.istore 6, 2) := dk_54 6 (dk_at dksL_law_14 9 rfl rfl)
theorem dL_law_591 : decode cL_law 591 = .ok (.aload_n 2, 1) := dk_44 (dk_at dksL_law_14 11 rfl rfl)
theorem dL_law_592 : decode cL_law 592 = .ok (.invokevirtual 194, 3) := dk_182 0 194 (dk_at dksL_law_14 12 rfl rfl)
theorem dL_law_595 : decode cL_law 595 = .ok (.iload 5, 2) := dk_21 5 (dk_at dksL_law_14 15 rfl rfl)
theorem dL_law_597 : decode cL_law 597 = .ok (.if_icmp .eq 5, 3) := dk_159 0 5 (dk_at dksL_law_14 17 rfl rfl)
theorem dL_law_600 : decode cL_law 600 = .ok (.iconst 0, 1) := dk_3 (dk_at dksL_law_14 20 rfl rfl)
theorem dL_law_601 : decode cL_law 601 = .ok (.ireturn, 1) := dk_172 (dk_at dksL_law_14 21 rfl rfl)
theorem dL_law_602 : decode cL_law 602 = .ok (.iload 5, 2) := dk_21 5 (dk_at dksL_law_14 22 rfl rfl)
theorem dL_law_604 : decode cL_law 604 = .ok (.ifCond .ne 15, 3) := dk_154 0 15 (dk_at dksL_law_15 0 rfl rfl)
theorem dL_law_607 : decode cL_law 607 = .ok (.aload_n 3, 1) := dk_45 (dk_at dksL_law_15 3 rfl rfl)
theorem dL_law_608 : decode cL_law 608 = .ok (.iconst 0, 1) := dk_3 (dk_at dksL_law_15 4 rfl rfl)
theorem dL_law_609 : decode cL_law 609 = .ok (.laload, 1) := dk_47 (dk_at dksL_law_15 5 rfl rfl)
theorem dL_law_610 : decode cL_law 610 = .ok (.iload 6, 2) := dk_21 6 (dk_at dksL_law_15 6 rfl rfl)
theorem dL_law_612 : decode cL_law 612 = .ok (.i2l, 1) := dk_133 (dk_at dksL_law_15 8 rfl rfl)
theorem dL_law_613 : decode cL_law 613 = .ok (.lcmp, 1) := dk_148 (dk_at dksL_law_15 9 rfl rfl)
theorem dL_law_614 : decode cL_law 614 = .ok (.ifCond .eq 5, 3) := dk_153 0 5 (dk_at dksL_law_15 10 rfl rfl)
theorem dL_law_617 : decode cL_law 617 = .ok (.iconst 0, 1) := dk_3 (dk_at dksL_law_15 13 rfl rfl)
theorem dL_law_618 : decode cL_law 618 = .ok (.ireturn, 1) := dk_172 (dk_at dksL_law_15 14 rfl rfl)
theorem dL_law_619 : decode cL_law 619 = .ok (.goto 3639, 3) := dk_167 14 55 (dk_at dksL_law_15 15 rfl rfl)
theorem dL_law_622 : decode cL_law 622 = .ok (.aload_n 1, 1) := dk_43 (dk_at dksL_law_15 18 rfl rfl)
theorem dL_law_623 : decode cL_law 623 = .ok (.aload_n 0, 1) := dk_42 (dk_at dksL_law_15 19 rfl rfl)
theorem dL_law_624 : decode cL_law 624 = .ok (.iload 4, 2) := dk_21 4 (dk_at dksL_law_15 20 rfl rfl)
theorem dL_law_626 : decode cL_law 626 = .ok (.iconst 1, 1) := dk_4 (dk_at dksL_law_15 22 rfl rfl)
theorem dL_law_627 : decode cL_law 627 = .ok (.iadd, 1) := dk_96 (dk_at dksL_law_15 23 rfl rfl)
theorem dL_law_628 : decode cL_law 628 = .ok (.iaload, 1) := dk_46 (dk_at dksL_law_16 0 rfl rfl)
theorem dL_law_629 : decode cL_law 629 = .ok (.aload_n 3, 1) := dk_45 (dk_at dksL_law_16 1 rfl rfl)
theorem dL_law_630 : decode cL_law 630 = .ok (.invokestatic 210, 3) := dk_184 0 210 (dk_at dksL_law_16 2 rfl rfl)
theorem dL_law_633 : decode cL_law 633 = .ok (.istore 5, 2) := dk_54 5 (dk_at dksL_law_16 5 rfl rfl)
theorem dL_law_635 : decode cL_law 635 = .ok (.aload_n 2, 1) := dk_44 (dk_at dksL_law_16 7 rfl rfl)
theorem dL_law_636 : decode cL_law 636 = .ok (.aload_n 0, 1) := dk_42 (dk_at dksL_law_16 8 rfl rfl)
theorem dL_law_637 : decode cL_law 637 = .ok (.iload 4, 2) := dk_21 4 (dk_at dksL_law_16 9 rfl rfl)
theorem dL_law_639 : decode cL_law 639 = .ok (.iconst 1, 1) := dk_4 (dk_at dksL_law_16 11 rfl rfl)
theorem dL_law_640 : decode cL_law 640 = .ok (.iadd, 1) := dk_96 (dk_at dksL_law_16 12 rfl rfl)
theorem dL_law_641 : decode cL_law 641 = .ok (.iaload, 1) := dk_46 (dk_at dksL_law_16 13 rfl rfl)
theorem dL_law_642 : decode cL_law 642 = .ok (.invokevirtual 212, 3) := dk_182 0 212 (dk_at dksL_law_16 14 rfl rfl)
theorem dL_law_645 : decode cL_law 645 = .ok (.istore 6, 2) := dk_54 6 (dk_at dksL_law_16 17 rfl rfl)
theorem dL_law_647 : decode cL_law 647 = .ok (.aload_n 2, 1) := dk_44 (dk_at dksL_law_16 19 rfl rfl)
theorem dL_law_648 : decode cL_law 648 = .ok (.invokevirtual 194, 3) := dk_182 0 194 (dk_at dksL_law_16 20 rfl rfl)
theorem dL_law_651 : decode cL_law 651 = .ok (.iload 5, 2) := dk_21 5 (dk_at dksL_law_17 0 rfl rfl)
theorem dL_law_653 : decode cL_law 653 = .ok (.if_icmp .eq 5, 3) := dk_159 0 5 (dk_at dksL_law_17 2 rfl rfl)
theorem dL_law_656 : decode cL_law 656 = .ok (.iconst 0, 1) := dk_3 (dk_at dksL_law_17 5 rfl rfl)
theorem dL_law_657 : decode cL_law 657 = .ok (.ireturn, 1) := dk_172 (dk_at dksL_law_17 6 rfl rfl)
theorem dL_law_658 : decode cL_law 658 = .ok (.iload 5, 2) := dk_21 5 (dk_at dksL_law_17 7 rfl rfl)
theorem dL_law_660 : decode cL_law 660 = .ok (.ifCond .ne 15, 3) := dk_154 0 15 (dk_at dksL_law_17 9 rfl rfl)
theorem dL_law_663 : decode cL_law 663 = .ok (.aload_n 3, 1) := dk_45 (dk_at dksL_law_17 12 rfl rfl)
theorem dL_law_664 : decode cL_law 664 = .ok (.iconst 0, 1) := dk_3 (dk_at dksL_law_17 13 rfl rfl)
theorem dL_law_665 : decode cL_law 665 = .ok (.laload, 1) := dk_47 (dk_at dksL_law_17 14 rfl rfl)
theorem dL_law_666 : decode cL_law 666 = .ok (.iload 6, 2) := dk_21 6 (dk_at dksL_law_17 15 rfl rfl)
theorem dL_law_668 : decode cL_law 668 = .ok (.i2l, 1) := dk_133 (dk_at dksL_law_17 17 rfl rfl)
theorem dL_law_669 : decode cL_law 669 = .ok (.lcmp, 1) := dk_148 (dk_at dksL_law_17 18 rfl rfl)
theorem dL_law_670 : decode cL_law 670 = .ok (.ifCond .eq 5, 3) := dk_153 0 5 (dk_at dksL_law_17 19 rfl rfl)
theorem dL_law_673 : decode cL_law 673 = .ok (.iconst 0, 1) := dk_3 (dk_at dksL_law_17 22 rfl rfl)
theorem dL_law_674 : decode cL_law 674 = .ok (.ireturn, 1) := dk_172 (dk_at dksL_law_17 23 rfl rfl)
theorem dL_law_675 : decode cL_law 675 = .ok (.goto 3583, 3) := dk_167 13 255 (dk_at dksL_law_18 0 rfl rfl)
theorem dL_law_678 : decode cL_law 678 = .ok (.aload_n 1, 1) := dk_43 (dk_at dksL_law_18 3 rfl rfl)
theorem dL_law_679 : decode cL_law 679 = .ok (.aload_n 0, 1) := dk_42 (dk_at dksL_law_18 4 rfl rfl)
theorem dL_law_680 : decode cL_law 680 = .ok (.iload 4, 2) := dk_21 4 (dk_at dksL_law_18 5 rfl rfl)
theorem dL_law_682 : decode cL_law 682 = .ok (.iconst 1, 1) := dk_4 (dk_at dksL_law_18 7 rfl rfl)
theorem dL_law_683 : decode cL_law 683 = .ok (.iadd, 1) := dk_96 (dk_at dksL_law_18 8 rfl rfl)
theorem dL_law_684 : decode cL_law 684 = .ok (.iaload, 1) := dk_46 (dk_at dksL_law_18 9 rfl rfl)
theorem dL_law_685 : decode cL_law 685 = .ok (.aload_n 0, 1) := dk_42 (dk_at dksL_law_18 10 rfl rfl)
theorem dL_law_686 : decode cL_law 686 = .ok (.iload 4, 2) := dk_21 4 (dk_at dksL_law_18 11 rfl rfl)
theorem dL_law_688 : decode cL_law 688 = .ok (.iconst 2, 1) := dk_5 (dk_at dksL_law_18 13 rfl rfl)
theorem dL_law_689 : decode cL_law 689 = .ok (.iadd, 1) := dk_96 (dk_at dksL_law_18 14 rfl rfl)
theorem dL_law_690 : decode cL_law 690 = .ok (.iaload, 1) := dk_46 (dk_at dksL_law_18 15 rfl rfl)
theorem dL_law_691 : decode cL_law 691 = .ok (.aload_n 0, 1) := dk_42 (dk_at dksL_law_18 16 rfl rfl)
theorem dL_law_692 : decode cL_law 692 = .ok (.iload 4, 2) := dk_21 4 (dk_at dksL_law_18 17 rfl rfl)
theorem dL_law_694 : decode cL_law 694 = .ok (.iconst 3, 1) := dk_6 (dk_at dksL_law_18 19 rfl rfl)
theorem dL_law_695 : decode cL_law 695 = .ok (.iadd, 1) := dk_96 (dk_at dksL_law_18 20 rfl rfl)
theorem dL_law_696 : decode cL_law 696 = .ok (.iaload, 1) := dk_46 (dk_at dksL_law_18 21 rfl rfl)
theorem dL_law_697 : decode cL_law 697 = .ok (.aload_n 0, 1) := dk_42 (dk_at dksL_law_18 22 rfl rfl)
theorem dL_law_698 : decode cL_law 698 = .ok (.iload 4, 2) := dk_21 4 (dk_at dksL_law_19 0 rfl rfl)
theorem dL_law_700 : decode cL_law 700 = .ok (.iconst 4, 1) := dk_7 (dk_at dksL_law_19 2 rfl rfl)
theorem dL_law_701 : decode cL_law 701 = .ok (.iadd, 1) := dk_96 (dk_at dksL_law_19 3 rfl rfl)
theorem dL_law_702 : decode cL_law 702 = .ok (.iaload, 1) := dk_46 (dk_at dksL_law_19 4 rfl rfl)
theorem dL_law_703 : decode cL_law 703 = .ok (.aload_n 0, 1) := dk_42 (dk_at dksL_law_19 5 rfl rfl)
theorem dL_law_704 : decode cL_law 704 = .ok (.iload 4, 2) := dk_21 4 (dk_at dksL_law_19 6 rfl rfl)
theorem dL_law_706 : decode cL_law 706 = .ok (.iconst 5, 1) := dk_8 (dk_at dksL_law_19 8 rfl rfl)
theorem dL_law_707 : decode cL_law 707 = .ok (.iadd, 1) := dk_96 (dk_at dksL_law_19 9 rfl rfl)
theorem dL_law_708 : decode cL_law 708 = .ok (.iaload, 1) := dk_46 (dk_at dksL_law_19 10 rfl rfl)
theorem dL_law_709 : decode cL_law 709 = .ok (.ifCond .eq 7, 3) := dk_153 0 7 (dk_at dksL_law_19 11 rfl rfl)
theorem dL_law_712 : decode cL_law 712 = .ok (.iconst 1, 1) := dk_4 (dk_at dksL_law_19 14 rfl rfl)
theorem dL_law_713 : decode cL_law 713 = .ok (.goto 4, 3) := dk_167 0 4 (dk_at dksL_law_19 15 rfl rfl)
theorem dL_law_716 : decode cL_law 716 = .ok (.iconst 0, 1) := dk_3 (dk_at dksL_law_19 18 rfl rfl)
theorem dL_law_717 : decode cL_law 717 = .ok (.aload_n 3, 1) := dk_45 (dk_at dksL_law_19 19 rfl rfl)
theorem dL_law_718 : decode cL_law 718 = .ok (.invokestatic 213, 3) := dk_184 0 213 (dk_at dksL_law_19 20 rfl rfl)
theorem dL_law_721 : decode cL_law 721 = .ok (.istore 5, 2) := dk_54 5 (dk_at dksL_law_20 0 rfl rfl)
theorem dL_law_723 : decode cL_law 723 = .ok (.aload_n 2, 1) := dk_44 (dk_at dksL_law_20 2 rfl rfl)
theorem dL_law_724 : decode cL_law 724 = .ok (.aload_n 0, 1) := dk_42 (dk_at dksL_law_20 3 rfl rfl)
theorem dL_law_725 : decode cL_law 725 = .ok (.iload 4, 2) := dk_21 4 (dk_at dksL_law_20 4 rfl rfl)
theorem dL_law_727 : decode cL_law 727 = .ok (.iconst 1, 1) := dk_4 (dk_at dksL_law_20 6 rfl rfl)
theorem dL_law_728 : decode cL_law 728 = .ok (.iadd, 1) := dk_96 (dk_at dksL_law_20 7 rfl rfl)
theorem dL_law_729 : decode cL_law 729 = .ok (.iaload, 1) := dk_46 (dk_at dksL_law_20 8 rfl rfl)
theorem dL_law_730 : decode cL_law 730 = .ok (.aload_n 0, 1) := dk_42 (dk_at dksL_law_20 9 rfl rfl)
theorem dL_law_731 : decode cL_law 731 = .ok (.iload 4, 2) := dk_21 4 (dk_at dksL_law_20 10 rfl rfl)
theorem dL_law_733 : decode cL_law 733 = .ok (.iconst 2, 1) := dk_5 (dk_at dksL_law_20 12 rfl rfl)
theorem dL_law_734 : decode cL_law 734 = .ok (.iadd, 1) := dk_96 (dk_at dksL_law_20 13 rfl rfl)
theorem dL_law_735 : decode cL_law 735 = .ok (.iaload, 1) := dk_46 (dk_at dksL_law_20 14 rfl rfl)
theorem dL_law_736 : decode cL_law 736 = .ok (.aload_n 0, 1) := dk_42 (dk_at dksL_law_20 15 rfl rfl)
theorem dL_law_737 : decode cL_law 737 = .ok (.iload 4, 2) := dk_21 4 (dk_at dksL_law_20 16 rfl rfl)
theorem dL_law_739 : decode cL_law 739 = .ok (.iconst 3, 1) := dk_6 (dk_at dksL_law_20 18 rfl rfl)
theorem dL_law_740 : decode cL_law 740 = .ok (.iadd, 1) := dk_96 (dk_at dksL_law_20 19 rfl rfl)
theorem dL_law_741 : decode cL_law 741 = .ok (.iaload, 1) := dk_46 (dk_at dksL_law_20 20 rfl rfl)
theorem dL_law_742 : decode cL_law 742 = .ok (.aload_n 0, 1) := dk_42 (dk_at dksL_law_20 21 rfl rfl)
theorem dL_law_743 : decode cL_law 743 = .ok (.iload 4, 2) := dk_21 4 (dk_at dksL_law_20 22 rfl rfl)
theorem dL_law_745 : decode cL_law 745 = .ok (.iconst 4, 1) := dk_7 (dk_at dksL_law_21 0 rfl rfl)
theorem dL_law_746 : decode cL_law 746 = .ok (.iadd, 1) := dk_96 (dk_at dksL_law_21 1 rfl rfl)
theorem dL_law_747 : decode cL_law 747 = .ok (.iaload, 1) := dk_46 (dk_at dksL_law_21 2 rfl rfl)
theorem dL_law_748 : decode cL_law 748 = .ok (.aload_n 0, 1) := dk_42 (dk_at dksL_law_21 3 rfl rfl)
theorem dL_law_749 : decode cL_law 749 = .ok (.iload 4, 2) := dk_21 4 (dk_at dksL_law_21 4 rfl rfl)
theorem dL_law_751 : decode cL_law 751 = .ok (.iconst 5, 1) := dk_8 (dk_at dksL_law_21 6 rfl rfl)
theorem dL_law_752 : decode cL_law 752 = .ok (.iadd, 1) := dk_96 (dk_at dksL_law_21 7 rfl rfl)
theorem dL_law_753 : decode cL_law 753 = .ok (.iaload, 1) := dk_46 (dk_at dksL_law_21 8 rfl rfl)
theorem dL_law_754 : decode cL_law 754 = .ok (.ifCond .eq 7, 3) := dk_153 0 7 (dk_at dksL_law_21 9 rfl rfl)
theorem dL_law_757 : decode cL_law 757 = .ok (.iconst 1, 1) := dk_4 (dk_at dksL_law_21 12 rfl rfl)
theorem dL_law_758 : decode cL_law 758 = .ok (.goto 4, 3) := dk_167 0 4 (dk_at dksL_law_21 13 rfl rfl)
theorem dL_law_761 : decode cL_law 761 = .ok (.iconst 0, 1) := dk_3 (dk_at dksL_law_21 16 rfl rfl)
theorem dL_law_762 : decode cL_law 762 = .ok (.invokevirtual 216, 3) := dk_182 0 216 (dk_at dksL_law_21 17 rfl rfl)
theorem dL_law_765 : decode cL_law 765 = .ok (.istore 6, 2) := dk_54 6 (dk_at dksL_law_21 20 rfl rfl)
theorem dL_law_767 : decode cL_law 767 = .ok (.aload_n 2, 1) := dk_44 (dk_at dksL_law_21 22 rfl rfl)
theorem dL_law_768 : decode cL_law 768 = .ok (.invokevirtual 194, 3) := dk_182 0 194 (dk_at dksL_law_22 0 rfl rfl)
theorem dL_law_771 : decode cL_law 771 = .ok (.iload 5, 2) := dk_21 5 (dk_at dksL_law_22 3 rfl rfl)
theorem dL_law_773 : decode cL_law 773 = .ok (.if_icmp .eq 5, 3) := dk_159 0 5 (dk_at dksL_law_22 5 rfl rfl)
theorem dL_law_776 : decode cL_law 776 = .ok (.iconst 0, 1) := dk_3 (dk_at dksL_law_22 8 rfl rfl)
theorem dL_law_777 : decode cL_law 777 = .ok (.ireturn, 1) := dk_172 (dk_at dksL_law_22 9 rfl rfl)
theorem dL_law_778 : decode cL_law 778 = .ok (.iload 5, 2) := dk_21 5 (dk_at dksL_law_22 10 rfl rfl)
theorem dL_law_780 : decode cL_law 780 = .ok (.ifCond .ne 15, 3) := dk_154 0 15 (dk_at dksL_law_22 12 rfl rfl)
theorem dL_law_783 : decode cL_law 783 = .ok (.aload_n 3, 1) := dk_45 (dk_at dksL_law_22 15 rfl rfl)
theorem dL_law_784 : decode cL_law 784 = .ok (.iconst 0, 1) := dk_3 (dk_at dksL_law_22 16 rfl rfl)
theorem dL_law_785 : decode cL_law 785 = .ok (.laload, 1) := dk_47 (dk_at dksL_law_22 17 rfl rfl)
theorem dL_law_786 : decode cL_law 786 = .ok (.iload 6, 2) := dk_21 6 (dk_at dksL_law_22 18 rfl rfl)
theorem dL_law_788 : decode cL_law 788 = .ok (.i2l, 1) := dk_133 (dk_at dksL_law_22 20 rfl rfl)
theorem dL_law_789 : decode cL_law 789 = .ok (.lcmp, 1) := dk_148 (dk_at dksL_law_22 21 rfl rfl)
theorem dL_law_790 : decode cL_law 790 = .ok (.ifCond .eq 5, 3) := dk_153 0 5 (dk_at dksL_law_23 0 rfl rfl)
theorem dL_law_793 : decode cL_law 793 = .ok (.iconst 0, 1) := dk_3 (dk_at dksL_law_23 3 rfl rfl)
theorem dL_law_794 : decode cL_law 794 = .ok (.ireturn, 1) := dk_172 (dk_at dksL_law_23 4 rfl rfl)
theorem dL_law_795 : decode cL_law 795 = .ok (.goto 3463, 3) := dk_167 13 135 (dk_at dksL_law_23 5 rfl rfl)
theorem dL_law_798 : decode cL_law 798 = .ok (.aload_n 1, 1) := dk_43 (dk_at dksL_law_23 8 rfl rfl)
theorem dL_law_799 : decode cL_law 799 = .ok (.aload_n 0, 1) := dk_42 (dk_at dksL_law_23 9 rfl rfl)
theorem dL_law_800 : decode cL_law 800 = .ok (.iload 4, 2) := dk_21 4 (dk_at dksL_law_23 10 rfl rfl)
theorem dL_law_802 : decode cL_law 802 = .ok (.iconst 1, 1) := dk_4 (dk_at dksL_law_23 12 rfl rfl)
theorem dL_law_803 : decode cL_law 803 = .ok (.iadd, 1) := dk_96 (dk_at dksL_law_23 13 rfl rfl)
theorem dL_law_804 : decode cL_law 804 = .ok (.iaload, 1) := dk_46 (dk_at dksL_law_23 14 rfl rfl)
theorem dL_law_805 : decode cL_law 805 = .ok (.aload_n 0, 1) := dk_42 (dk_at dksL_law_23 15 rfl rfl)
theorem dL_law_806 : decode cL_law 806 = .ok (.iload 4, 2) := dk_21 4 (dk_at dksL_law_23 16 rfl rfl)
theorem dL_law_808 : decode cL_law 808 = .ok (.iconst 2, 1) := dk_5 (dk_at dksL_law_23 18 rfl rfl)
theorem dL_law_809 : decode cL_law 809 = .ok (.iadd, 1) := dk_96 (dk_at dksL_law_23 19 rfl rfl)
theorem dL_law_810 : decode cL_law 810 = .ok (.iaload, 1) := dk_46 (dk_at dksL_law_23 20 rfl rfl)
theorem dL_law_811 : decode cL_law 811 = .ok (.aload_n 0, 1) := dk_42 (dk_at dksL_law_23 21 rfl rfl)
theorem dL_law_812 : decode cL_law 812 = .ok (.iload 4, 2) := dk_21 4 (dk_at dksL_law_23 22 rfl rfl)
theorem dL_law_814 : decode cL_law 814 = .ok (.iconst 3, 1) := dk_6 (dk_at dksL_law_24 0 rfl rfl)
theorem dL_law_815 : decode cL_law 815 = .ok (.iadd, 1) := dk_96 (dk_at dksL_law_24 1 rfl rfl)
theorem dL_law_816 : decode cL_law 816 = .ok (.iaload, 1) := dk_46 (dk_at dksL_law_24 2 rfl rfl)
theorem dL_law_817 : decode cL_law 817 = .ok (.aload_n 3, 1) := dk_45 (dk_at dksL_law_24 3 rfl rfl)
theorem dL_law_818 : decode cL_law 818 = .ok (.invokestatic 217, 3) := dk_184 0 217 (dk_at dksL_law_24 4 rfl rfl)
theorem dL_law_821 : decode cL_law 821 = .ok (.istore 5, 2) := dk_54 5 (dk_at dksL_law_24 7 rfl rfl)
theorem dL_law_823 : decode cL_law 823 = .ok (.aload_n 2, 1) := dk_44 (dk_at dksL_law_24 9 rfl rfl)
theorem dL_law_824 : decode cL_law 824 = .ok (.aload_n 0, 1) := dk_42 (dk_at dksL_law_24 10 rfl rfl)
theorem dL_law_825 : decode cL_law 825 = .ok (.iload 4, 2) := dk_21 4 (dk_at dksL_law_24 11 rfl rfl)
theorem dL_law_827 : decode cL_law 827 = .ok (.iconst 1, 1) := dk_4 (dk_at dksL_law_24 13 rfl rfl)
theorem dL_law_828 : decode cL_law 828 = .ok (.iadd, 1) := dk_96 (dk_at dksL_law_24 14 rfl rfl)
theorem dL_law_829 : decode cL_law 829 = .ok (.iaload, 1) := dk_46 (dk_at dksL_law_24 15 rfl rfl)
theorem dL_law_830 : decode cL_law 830 = .ok (.aload_n 0, 1) := dk_42 (dk_at dksL_law_24 16 rfl rfl)
theorem dL_law_831 : decode cL_law 831 = .ok (.iload 4, 2) := dk_21 4 (dk_at dksL_law_24 17 rfl rfl)
theorem dL_law_833 : decode cL_law 833 = .ok (.iconst 2, 1) := dk_5 (dk_at dksL_law_24 19 rfl rfl)
theorem dL_law_834 : decode cL_law 834 = .ok (.iadd, 1) := dk_96 (dk_at dksL_law_24 20 rfl rfl)
theorem dL_law_835 : decode cL_law 835 = .ok (.iaload, 1) := dk_46 (dk_at dksL_law_24 21 rfl rfl)
theorem dL_law_836 : decode cL_law 836 = .ok (.aload_n 0, 1) := dk_42 (dk_at dksL_law_24 22 rfl rfl)
theorem dL_law_837 : decode cL_law 837 = .ok (.iload 4, 2) := dk_21 4 (dk_at dksL_law_25 0 rfl rfl)
theorem dL_law_839 : decode cL_law 839 = .ok (.iconst 3, 1) := dk_6 (dk_at dksL_law_25 2 rfl rfl)
theorem dL_law_840 : decode cL_law 840 = .ok (.iadd, 1) := dk_96 (dk_at dksL_law_25 3 rfl rfl)
theorem dL_law_841 : decode cL_law 841 = .ok (.iaload, 1) := dk_46 (dk_at dksL_law_25 4 rfl rfl)
theorem dL_law_842 : decode cL_law 842 = .ok (.invokevirtual 220, 3) := dk_182 0 220 (dk_at dksL_law_25 5 rfl rfl)
theorem dL_law_845 : decode cL_law 845 = .ok (.istore 6, 2) := dk_54 6 (dk_at dksL_law_25 8 rfl rfl)
theorem dL_law_847 : decode cL_law 847 = .ok (.aload_n 2, 1) := dk_44 (dk_at dksL_law_25 10 rfl rfl)
theorem dL_law_848 : decode cL_law 848 = .ok (.invokevirtual 194, 3) := dk_182 0 194 (dk_at dksL_law_25 11 rfl rfl)
theorem dL_law_851 : decode cL_law 851 = .ok (.iload 5, 2) := dk_21 5 (dk_at dksL_law_25 14 rfl rfl)
theorem dL_law_853 : decode cL_law 853 = .ok (.if_icmp .eq 5, 3) := dk_159 0 5 (dk_at dksL_law_25 16 rfl rfl)
theorem dL_law_856 : decode cL_law 856 = .ok (.iconst 0, 1) := dk_3 (dk_at dksL_law_25 19 rfl rfl)
theorem dL_law_857 : decode cL_law 857 = .ok (.ireturn, 1) := dk_172 (dk_at dksL_law_25 20 rfl rfl)
theorem dL_law_858 : decode cL_law 858 = .ok (.iload 5, 2) := dk_21 5 (dk_at dksL_law_25 21 rfl rfl)
theorem dL_law_860 : decode cL_law 860 = .ok (.ifCond .ne 15, 3) := dk_154 0 15 (dk_at dksL_law_26 0 rfl rfl)
theorem dL_law_863 : decode cL_law 863 = .ok (.aload_n 3, 1) := dk_45 (dk_at dksL_law_26 3 rfl rfl)
theorem dL_law_864 : decode cL_law 864 = .ok (.iconst 0, 1) := dk_3 (dk_at dksL_law_26 4 rfl rfl)
theorem dL_law_865 : decode cL_law 865 = .ok (.laload, 1) := dk_47 (dk_at dksL_law_26 5 rfl rfl)
theorem dL_law_866 : decode cL_law 866 = .ok (.iload 6, 2) := dk_21 6 (dk_at dksL_law_26 6 rfl rfl)
theorem dL_law_868 : decode cL_law 868 = .ok (.i2l, 1) := dk_133 (dk_at dksL_law_26 8 rfl rfl)
theorem dL_law_869 : decode cL_law 869 = .ok (.lcmp, 1) := dk_148 (dk_at dksL_law_26 9 rfl rfl)
theorem dL_law_870 : decode cL_law 870 = .ok (.ifCond .eq 5, 3) := dk_153 0 5 (dk_at dksL_law_26 10 rfl rfl)
theorem dL_law_873 : decode cL_law 873 = .ok (.iconst 0, 1) := dk_3 (dk_at dksL_law_26 13 rfl rfl)
theorem dL_law_874 : decode cL_law 874 = .ok (.ireturn, 1) := dk_172 (dk_at dksL_law_26 14 rfl rfl)
theorem dL_law_875 : decode cL_law 875 = .ok (.goto 3383, 3) := dk_167 13 55 (dk_at dksL_law_26 15 rfl rfl)
theorem dL_law_878 : decode cL_law 878 = .ok (.aload_n 1, 1) := dk_43 (dk_at dksL_law_26 18 rfl rfl)
theorem dL_law_879 : decode cL_law 879 = .ok (.aload_n 0, 1) := dk_42 (dk_at dksL_law_26 19 rfl rfl)
theorem dL_law_880 : decode cL_law 880 = .ok (.iload 4, 2) := dk_21 4 (dk_at dksL_law_26 20 rfl rfl)
theorem dL_law_882 : decode cL_law 882 = .ok (.iconst 1, 1) := dk_4 (dk_at dksL_law_26 22 rfl rfl)
theorem dL_law_883 : decode cL_law 883 = .ok (.iadd, 1) := dk_96 (dk_at dksL_law_26 23 rfl rfl)
theorem dL_law_884 : decode cL_law 884 = .ok (.iaload, 1) := dk_46 (dk_at dksL_law_27 0 rfl rfl)
theorem dL_law_885 : decode cL_law 885 = .ok (.aload_n 0, 1) := dk_42 (dk_at dksL_law_27 1 rfl rfl)
theorem dL_law_886 : decode cL_law 886 = .ok (.iload 4, 2) := dk_21 4 (dk_at dksL_law_27 2 rfl rfl)
theorem dL_law_888 : decode cL_law 888 = .ok (.iconst 2, 1) := dk_5 (dk_at dksL_law_27 4 rfl rfl)
theorem dL_law_889 : decode cL_law 889 = .ok (.iadd, 1) := dk_96 (dk_at dksL_law_27 5 rfl rfl)
theorem dL_law_890 : decode cL_law 890 = .ok (.iaload, 1) := dk_46 (dk_at dksL_law_27 6 rfl rfl)
theorem dL_law_891 : decode cL_law 891 = .ok (.aload_n 0, 1) := dk_42 (dk_at dksL_law_27 7 rfl rfl)
theorem dL_law_892 : decode cL_law 892 = .ok (.iload 4, 2) := dk_21 4 (dk_at dksL_law_27 8 rfl rfl)
theorem dL_law_894 : decode cL_law 894 = .ok (.iconst 3, 1) := dk_6 (dk_at dksL_law_27 10 rfl rfl)
theorem dL_law_895 : decode cL_law 895 = .ok (.iadd, 1) := dk_96 (dk_at dksL_law_27 11 rfl rfl)
theorem dL_law_896 : decode cL_law 896 = .ok (.iaload, 1) := dk_46 (dk_at dksL_law_27 12 rfl rfl)
theorem dL_law_897 : decode cL_law 897 = .ok (.aload_n 3, 1) := dk_45 (dk_at dksL_law_27 13 rfl rfl)
theorem dL_law_898 : decode cL_law 898 = .ok (.invokestatic 221, 3) := dk_184 0 221 (dk_at dksL_law_27 14 rfl rfl)
theorem dL_law_901 : decode cL_law 901 = .ok (.istore 5, 2) := dk_54 5 (dk_at dksL_law_27 17 rfl rfl)
theorem dL_law_903 : decode cL_law 903 = .ok (.aload_n 2, 1) := dk_44 (dk_at dksL_law_27 19 rfl rfl)
theorem dL_law_904 : decode cL_law 904 = .ok (.aload_n 0, 1) := dk_42 (dk_at dksL_law_27 20 rfl rfl)
theorem dL_law_905 : decode cL_law 905 = .ok (.iload 4, 2) := dk_21 4 (dk_at dksL_law_27 21 rfl rfl)
theorem dL_law_907 : decode cL_law 907 = .ok (.iconst 1, 1) := dk_4 (dk_at dksL_law_27 23 rfl rfl)
theorem dL_law_908 : decode cL_law 908 = .ok (.iadd, 1) := dk_96 (dk_at dksL_law_28 0 rfl rfl)
theorem dL_law_909 : decode cL_law 909 = .ok (.iaload, 1) := dk_46 (dk_at dksL_law_28 1 rfl rfl)
theorem dL_law_910 : decode cL_law 910 = .ok (.aload_n 0, 1) := dk_42 (dk_at dksL_law_28 2 rfl rfl)
theorem dL_law_911 : decode cL_law 911 = .ok (.iload 4, 2) := dk_21 4 (dk_at dksL_law_28 3 rfl rfl)
theorem dL_law_913 : decode cL_law 913 = .ok (.iconst 2, 1) := dk_5 (dk_at dksL_law_28 5 rfl rfl)
theorem dL_law_914 : decode cL_law 914 = .ok (.iadd, 1) := dk_96 (dk_at dksL_law_28 6 rfl rfl)
theorem dL_law_915 : decode cL_law 915 = .ok (.iaload, 1) := dk_46 (dk_at dksL_law_28 7 rfl rfl)
theorem dL_law_916 : decode cL_law 916 = .ok (.aload_n 0, 1) := dk_42 (dk_at dksL_law_28 8 rfl rfl)
theorem dL_law_917 : decode cL_law 917 = .ok (.iload 4, 2) := dk_21 4 (dk_at dksL_law_28 9 rfl rfl)
theorem dL_law_919 : decode cL_law 919 = .ok (.iconst 3, 1) := dk_6 (dk_at dksL_law_28 11 rfl rfl)
theorem dL_law_920 : decode cL_law 920 = .ok (.iadd, 1) := dk_96 (dk_at dksL_law_28 12 rfl rfl)
theorem dL_law_921 : decode cL_law 921 = .ok (.iaload, 1) := dk_46 (dk_at dksL_law_28 13 rfl rfl)
theorem dL_law_922 : decode cL_law 922 = .ok (.invokevirtual 223, 3) := dk_182 0 223 (dk_at dksL_law_28 14 rfl rfl)
theorem dL_law_925 : decode cL_law 925 = .ok (.istore 6, 2) := dk_54 6 (dk_at dksL_law_28 17 rfl rfl)
theorem dL_law_927 : decode cL_law 927 = .ok (.aload_n 2, 1) := dk_44 (dk_at dksL_law_28 19 rfl rfl)
theorem dL_law_928 : decode cL_law 928 = .ok (.invokevirtual 194, 3) := dk_182 0 194 (dk_at dksL_law_28 20 rfl rfl)
theorem dL_law_931 : decode cL_law 931 = .ok (.iload 5, 2) := dk_21 5 (dk_at dksL_law_29 0 rfl rfl)
theorem dL_law_933 : decode cL_law 933 = .ok (.if_icmp .eq 5, 3) := dk_159 0 5 (dk_at dksL_law_29 2 rfl rfl)
theorem dL_law_936 : decode cL_law 936 = .ok (.iconst 0, 1) := dk_3 (dk_at dksL_law_29 5 rfl rfl)
theorem dL_law_937 : decode cL_law 937 = .ok (.ireturn, 1) := dk_172 (dk_at dksL_law_29 6 rfl rfl)
theorem dL_law_938 : decode cL_law 938 = .ok (.iload 5, 2) := dk_21 5 (dk_at dksL_law_29 7 rfl rfl)
theorem dL_law_940 : decode cL_law 940 = .ok (.ifCond .ne 15, 3) := dk_154 0 15 (dk_at dksL_law_29 9 rfl rfl)
theorem dL_law_943 : decode cL_law 943 = .ok (.aload_n 3, 1) := dk_45 (dk_at dksL_law_29 12 rfl rfl)
theorem dL_law_944 : decode cL_law 944 = .ok (.iconst 0, 1) := dk_3 (dk_at dksL_law_29 13 rfl rfl)
theorem dL_law_945 : decode cL_law 945 = .ok (.laload, 1) := dk_47 (dk_at dksL_law_29 14 rfl rfl)
theorem dL_law_946 : decode cL_law 946 = .ok (.iload 6, 2) := dk_21 6 (dk_at dksL_law_29 15 rfl rfl)
theorem dL_law_948 : decode cL_law 948 = .ok (.i2l, 1) := dk_133 (dk_at dksL_law_29 17 rfl rfl)
theorem dL_law_949 : decode cL_law 949 = .ok (.lcmp, 1) := dk_148 (dk_at dksL_law_29 18 rfl rfl)
theorem dL_law_950 : decode cL_law 950 = .ok (.ifCond .eq 5, 3) := dk_153 0 5 (dk_at dksL_law_29 19 rfl rfl)
theorem dL_law_953 : decode cL_law 953 = .ok (.iconst 0, 1) := dk_3 (dk_at dksL_law_29 22 rfl rfl)
theorem dL_law_954 : decode cL_law 954 = .ok (.ireturn, 1) := dk_172 (dk_at dksL_law_29 23 rfl rfl)
theorem dL_law_955 : decode cL_law 955 = .ok (.goto 3303, 3) := dk_167 12 231 (dk_at dksL_law_30 0 rfl rfl)
theorem dL_law_958 : decode cL_law 958 = .ok (.aload_n 1, 1) := dk_43 (dk_at dksL_law_30 3 rfl rfl)
theorem dL_law_959 : decode cL_law 959 = .ok (.aload_n 0, 1) := dk_42 (dk_at dksL_law_30 4 rfl rfl)
theorem dL_law_960 : decode cL_law 960 = .ok (.iload 4, 2) := dk_21 4 (dk_at dksL_law_30 5 rfl rfl)
theorem dL_law_962 : decode cL_law 962 = .ok (.iconst 1, 1) := dk_4 (dk_at dksL_law_30 7 rfl rfl)
theorem dL_law_963 : decode cL_law 963 = .ok (.iadd, 1) := dk_96 (dk_at dksL_law_30 8 rfl rfl)
theorem dL_law_964 : decode cL_law 964 = .ok (.iaload, 1) := dk_46 (dk_at dksL_law_30 9 rfl rfl)
theorem dL_law_965 : decode cL_law 965 = .ok (.aload_n 0, 1) := dk_42 (dk_at dksL_law_30 10 rfl rfl)
theorem dL_law_966 : decode cL_law 966 = .ok (.iload 4, 2) := dk_21 4 (dk_at dksL_law_30 11 rfl rfl)
theorem dL_law_968 : decode cL_law 968 = .ok (.iconst 2, 1) := dk_5 (dk_at dksL_law_30 13 rfl rfl)
theorem dL_law_969 : decode cL_law 969 = .ok (.iadd, 1) := dk_96 (dk_at dksL_law_30 14 rfl rfl)
theorem dL_law_970 : decode cL_law 970 = .ok (.iaload, 1) := dk_46 (dk_at dksL_law_30 15 rfl rfl)
theorem dL_law_971 : decode cL_law 971 = .ok (.aload_n 3, 1) := dk_45 (dk_at dksL_law_30 16 rfl rfl)
theorem dL_law_972 : decode cL_law 972 = .ok (.invokestatic 224, 3) := dk_184 0 224 (dk_at dksL_law_30 17 rfl rfl)
theorem dL_law_975 : decode cL_law 975 = .ok (.istore 5, 2) := dk_54 5 (dk_at dksL_law_30 20 rfl rfl)
theorem dL_law_977 : decode cL_law 977 = .ok (.aload_n 2, 1) := dk_44 (dk_at dksL_law_30 22 rfl rfl)
theorem dL_law_978 : decode cL_law 978 = .ok (.aload_n 0, 1) := dk_42 (dk_at dksL_law_30 23 rfl rfl)
theorem dL_law_979 : decode cL_law 979 = .ok (.iload 4, 2) := dk_21 4 (dk_at dksL_law_31 0 rfl rfl)
theorem dL_law_981 : decode cL_law 981 = .ok (.iconst 1, 1) := dk_4 (dk_at dksL_law_31 2 rfl rfl)
theorem dL_law_982 : decode cL_law 982 = .ok (.iadd, 1) := dk_96 (dk_at dksL_law_31 3 rfl rfl)
theorem dL_law_983 : decode cL_law 983 = .ok (.iaload, 1) := dk_46 (dk_at dksL_law_31 4 rfl rfl)
theorem dL_law_984 : decode cL_law 984 = .ok (.aload_n 0, 1) := dk_42 (dk_at dksL_law_31 5 rfl rfl)
theorem dL_law_985 : decode cL_law 985 = .ok (.iload 4, 2) := dk_21 4 (dk_at dksL_law_31 6 rfl rfl)
theorem dL_law_987 : decode cL_law 987 = .ok (.iconst 2, 1) := dk_5 (dk_at dksL_law_31 8 rfl rfl)
theorem dL_law_988 : decode cL_law 988 = .ok (.iadd, 1) := dk_96 (dk_at dksL_law_31 9 rfl rfl)
theorem dL_law_989 : decode cL_law 989 = .ok (.iaload, 1) := dk_46 (dk_at dksL_law_31 10 rfl rfl)
theorem dL_law_990 : decode cL_law 990 = .ok (.invokevirtual 226, 3) := dk_182 0 226 (dk_at dksL_law_31 11 rfl rfl)
theorem dL_law_993 : decode cL_law 993 = .ok (.istore 6, 2) := dk_54 6 (dk_at dksL_law_31 14 rfl rfl)
theorem dL_law_995 : decode cL_law 995 = .ok (.aload_n 2, 1) := dk_44 (dk_at dksL_law_31 16 rfl rfl)
theorem dL_law_996 : decode cL_law 996 = .ok (.invokevirtual 194, 3) := dk_182 0 194 (dk_at dksL_law_31 17 rfl rfl)
theorem dL_law_999 : decode cL_law 999 = .ok (.iload 5, 2) := dk_21 5 (dk_at dksL_law_31 20 rfl rfl)
theorem dL_law_1001 : decode cL_law 1001 = .ok (.if_icmp .eq 5, 3) := dk_159 0 5 (dk_at dksL_law_32 0 rfl rfl)
theorem dL_law_1004 : decode cL_law 1004 = .ok (.iconst 0, 1) := dk_3 (dk_at dksL_law_32 3 rfl rfl)
theorem dL_law_1005 : decode cL_law 1005 = .ok (.ireturn, 1) := dk_172 (dk_at dksL_law_32 4 rfl rfl)
theorem dL_law_1006 : decode cL_law 1006 = .ok (.iload 5, 2) := dk_21 5 (dk_at dksL_law_32 5 rfl rfl)
theorem dL_law_1008 : decode cL_law 1008 = .ok (.ifCond .ne 15, 3) := dk_154 0 15 (dk_at dksL_law_32 7 rfl rfl)
theorem dL_law_1011 : decode cL_law 1011 = .ok (.aload_n 3, 1) := dk_45 (dk_at dksL_law_32 10 rfl rfl)
theorem dL_law_1012 : decode cL_law 1012 = .ok (.iconst 0, 1) := dk_3 (dk_at dksL_law_32 11 rfl rfl)
theorem dL_law_1013 : decode cL_law 1013 = .ok (.laload, 1) := dk_47 (dk_at dksL_law_32 12 rfl rfl)
theorem dL_law_1014 : decode cL_law 1014 = .ok (.iload 6, 2) := dk_21 6 (dk_at dksL_law_32 13 rfl rfl)
theorem dL_law_1016 : decode cL_law 1016 = .ok (.i2l, 1) := dk_133 (dk_at dksL_law_32 15 rfl rfl)
theorem dL_law_1017 : decode cL_law 1017 = .ok (.lcmp, 1) := dk_148 (dk_at dksL_law_32 16 rfl rfl)
theorem dL_law_1018 : decode cL_law 1018 = .ok (.ifCond .eq 5, 3) := dk_153 0 5 (dk_at dksL_law_32 17 rfl rfl)
theorem dL_law_1021 : decode cL_law 1021 = .ok (.iconst 0, 1) := dk_3 (dk_at dksL_law_32 20 rfl rfl)
theorem dL_law_1022 : decode cL_law 1022 = .ok (.ireturn, 1) := dk_172 (dk_at dksL_law_32 21 rfl rfl)
theorem dL_law_1023 : decode cL_law 1023 = .ok (.goto 3235, 3) := dk_167 12 163 (dk_at dksL_law_33 0 rfl rfl)
theorem dL_law_1026 : decode cL_law 1026 = .ok (.aload_n 1, 1) := dk_43 (dk_at dksL_law_33 3 rfl rfl)
theorem dL_law_1027 : decode cL_law 1027 = .ok (.aload_n 0, 1) := dk_42 (dk_at dksL_law_33 4 rfl rfl)
theorem dL_law_1028 : decode cL_law 1028 = .ok (.iload 4, 2) := dk_21 4 (dk_at dksL_law_33 5 rfl rfl)
theorem dL_law_1030 : decode cL_law 1030 = .ok (.iconst 1, 1) := dk_4 (dk_at dksL_law_33 7 rfl rfl)
theorem dL_law_1031 : decode cL_law 1031 = .ok (.iadd, 1) := dk_96 (dk_at dksL_law_33 8 rfl rfl)
theorem dL_law_1032 : decode cL_law 1032 = .ok (.iaload, 1) := dk_46 (dk_at dksL_law_33 9 rfl rfl)
theorem dL_law_1033 : decode cL_law 1033 = .ok (.aload_n 0, 1) := dk_42 (dk_at dksL_law_33 10 rfl rfl)
theorem dL_law_1034 : decode cL_law 1034 = .ok (.iload 4, 2) := dk_21 4 (dk_at dksL_law_33 11 rfl rfl)
theorem dL_law_1036 : decode cL_law 1036 = .ok (.iconst 2, 1) := dk_5 (dk_at dksL_law_33 13 rfl rfl)
theorem dL_law_1037 : decode cL_law 1037 = .ok (.iadd, 1) := dk_96 (dk_at dksL_law_33 14 rfl rfl)
theorem dL_law_1038 : decode cL_law 1038 = .ok (.iaload, 1) := dk_46 (dk_at dksL_law_33 15 rfl rfl)
theorem dL_law_1039 : decode cL_law 1039 = .ok (.aload_n 0, 1) := dk_42 (dk_at dksL_law_33 16 rfl rfl)
theorem dL_law_1040 : decode cL_law 1040 = .ok (.iload 4, 2) := dk_21 4 (dk_at dksL_law_33 17 rfl rfl)
theorem dL_law_1042 : decode cL_law 1042 = .ok (.iconst 3, 1) := dk_6 (dk_at dksL_law_33 19 rfl rfl)
theorem dL_law_1043 : decode cL_law 1043 = .ok (.iadd, 1) := dk_96 (dk_at dksL_law_33 20 rfl rfl)
theorem dL_law_1044 : decode cL_law 1044 = .ok (.iaload, 1) := dk_46 (dk_at dksL_law_33 21 rfl rfl)
theorem dL_law_1045 : decode cL_law 1045 = .ok (.aload_n 3, 1) := dk_45 (dk_at dksL_law_33 22 rfl rfl)
theorem dL_law_1046 : decode cL_law 1046 = .ok (.invokestatic 227, 3) := dk_184 0 227 (dk_at dksL_law_34 0 rfl rfl)
theorem dL_law_1049 : decode cL_law 1049 = .ok (.istore 5, 2) := dk_54 5 (dk_at dksL_law_34 3 rfl rfl)
theorem dL_law_1051 : decode cL_law 1051 = .ok (.aload_n 2, 1) := dk_44 (dk_at dksL_law_34 5 rfl rfl)
theorem dL_law_1052 : decode cL_law 1052 = .ok (.aload_n 0, 1) := dk_42 (dk_at dksL_law_34 6 rfl rfl)
theorem dL_law_1053 : decode cL_law 1053 = .ok (.iload 4, 2) := dk_21 4 (dk_at dksL_law_34 7 rfl rfl)
theorem dL_law_1055 : decode cL_law 1055 = .ok (.iconst 1, 1) := dk_4 (dk_at dksL_law_34 9 rfl rfl)
theorem dL_law_1056 : decode cL_law 1056 = .ok (.iadd, 1) := dk_96 (dk_at dksL_law_34 10 rfl rfl)
theorem dL_law_1057 : decode cL_law 1057 = .ok (.iaload, 1) := dk_46 (dk_at dksL_law_34 11 rfl rfl)
theorem dL_law_1058 : decode cL_law 1058 = .ok (.aload_n 0, 1) := dk_42 (dk_at dksL_law_34 12 rfl rfl)
theorem dL_law_1059 : decode cL_law 1059 = .ok (.iload 4, 2) := dk_21 4 (dk_at dksL_law_34 13 rfl rfl)
theorem dL_law_1061 : decode cL_law 1061 = .ok (.iconst 2, 1) := dk_5 (dk_at dksL_law_34 15 rfl rfl)
theorem dL_law_1062 : decode cL_law 1062 = .ok (.iadd, 1) := dk_96 (dk_at dksL_law_34 16 rfl rfl)
theorem dL_law_1063 : decode cL_law 1063 = .ok (.iaload, 1) := dk_46 (dk_at dksL_law_34 17 rfl rfl)
theorem dL_law_1064 : decode cL_law 1064 = .ok (.aload_n 0, 1) := dk_42 (dk_at dksL_law_34 18 rfl rfl)
theorem dL_law_1065 : decode cL_law 1065 = .ok (.iload 4, 2) := dk_21 4 (dk_at dksL_law_34 19 rfl rfl)
theorem dL_law_1067 : decode cL_law 1067 = .ok (.iconst 3, 1) := dk_6 (dk_at dksL_law_34 21 rfl rfl)
theorem dL_law_1068 : decode cL_law 1068 = .ok (.iadd, 1) := dk_96 (dk_at dksL_law_34 22 rfl rfl)
theorem dL_law_1069 : decode cL_law 1069 = .ok (.iaload, 1) := dk_46 (dk_at dksL_law_34 23 rfl rfl)
theorem dL_law_1070 : decode cL_law 1070 = .ok (.invokevirtual 229, 3) := dk_182 0 229 (dk_at dksL_law_35 0 rfl rfl)
theorem dL_law_1073 : decode cL_law 1073 = .ok (.istore 6, 2) := dk_54 6 (dk_at dksL_law_35 3 rfl rfl)
theorem dL_law_1075 : decode cL_law 1075 = .ok (.aload_n 2, 1) := dk_44 (dk_at dksL_law_35 5 rfl rfl)
theorem dL_law_1076 : decode cL_law 1076 = .ok (.invokevirtual 194, 3) := dk_182 0 194 (dk_at dksL_law_35 6 rfl rfl)
theorem dL_law_1079 : decode cL_law 1079 = .ok (.iload 5, 2) := dk_21 5 (dk_at dksL_law_35 9 rfl rfl)
theorem dL_law_1081 : decode cL_law 1081 = .ok (.if_icmp .eq 5, 3) := dk_159 0 5 (dk_at dksL_law_35 11 rfl rfl)
theorem dL_law_1084 : decode cL_law 1084 = .ok (.iconst 0, 1) := dk_3 (dk_at dksL_law_35 14 rfl rfl)
theorem dL_law_1085 : decode cL_law 1085 = .ok (.ireturn, 1) := dk_172 (dk_at dksL_law_35 15 rfl rfl)
theorem dL_law_1086 : decode cL_law 1086 = .ok (.iload 5, 2) := dk_21 5 (dk_at dksL_law_35 16 rfl rfl)
theorem dL_law_1088 : decode cL_law 1088 = .ok (.ifCond .ne 15, 3) := dk_154 0 15 (dk_at dksL_law_35 18 rfl rfl)
theorem dL_law_1091 : decode cL_law 1091 = .ok (.aload_n 3, 1) := dk_45 (dk_at dksL_law_35 21 rfl rfl)
theorem dL_law_1092 : decode cL_law 1092 = .ok (.iconst 0, 1) := dk_3 (dk_at dksL_law_35 22 rfl rfl)
theorem dL_law_1093 : decode cL_law 1093 = .ok (.laload, 1) := dk_47 (dk_at dksL_law_35 23 rfl rfl)
theorem dL_law_1094 : decode cL_law 1094 = .ok (.iload 6, 2) := dk_21 6 (dk_at dksL_law_36 0 rfl rfl)
theorem dL_law_1096 : decode cL_law 1096 = .ok (.i2l, 1) := dk_133 (dk_at dksL_law_36 2 rfl rfl)
theorem dL_law_1097 : decode cL_law 1097 = .ok (.lcmp, 1) := dk_148 (dk_at dksL_law_36 3 rfl rfl)
theorem dL_law_1098 : decode cL_law 1098 = .ok (.ifCond .eq 5, 3) := dk_153 0 5 (dk_at dksL_law_36 4 rfl rfl)
theorem dL_law_1101 : decode cL_law 1101 = .ok (.iconst 0, 1) := dk_3 (dk_at dksL_law_36 7 rfl rfl)
theorem dL_law_1102 : decode cL_law 1102 = .ok (.ireturn, 1) := dk_172 (dk_at dksL_law_36 8 rfl rfl)
theorem dL_law_1103 : decode cL_law 1103 = .ok (.goto 3155, 3) := dk_167 12 83 (dk_at dksL_law_36 9 rfl rfl)
theorem dL_law_1106 : decode cL_law 1106 = .ok (.aload_n 1, 1) := dk_43 (dk_at dksL_law_36 12 rfl rfl)
theorem dL_law_1107 : decode cL_law 1107 = .ok (.aload_n 0, 1) := dk_42 (dk_at dksL_law_36 13 rfl rfl)
theorem dL_law_1108 : decode cL_law 1108 = .ok (.iload 4, 2) := dk_21 4 (dk_at dksL_law_36 14 rfl rfl)
theorem dL_law_1110 : decode cL_law 1110 = .ok (.iconst 1, 1) := dk_4 (dk_at dksL_law_36 16 rfl rfl)
theorem dL_law_1111 : decode cL_law 1111 = .ok (.iadd, 1) := dk_96 (dk_at dksL_law_36 17 rfl rfl)
theorem dL_law_1112 : decode cL_law 1112 = .ok (.iaload, 1) := dk_46 (dk_at dksL_law_36 18 rfl rfl)
theorem dL_law_1113 : decode cL_law 1113 = .ok (.aload_n 0, 1) := dk_42 (dk_at dksL_law_36 19 rfl rfl)
theorem dL_law_1114 : decode cL_law 1114 = .ok (.iload 4, 2) := dk_21 4 (dk_at dksL_law_36 20 rfl rfl)
theorem dL_law_1116 : decode cL_law 1116 = .ok (.iconst 2, 1) := dk_5 (dk_at dksL_law_36 22 rfl rfl)
theorem dL_law_1117 : decode cL_law 1117 = .ok (.iadd, 1) := dk_96 (dk_at dksL_law_36 23 rfl rfl)
theorem dL_law_1118 : decode cL_law 1118 = .ok (.iaload, 1) := dk_46 (dk_at dksL_law_37 0 rfl rfl)
theorem dL_law_1119 : decode cL_law 1119 = .ok (.aload_n 0, 1) := dk_42 (dk_at dksL_law_37 1 rfl rfl)
theorem dL_law_1120 : decode cL_law 1120 = .ok (.iload 4, 2) := dk_21 4 (dk_at dksL_law_37 2 rfl rfl)
theorem dL_law_1122 : decode cL_law 1122 = .ok (.iconst 3, 1) := dk_6 (dk_at dksL_law_37 4 rfl rfl)
theorem dL_law_1123 : decode cL_law 1123 = .ok (.iadd, 1) := dk_96 (dk_at dksL_law_37 5 rfl rfl)
theorem dL_law_1124 : decode cL_law 1124 = .ok (.iaload, 1) := dk_46 (dk_at dksL_law_37 6 rfl rfl)
theorem dL_law_1125 : decode cL_law 1125 = .ok (.aload_n 3, 1) := dk_45 (dk_at dksL_law_37 7 rfl rfl)
theorem dL_law_1126 : decode cL_law 1126 = .ok (.invokestatic 230, 3) := dk_184 0 230 (dk_at dksL_law_37 8 rfl rfl)
theorem dL_law_1129 : decode cL_law 1129 = .ok (.istore 5, 2) := dk_54 5 (dk_at dksL_law_37 11 rfl rfl)
theorem dL_law_1131 : decode cL_law 1131 = .ok (.aload_n 2, 1) := dk_44 (dk_at dksL_law_37 13 rfl rfl)
theorem dL_law_1132 : decode cL_law 1132 = .ok (.aload_n 0, 1) := dk_42 (dk_at dksL_law_37 14 rfl rfl)
theorem dL_law_1133 : decode cL_law 1133 = .ok (.iload 4, 2) := dk_21 4 (dk_at dksL_law_37 15 rfl rfl)
theorem dL_law_1135 : decode cL_law 1135 = .ok (.iconst 1, 1) := dk_4 (dk_at dksL_law_37 17 rfl rfl)
theorem dL_law_1136 : decode cL_law 1136 = .ok (.iadd, 1) := dk_96 (dk_at dksL_law_37 18 rfl rfl)
theorem dL_law_1137 : decode cL_law 1137 = .ok (.iaload, 1) := dk_46 (dk_at dksL_law_37 19 rfl rfl)
theorem dL_law_1138 : decode cL_law 1138 = .ok (.aload_n 0, 1) := dk_42 (dk_at dksL_law_37 20 rfl rfl)
theorem dL_law_1139 : decode cL_law 1139 = .ok (.iload 4, 2) := dk_21 4 (dk_at dksL_law_37 21 rfl rfl)
theorem dL_law_1141 : decode cL_law 1141 = .ok (.iconst 2, 1) := dk_5 (dk_at dksL_law_37 23 rfl rfl)
theorem dL_law_1142 : decode cL_law 1142 = .ok (.iadd, 1) := dk_96 (dk_at dksL_law_38 0 rfl rfl)
theorem dL_law_1143 : decode cL_law 1143 = .ok (.iaload, 1) := dk_46 (dk_at dksL_law_38 1 rfl rfl)
theorem dL_law_1144 : decode cL_law 1144 = .ok (.aload_n 0, 1) := dk_42 (dk_at dksL_law_38 2 rfl rfl)
theorem dL_law_1145 : decode cL_law 1145 = .ok (.iload 4, 2) := dk_21 4 (dk_at dksL_law_38 3 rfl rfl)
theorem dL_law_1147 : decode cL_law 1147 = .ok (.iconst 3, 1) := dk_6 (dk_at dksL_law_38 5 rfl rfl)
theorem dL_law_1148 : decode cL_law 1148 = .ok (.iadd, 1) := dk_96 (dk_at dksL_law_38 6 rfl rfl)
theorem dL_law_1149 : decode cL_law 1149 = .ok (.iaload, 1) := dk_46 (dk_at dksL_law_38 7 rfl rfl)
theorem dL_law_1150 : decode cL_law 1150 = .ok (.invokevirtual 232, 3) := dk_182 0 232 (dk_at dksL_law_38 8 rfl rfl)
theorem dL_law_1153 : decode cL_law 1153 = .ok (.istore 6, 2) := dk_54 6 (dk_at dksL_law_38 11 rfl rfl)
theorem dL_law_1155 : decode cL_law 1155 = .ok (.aload_n 2, 1) := dk_44 (dk_at dksL_law_38 13 rfl rfl)
theorem dL_law_1156 : decode cL_law 1156 = .ok (.invokevirtual 194, 3) := dk_182 0 194 (dk_at dksL_law_38 14 rfl rfl)
theorem dL_law_1159 : decode cL_law 1159 = .ok (.iload 5, 2) := dk_21 5 (dk_at dksL_law_38 17 rfl rfl)
theorem dL_law_1161 : decode cL_law 1161 = .ok (.if_icmp .eq 5, 3) := dk_159 0 5 (dk_at dksL_law_38 19 rfl rfl)
theorem dL_law_1164 : decode cL_law 1164 = .ok (.iconst 0, 1) := dk_3 (dk_at dksL_law_38 22 rfl rfl)
theorem dL_law_1165 : decode cL_law 1165 = .ok (.ireturn, 1) := dk_172 (dk_at dksL_law_38 23 rfl rfl)
theorem dL_law_1166 : decode cL_law 1166 = .ok (.iload 5, 2) := dk_21 5 (dk_at dksL_law_39 0 rfl rfl)
theorem dL_law_1168 : decode cL_law 1168 = .ok (.ifCond .ne 22, 3) := dk_154 0 22 (dk_at dksL_law_39 2 rfl rfl)
theorem dL_law_1171 : decode cL_law 1171 = .ok (.aload_n 3, 1) := dk_45 (dk_at dksL_law_39 5 rfl rfl)
theorem dL_law_1172 : decode cL_law 1172 = .ok (.iconst 0, 1) := dk_3 (dk_at dksL_law_39 6 rfl rfl)
theorem dL_law_1173 : decode cL_law 1173 = .ok (.laload, 1) := dk_47 (dk_at dksL_law_39 7 rfl rfl)
theorem dL_law_1174 : decode cL_law 1174 = .ok (.iload 6, 2) := dk_21 6 (dk_at dksL_law_39 8 rfl rfl)
theorem dL_law_1176 : decode cL_law 1176 = .ok (.ifCond .eq 7, 3) := dk_153 0 7 (dk_at dksL_law_39 10 rfl rfl)
theorem dL_law_1179 : decode cL_law 1179 = .ok (.lconst 1, 1) := dk_10 (dk_at dksL_law_39 13 rfl rfl)
theorem dL_law_1180 : decode cL_law 1180 = .ok (.goto 4, 3) := dk_167 0 4 (dk_at dksL_law_39 14 rfl rfl)
theorem dL_law_1183 : decode cL_law 1183 = .ok (.lconst 0, 1) := dk_9 (dk_at dksL_law_39 17 rfl rfl)
theorem dL_law_1184 : decode cL_law 1184 = .ok (.lcmp, 1) := dk_148 (dk_at dksL_law_39 18 rfl rfl)
theorem dL_law_1185 : decode cL_law 1185 = .ok (.ifCond .eq 5, 3) := dk_153 0 5 (dk_at dksL_law_39 19 rfl rfl)
theorem dL_law_1188 : decode cL_law 1188 = .ok (.iconst 0, 1) := dk_3 (dk_at dksL_law_39 22 rfl rfl)
theorem dL_law_1189 : decode cL_law 1189 = .ok (.ireturn, 1) := dk_172 (dk_at dksL_law_39 23 rfl rfl)
theorem dL_law_1190 : decode cL_law 1190 = .ok (.goto 3068, 3) := dk_167 11 252 (dk_at dksL_law_40 0 rfl rfl)
theorem dL_law_1193 : decode cL_law 1193 = .ok (.aload_n 1, 1) := dk_43 (dk_at dksL_law_40 3 rfl rfl)
theorem dL_law_1194 : decode cL_law 1194 = .ok (.aload_n 0, 1) := dk_42 (dk_at dksL_law_40 4 rfl rfl)
theorem dL_law_1195 : decode cL_law 1195 = .ok (.iload 4, 2) := dk_21 4 (dk_at dksL_law_40 5 rfl rfl)
theorem dL_law_1197 : decode cL_law 1197 = .ok (.iconst 1, 1) := dk_4 (dk_at dksL_law_40 7 rfl rfl)
theorem dL_law_1198 : decode cL_law 1198 = .ok (.iadd, 1) := dk_96 (dk_at dksL_law_40 8 rfl rfl)
theorem dL_law_1199 : decode cL_law 1199 = .ok (.iaload, 1) := dk_46 (dk_at dksL_law_40 9 rfl rfl)
theorem dL_law_1200 : decode cL_law 1200 = .ok (.aload_n 0, 1) := dk_42 (dk_at dksL_law_40 10 rfl rfl)
theorem dL_law_1201 : decode cL_law 1201 = .ok (.iload 4, 2) := dk_21 4 (dk_at dksL_law_40 11 rfl rfl)
theorem dL_law_1203 : decode cL_law 1203 = .ok (.iconst 2, 1) := dk_5 (dk_at dksL_law_40 13 rfl rfl)
theorem dL_law_1204 : decode cL_law 1204 = .ok (.iadd, 1) := dk_96 (dk_at dksL_law_40 14 rfl rfl)
theorem dL_law_1205 : decode cL_law 1205 = .ok (.iaload, 1) := dk_46 (dk_at dksL_law_40 15 rfl rfl)
theorem dL_law_1206 : decode cL_law 1206 = .ok (.aload_n 0, 1) := dk_42 (dk_at dksL_law_40 16 rfl rfl)
theorem dL_law_1207 : decode cL_law 1207 = .ok (.iload 4, 2) := dk_21 4 (dk_at dksL_law_40 17 rfl rfl)
theorem dL_law_1209 : decode cL_law 1209 = .ok (.iconst 3, 1) := dk_6 (dk_at dksL_law_40 19 rfl rfl)
theorem dL_law_1210 : decode cL_law 1210 = .ok (.iadd, 1) := dk_96 (dk_at dksL_law_40 20 rfl rfl)
theorem dL_law_1211 : decode cL_law 1211 = .ok (.iaload, 1) := dk_46 (dk_at dksL_law_40 21 rfl rfl)
theorem dL_law_1212 : decode cL_law 1212 = .ok (.aload_n 3, 1) := dk_45 (dk_at dksL_law_40 22 rfl rfl)
theorem dL_law_1213 : decode cL_law 1213 = .ok (.invokestatic 233, 3) := dk_184 0 233 (dk_at dksL_law_41 0 rfl rfl)
theorem dL_law_1216 : decode cL_law 1216 = .ok (.istore 5, 2) := dk_54 5 (dk_at dksL_law_41 3 rfl rfl)
theorem dL_law_1218 : decode cL_law 1218 = .ok (.aload_n 2, 1) := dk_44 (dk_at dksL_law_41 5 rfl rfl)
theorem dL_law_1219 : decode cL_law 1219 = .ok (.aload_n 0, 1) := dk_42 (dk_at dksL_law_41 6 rfl rfl)
theorem dL_law_1220 : decode cL_law 1220 = .ok (.iload 4, 2) := dk_21 4 (dk_at dksL_law_41 7 rfl rfl)
theorem dL_law_1222 : decode cL_law 1222 = .ok (.iconst 1, 1) := dk_4 (dk_at dksL_law_41 9 rfl rfl)
theorem dL_law_1223 : decode cL_law 1223 = .ok (.iadd, 1) := dk_96 (dk_at dksL_law_41 10 rfl rfl)
theorem dL_law_1224 : decode cL_law 1224 = .ok (.iaload, 1) := dk_46 (dk_at dksL_law_41 11 rfl rfl)
theorem dL_law_1225 : decode cL_law 1225 = .ok (.aload_n 0, 1) := dk_42 (dk_at dksL_law_41 12 rfl rfl)
theorem dL_law_1226 : decode cL_law 1226 = .ok (.iload 4, 2) := dk_21 4 (dk_at dksL_law_41 13 rfl rfl)
theorem dL_law_1228 : decode cL_law 1228 = .ok (.iconst 2, 1) := dk_5 (dk_at dksL_law_41 15 rfl rfl)
theorem dL_law_1229 : decode cL_law 1229 = .ok (.iadd, 1) := dk_96 (dk_at dksL_law_41 16 rfl rfl)
theorem dL_law_1230 : decode cL_law 1230 = .ok (.iaload, 1) := dk_46 (dk_at dksL_law_41 17 rfl rfl)
theorem dL_law_1231 : decode cL_law 1231 = .ok (.aload_n 0, 1) := dk_42 (dk_at dksL_law_41 18 rfl rfl)
theorem dL_law_1232 : decode cL_law 1232 = .ok (.iload 4, 2) := dk_21 4 (dk_at dksL_law_41 19 rfl rfl)
theorem dL_law_1234 : decode cL_law 1234 = .ok (.iconst 3, 1) := dk_6 (dk_at dksL_law_41 21 rfl rfl)
theorem dL_law_1235 : decode cL_law 1235 = .ok (.iadd, 1) := dk_96 (dk_at dksL_law_41 22 rfl rfl)
theorem dL_law_1236 : decode cL_law 1236 = .ok (.iaload, 1) := dk_46 (dk_at dksL_law_41 23 rfl rfl)
theorem dL_law_1237 : decode cL_law 1237 = .ok (.invokevirtual 235, 3) := dk_182 0 235 (dk_at dksL_law_42 0 rfl rfl)
theorem dL_law_1240 : decode cL_law 1240 = .ok (.istore 6, 2) := dk_54 6 (dk_at dksL_law_42 3 rfl rfl)
theorem dL_law_1242 : decode cL_law 1242 = .ok (.aload_n 2, 1) := dk_44 (dk_at dksL_law_42 5 rfl rfl)
theorem dL_law_1243 : decode cL_law 1243 = .ok (.invokevirtual 194, 3) := dk_182 0 194 (dk_at dksL_law_42 6 rfl rfl)
theorem dL_law_1246 : decode cL_law 1246 = .ok (.iload 5, 2) := dk_21 5 (dk_at dksL_law_42 9 rfl rfl)
theorem dL_law_1248 : decode cL_law 1248 = .ok (.if_icmp .eq 5, 3) := dk_159 0 5 (dk_at dksL_law_42 11 rfl rfl)
theorem dL_law_1251 : decode cL_law 1251 = .ok (.iconst 0, 1) := dk_3 (dk_at dksL_law_42 14 rfl rfl)
theorem dL_law_1252 : decode cL_law 1252 = .ok (.ireturn, 1) := dk_172 (dk_at dksL_law_42 15 rfl rfl)
theorem dL_law_1253 : decode cL_law 1253 = .ok (.iload 5, 2) := dk_21 5 (dk_at dksL_law_42 16 rfl rfl)
theorem dL_law_1255 : decode cL_law 1255 = .ok (.ifCond .ne 15, 3) := dk_154 0 15 (dk_at dksL_law_42 18 rfl rfl)
theorem dL_law_1258 : decode cL_law 1258 = .ok (.aload_n 3, 1) := dk_45 (dk_at dksL_law_42 21 rfl rfl)
theorem dL_law_1259 : decode cL_law 1259 = .ok (.iconst 0, 1) := dk_3 (dk_at dksL_law_42 22 rfl rfl)
theorem dL_law_1260 : decode cL_law 1260 = .ok (.laload, 1) := dk_47 (dk_at dksL_law_42 23 rfl rfl)
theorem dL_law_1261 : decode cL_law 1261 = .ok (.iload 6, 2) := dk_21 6 (dk_at dksL_law_43 0 rfl rfl)
theorem dL_law_1263 : decode cL_law 1263 = .ok (.i2l, 1) := dk_133 (dk_at dksL_law_43 2 rfl rfl)
theorem dL_law_1264 : decode cL_law 1264 = .ok (.lcmp, 1) := dk_148 (dk_at dksL_law_43 3 rfl rfl)
theorem dL_law_1265 : decode cL_law 1265 = .ok (.ifCond .eq 5, 3) := dk_153 0 5 (dk_at dksL_law_43 4 rfl rfl)
theorem dL_law_1268 : decode cL_law 1268 = .ok (.iconst 0, 1) := dk_3 (dk_at dksL_law_43 7 rfl rfl)
theorem dL_law_1269 : decode cL_law 1269 = .ok (.ireturn, 1) := dk_172 (dk_at dksL_law_43 8 rfl rfl)
theorem dL_law_1270 : decode cL_law 1270 = .ok (.goto 2988, 3) := dk_167 11 172 (dk_at dksL_law_43 9 rfl rfl)
theorem dL_law_1273 : decode cL_law 1273 = .ok (.aload_n 1, 1) := dk_43 (dk_at dksL_law_43 12 rfl rfl)
theorem dL_law_1274 : decode cL_law 1274 = .ok (.aload_n 0, 1) := dk_42 (dk_at dksL_law_43 13 rfl rfl)
theorem dL_law_1275 : decode cL_law 1275 = .ok (.iload 4, 2) := dk_21 4 (dk_at dksL_law_43 14 rfl rfl)
theorem dL_law_1277 : decode cL_law 1277 = .ok (.iconst 1, 1) := dk_4 (dk_at dksL_law_43 16 rfl rfl)
theorem dL_law_1278 : decode cL_law 1278 = .ok (.iadd, 1) := dk_96 (dk_at dksL_law_43 17 rfl rfl)
theorem dL_law_1279 : decode cL_law 1279 = .ok (.iaload, 1) := dk_46 (dk_at dksL_law_43 18 rfl rfl)
theorem dL_law_1280 : decode cL_law 1280 = .ok (.aload_n 0, 1) := dk_42 (dk_at dksL_law_43 19 rfl rfl)
theorem dL_law_1281 : decode cL_law 1281 = .ok (.iload 4, 2) := dk_21 4 (dk_at dksL_law_43 20 rfl rfl)
theorem dL_law_1283 : decode cL_law 1283 = .ok (.iconst 2, 1) := dk_5 (dk_at dksL_law_43 22 rfl rfl)
theorem dL_law_1284 : decode cL_law 1284 = .ok (.iadd, 1) := dk_96 (dk_at dksL_law_43 23 rfl rfl)
theorem dL_law_1285 : decode cL_law 1285 = .ok (.iaload, 1) := dk_46 (dk_at dksL_law_44 0 rfl rfl)
theorem dL_law_1286 : decode cL_law 1286 = .ok (.aload_n 0, 1) := dk_42 (dk_at dksL_law_44 1 rfl rfl)
theorem dL_law_1287 : decode cL_law 1287 = .ok (.iload 4, 2) := dk_21 4 (dk_at dksL_law_44 2 rfl rfl)
theorem dL_law_1289 : decode cL_law 1289 = .ok (.iconst 3, 1) := dk_6 (dk_at dksL_law_44 4 rfl rfl)
theorem dL_law_1290 : decode cL_law 1290 = .ok (.iadd, 1) := dk_96 (dk_at dksL_law_44 5 rfl rfl)
theorem dL_law_1291 : decode cL_law 1291 = .ok (.iaload, 1) := dk_46 (dk_at dksL_law_44 6 rfl rfl)
theorem dL_law_1292 : decode cL_law 1292 = .ok (.aload_n 3, 1) := dk_45 (dk_at dksL_law_44 7 rfl rfl)
theorem dL_law_1293 : decode cL_law 1293 = .ok (.invokestatic 236, 3) := dk_184 0 236 (dk_at dksL_law_44 8 rfl rfl)
theorem dL_law_1296 : decode cL_law 1296 = .ok (.istore 5, 2) := dk_54 5 (dk_at dksL_law_44 11 rfl rfl)
theorem dL_law_1298 : decode cL_law 1298 = .ok (.aload_n 2, 1) := dk_44 (dk_at dksL_law_44 13 rfl rfl)
theorem dL_law_1299 : decode cL_law 1299 = .ok (.aload_n 0, 1) := dk_42 (dk_at dksL_law_44 14 rfl rfl)
theorem dL_law_1300 : decode cL_law 1300 = .ok (.iload 4, 2) := dk_21 4 (dk_at dksL_law_44 15 rfl rfl)
theorem dL_law_1302 : decode cL_law 1302 = .ok (.iconst 1, 1) := dk_4 (dk_at dksL_law_44 17 rfl rfl)
theorem dL_law_1303 : decode cL_law 1303 = .ok (.iadd, 1) := dk_96 (dk_at dksL_law_44 18 rfl rfl)
theorem dL_law_1304 : decode cL_law 1304 = .ok (.iaload, 1) := dk_46 (dk_at dksL_law_44 19 rfl rfl)
theorem dL_law_1305 : decode cL_law 1305 = .ok (.aload_n 0, 1) := dk_42 (dk_at dksL_law_44 20 rfl rfl)
theorem dL_law_1306 : decode cL_law 1306 = .ok (.iload 4, 2) := dk_21 4 (dk_at dksL_law_44 21 rfl rfl)
theorem dL_law_1308 : decode cL_law 1308 = .ok (.iconst 2, 1) := dk_5 (dk_at dksL_law_44 23 rfl rfl)
theorem dL_law_1309 : decode cL_law 1309 = .ok (.iadd, 1) := dk_96 (dk_at dksL_law_45 0 rfl rfl)
theorem dL_law_1310 : decode cL_law 1310 = .ok (.iaload, 1) := dk_46 (dk_at dksL_law_45 1 rfl rfl)
theorem dL_law_1311 : decode cL_law 1311 = .ok (.aload_n 0, 1) := dk_42 (dk_at dksL_law_45 2 rfl rfl)
theorem dL_law_1312 : decode cL_law 1312 = .ok (.iload 4, 2) := dk_21 4 (dk_at dksL_law_45 3 rfl rfl)
theorem dL_law_1314 : decode cL_law 1314 = .ok (.iconst 3, 1) := dk_6 (dk_at dksL_law_45 5 rfl rfl)
theorem dL_law_1315 : decode cL_law 1315 = .ok (.iadd, 1) := dk_96 (dk_at dksL_law_45 6 rfl rfl)
theorem dL_law_1316 : decode cL_law 1316 = .ok (.iaload, 1) := dk_46 (dk_at dksL_law_45 7 rfl rfl)
theorem dL_law_1317 : decode cL_law 1317 = .ok (.invokevirtual 238, 3) := dk_182 0 238 (dk_at dksL_law_45 8 rfl rfl)
theorem dL_law_1320 : decode cL_law 1320 = .ok (.istore 6, 2) := dk_54 6 (dk_at dksL_law_45 11 rfl rfl)
theorem dL_law_1322 : decode cL_law 1322 = .ok (.aload_n 2, 1) := dk_44 (dk_at dksL_law_45 13 rfl rfl)
theorem dL_law_1323 : decode cL_law 1323 = .ok (.invokevirtual 194, 3) := dk_182 0 194 (dk_at dksL_law_45 14 rfl rfl)
theorem dL_law_1326 : decode cL_law 1326 = .ok (.iload 5, 2) := dk_21 5 (dk_at dksL_law_45 17 rfl rfl)
theorem dL_law_1328 : decode cL_law 1328 = .ok (.if_icmp .eq 5, 3) := dk_159 0 5 (dk_at dksL_law_45 19 rfl rfl)
theorem dL_law_1331 : decode cL_law 1331 = .ok (.iconst 0, 1) := dk_3 (dk_at dksL_law_45 22 rfl rfl)
theorem dL_law_1332 : decode cL_law 1332 = .ok (.ireturn, 1) := dk_172 (dk_at dksL_law_45 23 rfl rfl)
theorem dL_law_1333 : decode cL_law 1333 = .ok (.iload 5, 2) := dk_21 5 (dk_at dksL_law_46 0 rfl rfl)
theorem dL_law_1335 : decode cL_law 1335 = .ok (.ifCond .ne 15, 3) := dk_154 0 15 (dk_at dksL_law_46 2 rfl rfl)
theorem dL_law_1338 : decode cL_law 1338 = .ok (.aload_n 3, 1) := dk_45 (dk_at dksL_law_46 5 rfl rfl)
theorem dL_law_1339 : decode cL_law 1339 = .ok (.iconst 0, 1) := dk_3 (dk_at dksL_law_46 6 rfl rfl)
theorem dL_law_1340 : decode cL_law 1340 = .ok (.laload, 1) := dk_47 (dk_at dksL_law_46 7 rfl rfl)
theorem dL_law_1341 : decode cL_law 1341 = .ok (.iload 6, 2) := dk_21 6 (dk_at dksL_law_46 8 rfl rfl)
theorem dL_law_1343 : decode cL_law 1343 = .ok (.i2l, 1) := dk_133 (dk_at dksL_law_46 10 rfl rfl)
theorem dL_law_1344 : decode cL_law 1344 = .ok (.lcmp, 1) := dk_148 (dk_at dksL_law_46 11 rfl rfl)
theorem dL_law_1345 : decode cL_law 1345 = .ok (.ifCond .eq 5, 3) := dk_153 0 5 (dk_at dksL_law_46 12 rfl rfl)
theorem dL_law_1348 : decode cL_law 1348 = .ok (.iconst 0, 1) := dk_3 (dk_at dksL_law_46 15 rfl rfl)
theorem dL_law_1349 : decode cL_law 1349 = .ok (.ireturn, 1) := dk_172 (dk_at dksL_law_46 16 rfl rfl)
theorem dL_law_1350 : decode cL_law 1350 = .ok (.goto 2908, 3) := dk_167 11 92 (dk_at dksL_law_46 17 rfl rfl)
theorem dL_law_1353 : decode cL_law 1353 = .ok (.aload_n 1, 1) := dk_43 (dk_at dksL_law_46 20 rfl rfl)
theorem dL_law_1354 : decode cL_law 1354 = .ok (.aload_n 0, 1) := dk_42 (dk_at dksL_law_46 21 rfl rfl)
theorem dL_law_1355 : decode cL_law 1355 = .ok (.iload 4, 2) := dk_21 4 (dk_at dksL_law_46 22 rfl rfl)
theorem dL_law_1357 : decode cL_law 1357 = .ok (.iconst 1, 1) := dk_4 (dk_at dksL_law_47 0 rfl rfl)
theorem dL_law_1358 : decode cL_law 1358 = .ok (.iadd, 1) := dk_96 (dk_at dksL_law_47 1 rfl rfl)
theorem dL_law_1359 : decode cL_law 1359 = .ok (.iaload, 1) := dk_46 (dk_at dksL_law_47 2 rfl rfl)
theorem dL_law_1360 : decode cL_law 1360 = .ok (.aload_n 0, 1) := dk_42 (dk_at dksL_law_47 3 rfl rfl)
theorem dL_law_1361 : decode cL_law 1361 = .ok (.iload 4, 2) := dk_21 4 (dk_at dksL_law_47 4 rfl rfl)
theorem dL_law_1363 : decode cL_law 1363 = .ok (.iconst 2, 1) := dk_5 (dk_at dksL_law_47 6 rfl rfl)
theorem dL_law_1364 : decode cL_law 1364 = .ok (.iadd, 1) := dk_96 (dk_at dksL_law_47 7 rfl rfl)
theorem dL_law_1365 : decode cL_law 1365 = .ok (.iaload, 1) := dk_46 (dk_at dksL_law_47 8 rfl rfl)
theorem dL_law_1366 : decode cL_law 1366 = .ok (.aload_n 0, 1) := dk_42 (dk_at dksL_law_47 9 rfl rfl)
theorem dL_law_1367 : decode cL_law 1367 = .ok (.iload 4, 2) := dk_21 4 (dk_at dksL_law_47 10 rfl rfl)
theorem dL_law_1369 : decode cL_law 1369 = .ok (.iconst 3, 1) := dk_6 (dk_at dksL_law_47 12 rfl rfl)
theorem dL_law_1370 : decode cL_law 1370 = .ok (.iadd, 1) := dk_96 (dk_at dksL_law_47 13 rfl rfl)
theorem dL_law_1371 : decode cL_law 1371 = .ok (.iaload, 1) := dk_46 (dk_at dksL_law_47 14 rfl rfl)
theorem dL_law_1372 : decode cL_law 1372 = .ok (.aload_n 3, 1) := dk_45 (dk_at dksL_law_47 15 rfl rfl)
theorem dL_law_1373 : decode cL_law 1373 = .ok (.invokestatic 239, 3) := dk_184 0 239 (dk_at dksL_law_47 16 rfl rfl)
theorem dL_law_1376 : decode cL_law 1376 = .ok (.istore 5, 2) := dk_54 5 (dk_at dksL_law_47 19 rfl rfl)
theorem dL_law_1378 : decode cL_law 1378 = .ok (.aload_n 2, 1) := dk_44 (dk_at dksL_law_47 21 rfl rfl)
theorem dL_law_1379 : decode cL_law 1379 = .ok (.aload_n 0, 1) := dk_42 (dk_at dksL_law_47 22 rfl rfl)
theorem dL_law_1380 : decode cL_law 1380 = .ok (.iload 4, 2) := dk_21 4 (dk_at dksL_law_48 0 rfl rfl)
theorem dL_law_1382 : decode cL_law 1382 = .ok (.iconst 1, 1) := dk_4 (dk_at dksL_law_48 2 rfl rfl)
theorem dL_law_1383 : decode cL_law 1383 = .ok (.iadd, 1) := dk_96 (dk_at dksL_law_48 3 rfl rfl)
theorem dL_law_1384 : decode cL_law 1384 = .ok (.iaload, 1) := dk_46 (dk_at dksL_law_48 4 rfl rfl)
theorem dL_law_1385 : decode cL_law 1385 = .ok (.aload_n 0, 1) := dk_42 (dk_at dksL_law_48 5 rfl rfl)
theorem dL_law_1386 : decode cL_law 1386 = .ok (.iload 4, 2) := dk_21 4 (dk_at dksL_law_48 6 rfl rfl)
theorem dL_law_1388 : decode cL_law 1388 = .ok (.iconst 2, 1) := dk_5 (dk_at dksL_law_48 8 rfl rfl)
theorem dL_law_1389 : decode cL_law 1389 = .ok (.iadd, 1) := dk_96 (dk_at dksL_law_48 9 rfl rfl)
theorem dL_law_1390 : decode cL_law 1390 = .ok (.iaload, 1) := dk_46 (dk_at dksL_law_48 10 rfl rfl)
theorem dL_law_1391 : decode cL_law 1391 = .ok (.aload_n 0, 1) := dk_42 (dk_at dksL_law_48 11 rfl rfl)
theorem dL_law_1392 : decode cL_law 1392 = .ok (.iload 4, 2) := dk_21 4 (dk_at dksL_law_48 12 rfl rfl)
theorem dL_law_1394 : decode cL_law 1394 = .ok (.iconst 3, 1) := dk_6 (dk_at dksL_law_48 14 rfl rfl)
theorem dL_law_1395 : decode cL_law 1395 = .ok (.iadd, 1) := dk_96 (dk_at dksL_law_48 15 rfl rfl)
theorem dL_law_1396 : decode cL_law 1396 = .ok (.iaload, 1) := dk_46 (dk_at dksL_law_48 16 rfl rfl)
theorem dL_law_1397 : decode cL_law 1397 = .ok (.invokevirtual 241, 3) := dk_182 0 241 (dk_at dksL_law_48 17 rfl rfl)
theorem dL_law_1400 : decode cL_law 1400 = .ok (.istore 6, 2) := dk_54 6 (dk_at dksL_law_48 20 rfl rfl)
theorem dL_law_1402 : decode cL_law 1402 = .ok (.aload_n 2, 1) := dk_44 (dk_at dksL_law_48 22 rfl rfl)
theorem dL_law_1403 : decode cL_law 1403 = .ok (.invokevirtual 194, 3) := dk_182 0 194 (dk_at dksL_law_49 0 rfl rfl)
theorem dL_law_1406 : decode cL_law 1406 = .ok (.iload 5, 2) := dk_21 5 (dk_at dksL_law_49 3 rfl rfl)
theorem dL_law_1408 : decode cL_law 1408 = .ok (.if_icmp .eq 5, 3) := dk_159 0 5 (dk_at dksL_law_49 5 rfl rfl)
theorem dL_law_1411 : decode cL_law 1411 = .ok (.iconst 0, 1) := dk_3 (dk_at dksL_law_49 8 rfl rfl)
theorem dL_law_1412 : decode cL_law 1412 = .ok (.ireturn, 1) := dk_172 (dk_at dksL_law_49 9 rfl rfl)
theorem dL_law_1413 : decode cL_law 1413 = .ok (.iload 5, 2) := dk_21 5 (dk_at dksL_law_49 10 rfl rfl)
theorem dL_law_1415 : decode cL_law 1415 = .ok (.ifCond .ne 15, 3) := dk_154 0 15 (dk_at dksL_law_49 12 rfl rfl)
theorem dL_law_1418 : decode cL_law 1418 = .ok (.aload_n 3, 1) := dk_45 (dk_at dksL_law_49 15 rfl rfl)
theorem dL_law_1419 : decode cL_law 1419 = .ok (.iconst 0, 1) := dk_3 (dk_at dksL_law_49 16 rfl rfl)
theorem dL_law_1420 : decode cL_law 1420 = .ok (.laload, 1) := dk_47 (dk_at dksL_law_49 17 rfl rfl)
theorem dL_law_1421 : decode cL_law 1421 = .ok (.iload 6, 2) := dk_21 6 (dk_at dksL_law_49 18 rfl rfl)
theorem dL_law_1423 : decode cL_law 1423 = .ok (.i2l, 1) := dk_133 (dk_at dksL_law_49 20 rfl rfl)
theorem dL_law_1424 : decode cL_law 1424 = .ok (.lcmp, 1) := dk_148 (dk_at dksL_law_49 21 rfl rfl)
theorem dL_law_1425 : decode cL_law 1425 = .ok (.ifCond .eq 5, 3) := dk_153 0 5 (dk_at dksL_law_50 0 rfl rfl)
theorem dL_law_1428 : decode cL_law 1428 = .ok (.iconst 0, 1) := dk_3 (dk_at dksL_law_50 3 rfl rfl)
theorem dL_law_1429 : decode cL_law 1429 = .ok (.ireturn, 1) := dk_172 (dk_at dksL_law_50 4 rfl rfl)
theorem dL_law_1430 : decode cL_law 1430 = .ok (.goto 2828, 3) := dk_167 11 12 (dk_at dksL_law_50 5 rfl rfl)
theorem dL_law_1433 : decode cL_law 1433 = .ok (.aload_n 1, 1) := dk_43 (dk_at dksL_law_50 8 rfl rfl)
theorem dL_law_1434 : decode cL_law 1434 = .ok (.aload_n 0, 1) := dk_42 (dk_at dksL_law_50 9 rfl rfl)
theorem dL_law_1435 : decode cL_law 1435 = .ok (.iload 4, 2) := dk_21 4 (dk_at dksL_law_50 10 rfl rfl)
theorem dL_law_1437 : decode cL_law 1437 = .ok (.iconst 1, 1) := dk_4 (dk_at dksL_law_50 12 rfl rfl)
theorem dL_law_1438 : decode cL_law 1438 = .ok (.iadd, 1) := dk_96 (dk_at dksL_law_50 13 rfl rfl)
theorem dL_law_1439 : decode cL_law 1439 = .ok (.iaload, 1) := dk_46 (dk_at dksL_law_50 14 rfl rfl)
theorem dL_law_1440 : decode cL_law 1440 = .ok (.aload_n 0, 1) := dk_42 (dk_at dksL_law_50 15 rfl rfl)
theorem dL_law_1441 : decode cL_law 1441 = .ok (.iload 4, 2) := dk_21 4 (dk_at dksL_law_50 16 rfl rfl)
theorem dL_law_1443 : decode cL_law 1443 = .ok (.iconst 2, 1) := dk_5 (dk_at dksL_law_50 18 rfl rfl)
theorem dL_law_1444 : decode cL_law 1444 = .ok (.iadd, 1) := dk_96 (dk_at dksL_law_50 19 rfl rfl)
theorem dL_law_1445 : decode cL_law 1445 = .ok (.iaload, 1) := dk_46 (dk_at dksL_law_50 20 rfl rfl)
theorem dL_law_1446 : decode cL_law 1446 = .ok (.aload_n 3, 1) := dk_45 (dk_at dksL_law_50 21 rfl rfl)
theorem dL_law_1447 : decode cL_law 1447 = .ok (.invokestatic 242, 3) := dk_184 0 242 (dk_at dksL_law_51 0 rfl rfl)
theorem dL_law_1450 : decode cL_law 1450 = .ok (.istore 5, 2) := dk_54 5 (dk_at dksL_law_51 3 rfl rfl)
theorem dL_law_1452 : decode cL_law 1452 = .ok (.aload_n 2, 1) := dk_44 (dk_at dksL_law_51 5 rfl rfl)
theorem dL_law_1453 : decode cL_law 1453 = .ok (.aload_n 0, 1) := dk_42 (dk_at dksL_law_51 6 rfl rfl)
theorem dL_law_1454 : decode cL_law 1454 = .ok (.iload 4, 2) := dk_21 4 (dk_at dksL_law_51 7 rfl rfl)
theorem dL_law_1456 : decode cL_law 1456 = .ok (.iconst 1, 1) := dk_4 (dk_at dksL_law_51 9 rfl rfl)
theorem dL_law_1457 : decode cL_law 1457 = .ok (.iadd, 1) := dk_96 (dk_at dksL_law_51 10 rfl rfl)
theorem dL_law_1458 : decode cL_law 1458 = .ok (.iaload, 1) := dk_46 (dk_at dksL_law_51 11 rfl rfl)
theorem dL_law_1459 : decode cL_law 1459 = .ok (.aload_n 0, 1) := dk_42 (dk_at dksL_law_51 12 rfl rfl)
theorem dL_law_1460 : decode cL_law 1460 = .ok (.iload 4, 2) := dk_21 4 (dk_at dksL_law_51 13 rfl rfl)
theorem dL_law_1462 : decode cL_law 1462 = .ok (.iconst 2, 1) := dk_5 (dk_at dksL_law_51 15 rfl rfl)
theorem dL_law_1463 : decode cL_law 1463 = .ok (.iadd, 1) := dk_96 (dk_at dksL_law_51 16 rfl rfl)
theorem dL_law_1464 : decode cL_law 1464 = .ok (.iaload, 1) := dk_46 (dk_at dksL_law_51 17 rfl rfl)
theorem dL_law_1465 : decode cL_law 1465 = .ok (.invokevirtual 244, 3) := dk_182 0 244 (dk_at dksL_law_51 18 rfl rfl)
theorem dL_law_1468 : decode cL_law 1468 = .ok (.istore 6, 2) := dk_54 6 (dk_at dksL_law_51 21 rfl rfl)
theorem dL_law_1470 : decode cL_law 1470 = .ok (.aload_n 2, 1) := dk_44 (dk_at dksL_law_51 23 rfl rfl)
theorem dL_law_1471 : decode cL_law 1471 = .ok (.invokevirtual 194, 3) := dk_182 0 194 (dk_at dksL_law_52 0 rfl rfl)
theorem dL_law_1474 : decode cL_law 1474 = .ok (.iload 5, 2) := dk_21 5 (dk_at dksL_law_52 3 rfl rfl)
theorem dL_law_1476 : decode cL_law 1476 = .ok (.if_icmp .eq 5, 3) := dk_159 0 5 (dk_at dksL_law_52 5 rfl rfl)
theorem dL_law_1479 : decode cL_law 1479 = .ok (.iconst 0, 1) := dk_3 (dk_at dksL_law_52 8 rfl rfl)
theorem dL_law_1480 : decode cL_law 1480 = .ok (.ireturn, 1) := dk_172 (dk_at dksL_law_52 9 rfl rfl)
theorem dL_law_1481 : decode cL_law 1481 = .ok (.iload 5, 2) := dk_21 5 (dk_at dksL_law_52 10 rfl rfl)
theorem dL_law_1483 : decode cL_law 1483 = .ok (.ifCond .ne 15, 3) := dk_154 0 15 (dk_at dksL_law_52 12 rfl rfl)
theorem dL_law_1486 : decode cL_law 1486 = .ok (.aload_n 3, 1) := dk_45 (dk_at dksL_law_52 15 rfl rfl)
theorem dL_law_1487 : decode cL_law 1487 = .ok (.iconst 0, 1) := dk_3 (dk_at dksL_law_52 16 rfl rfl)
theorem dL_law_1488 : decode cL_law 1488 = .ok (.laload, 1) := dk_47 (dk_at dksL_law_52 17 rfl rfl)
theorem dL_law_1489 : decode cL_law 1489 = .ok (.iload 6, 2) := dk_21 6 (dk_at dksL_law_52 18 rfl rfl)
theorem dL_law_1491 : decode cL_law 1491 = .ok (.i2l, 1) := dk_133 (dk_at dksL_law_52 20 rfl rfl)
theorem dL_law_1492 : decode cL_law 1492 = .ok (.lcmp, 1) := dk_148 (dk_at dksL_law_52 21 rfl rfl)
theorem dL_law_1493 : decode cL_law 1493 = .ok (.ifCond .eq 5, 3) := dk_153 0 5 (dk_at dksL_law_53 0 rfl rfl)
theorem dL_law_1496 : decode cL_law 1496 = .ok (.iconst 0, 1) := dk_3 (dk_at dksL_law_53 3 rfl rfl)
theorem dL_law_1497 : decode cL_law 1497 = .ok (.ireturn, 1) := dk_172 (dk_at dksL_law_53 4 rfl rfl)
theorem dL_law_1498 : decode cL_law 1498 = .ok (.goto 2760, 3) := dk_167 10 200 (dk_at dksL_law_53 5 rfl rfl)
theorem dL_law_1501 : decode cL_law 1501 = .ok (.aload_n 1, 1) := dk_43 (dk_at dksL_law_53 8 rfl rfl)
theorem dL_law_1502 : decode cL_law 1502 = .ok (.aload_n 0, 1) := dk_42 (dk_at dksL_law_53 9 rfl rfl)
theorem dL_law_1503 : decode cL_law 1503 = .ok (.iload 4, 2) := dk_21 4 (dk_at dksL_law_53 10 rfl rfl)
theorem dL_law_1505 : decode cL_law 1505 = .ok (.iconst 1, 1) := dk_4 (dk_at dksL_law_53 12 rfl rfl)
theorem dL_law_1506 : decode cL_law 1506 = .ok (.iadd, 1) := dk_96 (dk_at dksL_law_53 13 rfl rfl)
theorem dL_law_1507 : decode cL_law 1507 = .ok (.iaload, 1) := dk_46 (dk_at dksL_law_53 14 rfl rfl)
theorem dL_law_1508 : decode cL_law 1508 = .ok (.aload_n 0, 1) := dk_42 (dk_at dksL_law_53 15 rfl rfl)
theorem dL_law_1509 : decode cL_law 1509 = .ok (.iload 4, 2) := dk_21 4 (dk_at dksL_law_53 16 rfl rfl)
theorem dL_law_1511 : decode cL_law 1511 = .ok (.iconst 2, 1) := dk_5 (dk_at dksL_law_53 18 rfl rfl)
theorem dL_law_1512 : decode cL_law 1512 = .ok (.iadd, 1) := dk_96 (dk_at dksL_law_53 19 rfl rfl)
theorem dL_law_1513 : decode cL_law 1513 = .ok (.iaload, 1) := dk_46 (dk_at dksL_law_53 20 rfl rfl)
theorem dL_law_1514 : decode cL_law 1514 = .ok (.aload_n 0, 1) := dk_42 (dk_at dksL_law_53 21 rfl rfl)
theorem dL_law_1515 : decode cL_law 1515 = .ok (.iload 4, 2) := dk_21 4 (dk_at dksL_law_53 22 rfl rfl)
theorem dL_law_1517 : decode cL_law 1517 = .ok (.iconst 3, 1) := dk_6 (dk_at dksL_law_54 0 rfl rfl)
theorem dL_law_1518 : decode cL_law 1518 = .ok (.iadd, 1) := dk_96 (dk_at dksL_law_54 1 rfl rfl)
theorem dL_law_1519 : decode cL_law 1519 = .ok (.iaload, 1) := dk_46 (dk_at dksL_law_54 2 rfl rfl)
theorem dL_law_1520 : decode cL_law 1520 = .ok (.aload_n 3, 1) := dk_45 (dk_at dksL_law_54 3 rfl rfl)
theorem dL_law_1521 : decode cL_law 1521 = .ok (.invokestatic 245, 3) := dk_184 0 245 (dk_at dksL_law_54 4 rfl rfl)
theorem dL_law_1524 : decode cL_law 1524 = .ok (.istore 5, 2) := dk_54 5 (dk_at dksL_law_54 7 rfl rfl)
theorem dL_law_1526 : decode cL_law 1526 = .ok (.aload_n 2, 1) := dk_44 (dk_at dksL_law_54 9 rfl rfl)
theorem dL_law_1527 : decode cL_law 1527 = .ok (.aload_n 0, 1) := dk_42 (dk_at dksL_law_54 10 rfl rfl)
theorem dL_law_1528 : decode cL_law 1528 = .ok (.iload 4, 2) := dk_21 4 (dk_at dksL_law_54 11 rfl rfl)
theorem dL_law_1530 : decode cL_law 1530 = .ok (.iconst 1, 1) := dk_4 (dk_at dksL_law_54 13 rfl rfl)
theorem dL_law_1531 : decode cL_law 1531 = .ok (.iadd, 1) := dk_96 (dk_at dksL_law_54 14 rfl rfl)
theorem dL_law_1532 : decode cL_law 1532 = .ok (.iaload, 1) := dk_46 (dk_at dksL_law_54 15 rfl rfl)
theorem dL_law_1533 : decode cL_law 1533 = .ok (.aload_n 0, 1) := dk_42 (dk_at dksL_law_54 16 rfl rfl)
theorem dL_law_1534 : decode cL_law 1534 = .ok (.iload 4, 2) := dk_21 4 (dk_at dksL_law_54 17 rfl rfl)
theorem dL_law_1536 : decode cL_law 1536 = .ok (.iconst 2, 1) := dk_5 (dk_at dksL_law_54 19 rfl rfl)
theorem dL_law_1537 : decode cL_law 1537 = .ok (.iadd, 1) := dk_96 (dk_at dksL_law_54 20 rfl rfl)
theorem dL_law_1538 : decode cL_law 1538 = .ok (.iaload, 1) := dk_46 (dk_at dksL_law_54 21 rfl rfl)
theorem dL_law_1539 : decode cL_law 1539 = .ok (.aload_n 0, 1) := dk_42 (dk_at dksL_law_54 22 rfl rfl)
theorem dL_law_1540 : decode cL_law 1540 = .ok (.iload 4, 2) := dk_21 4 (dk_at dksL_law_55 0 rfl rfl)
theorem dL_law_1542 : decode cL_law 1542 = .ok (.iconst 3, 1) := dk_6 (dk_at dksL_law_55 2 rfl rfl)
theorem dL_law_1543 : decode cL_law 1543 = .ok (.iadd, 1) := dk_96 (dk_at dksL_law_55 3 rfl rfl)
theorem dL_law_1544 : decode cL_law 1544 = .ok (.iaload, 1) := dk_46 (dk_at dksL_law_55 4 rfl rfl)
theorem dL_law_1545 : decode cL_law 1545 = .ok (.invokevirtual 247, 3) := dk_182 0 247 (dk_at dksL_law_55 5 rfl rfl)
theorem dL_law_1548 : decode cL_law 1548 = .ok (.istore 6, 2) := dk_54 6 (dk_at dksL_law_55 8 rfl rfl)
theorem dL_law_1550 : decode cL_law 1550 = .ok (.aload_n 2, 1) := dk_44 (dk_at dksL_law_55 10 rfl rfl)
theorem dL_law_1551 : decode cL_law 1551 = .ok (.invokevirtual 194, 3) := dk_182 0 194 (dk_at dksL_law_55 11 rfl rfl)
theorem dL_law_1554 : decode cL_law 1554 = .ok (.iload 5, 2) := dk_21 5 (dk_at dksL_law_55 14 rfl rfl)
theorem dL_law_1556 : decode cL_law 1556 = .ok (.if_icmp .eq 5, 3) := dk_159 0 5 (dk_at dksL_law_55 16 rfl rfl)
theorem dL_law_1559 : decode cL_law 1559 = .ok (.iconst 0, 1) := dk_3 (dk_at dksL_law_55 19 rfl rfl)
theorem dL_law_1560 : decode cL_law 1560 = .ok (.ireturn, 1) := dk_172 (dk_at dksL_law_55 20 rfl rfl)
theorem dL_law_1561 : decode cL_law 1561 = .ok (.iload 5, 2) := dk_21 5 (dk_at dksL_law_55 21 rfl rfl)
theorem dL_law_1563 : decode cL_law 1563 = .ok (.ifCond .ne 15, 3) := dk_154 0 15 (dk_at dksL_law_56 0 rfl rfl)
theorem dL_law_1566 : decode cL_law 1566 = .ok (.aload_n 3, 1) := dk_45 (dk_at dksL_law_56 3 rfl rfl)
theorem dL_law_1567 : decode cL_law 1567 = .ok (.iconst 0, 1) := dk_3 (dk_at dksL_law_56 4 rfl rfl)
theorem dL_law_1568 : decode cL_law 1568 = .ok (.laload, 1) := dk_47 (dk_at dksL_law_56 5 rfl rfl)
theorem dL_law_1569 : decode cL_law 1569 = .ok (.iload 6, 2) := dk_21 6 (dk_at dksL_law_56 6 rfl rfl)
theorem dL_law_1571 : decode cL_law 1571 = .ok (.i2l, 1) := dk_133 (dk_at dksL_law_56 8 rfl rfl)
theorem dL_law_1572 : decode cL_law 1572 = .ok (.lcmp, 1) := dk_148 (dk_at dksL_law_56 9 rfl rfl)
theorem dL_law_1573 : decode cL_law 1573 = .ok (.ifCond .eq 5, 3) := dk_153 0 5 (dk_at dksL_law_56 10 rfl rfl)
theorem dL_law_1576 : decode cL_law 1576 = .ok (.iconst 0, 1) := dk_3 (dk_at dksL_law_56 13 rfl rfl)
theorem dL_law_1577 : decode cL_law 1577 = .ok (.ireturn, 1) := dk_172 (dk_at dksL_law_56 14 rfl rfl)
theorem dL_law_1578 : decode cL_law 1578 = .ok (.goto 2680, 3) := dk_167 10 120 (dk_at dksL_law_56 15 rfl rfl)
theorem dL_law_1581 : decode cL_law 1581 = .ok (.aload_n 1, 1) := dk_43 (dk_at dksL_law_56 18 rfl rfl)
theorem dL_law_1582 : decode cL_law 1582 = .ok (.aload_n 0, 1) := dk_42 (dk_at dksL_law_56 19 rfl rfl)
theorem dL_law_1583 : decode cL_law 1583 = .ok (.iload 4, 2) := dk_21 4 (dk_at dksL_law_56 20 rfl rfl)
theorem dL_law_1585 : decode cL_law 1585 = .ok (.iconst 1, 1) := dk_4 (dk_at dksL_law_56 22 rfl rfl)
theorem dL_law_1586 : decode cL_law 1586 = .ok (.iadd, 1) := dk_96 (dk_at dksL_law_56 23 rfl rfl)
theorem dL_law_1587 : decode cL_law 1587 = .ok (.iaload, 1) := dk_46 (dk_at dksL_law_57 0 rfl rfl)
theorem dL_law_1588 : decode cL_law 1588 = .ok (.aload_n 0, 1) := dk_42 (dk_at dksL_law_57 1 rfl rfl)
theorem dL_law_1589 : decode cL_law 1589 = .ok (.iload 4, 2) := dk_21 4 (dk_at dksL_law_57 2 rfl rfl)
theorem dL_law_1591 : decode cL_law 1591 = .ok (.iconst 2, 1) := dk_5 (dk_at dksL_law_57 4 rfl rfl)
theorem dL_law_1592 : decode cL_law 1592 = .ok (.iadd, 1) := dk_96 (dk_at dksL_law_57 5 rfl rfl)
theorem dL_law_1593 : decode cL_law 1593 = .ok (.iaload, 1) := dk_46 (dk_at dksL_law_57 6 rfl rfl)
theorem dL_law_1594 : decode cL_law 1594 = .ok (.aload_n 3, 1) := dk_45 (dk_at dksL_law_57 7 rfl rfl)
theorem dL_law_1595 : decode cL_law 1595 = .ok (.invokestatic 248, 3) := dk_184 0 248 (dk_at dksL_law_57 8 rfl rfl)
theorem dL_law_1598 : decode cL_law 1598 = .ok (.istore 5, 2) := dk_54 5 (dk_at dksL_law_57 11 rfl rfl)
theorem dL_law_1600 : decode cL_law 1600 = .ok (.aload_n 2, 1) := dk_44 (dk_at dksL_law_57 13 rfl rfl)
theorem dL_law_1601 : decode cL_law 1601 = .ok (.aload_n 0, 1) := dk_42 (dk_at dksL_law_57 14 rfl rfl)
theorem dL_law_1602 : decode cL_law 1602 = .ok (.iload 4, 2) := dk_21 4 (dk_at dksL_law_57 15 rfl rfl)
theorem dL_law_1604 : decode cL_law 1604 = .ok (.iconst 1, 1) := dk_4 (dk_at dksL_law_57 17 rfl rfl)
theorem dL_law_1605 : decode cL_law 1605 = .ok (.iadd, 1) := dk_96 (dk_at dksL_law_57 18 rfl rfl)
theorem dL_law_1606 : decode cL_law 1606 = .ok (.iaload, 1) := dk_46 (dk_at dksL_law_57 19 rfl rfl)
theorem dL_law_1607 : decode cL_law 1607 = .ok (.aload_n 0, 1) := dk_42 (dk_at dksL_law_57 20 rfl rfl)
theorem dL_law_1608 : decode cL_law 1608 = .ok (.iload 4, 2) := dk_21 4 (dk_at dksL_law_57 21 rfl rfl)
theorem dL_law_1610 : decode cL_law 1610 = .ok (.iconst 2, 1) := dk_5 (dk_at dksL_law_57 23 rfl rfl)
theorem dL_law_1611 : decode cL_law 1611 = .ok (.iadd, 1) := dk_96 (dk_at dksL_law_58 0 rfl rfl)
theorem dL_law_1612 : decode cL_law 1612 = .ok (.iaload, 1) := dk_46 (dk_at dksL_law_58 1 rfl rfl)
theorem dL_law_1613 : decode cL_law 1613 = .ok (.invokevirtual 250, 3) := dk_182 0 250 (dk_at dksL_law_58 2 rfl rfl)
theorem dL_law_1616 : decode cL_law 1616 = .ok (.istore 6, 2) := dk_54 6 (dk_at dksL_law_58 5 rfl rfl)
theorem dL_law_1618 : decode cL_law 1618 = .ok (.aload_n 2, 1) := dk_44 (dk_at dksL_law_58 7 rfl rfl)
theorem dL_law_1619 : decode cL_law 1619 = .ok (.invokevirtual 194, 3) := dk_182 0 194 (dk_at dksL_law_58 8 rfl rfl)
theorem dL_law_1622 : decode cL_law 1622 = .ok (.iload 5, 2) := dk_21 5 (dk_at dksL_law_58 11 rfl rfl)
theorem dL_law_1624 : decode cL_law 1624 = .ok (.if_icmp .eq 5, 3) := dk_159 0 5 (dk_at dksL_law_58 13 rfl rfl)
theorem dL_law_1627 : decode cL_law 1627 = .ok (.iconst 0, 1) := dk_3 (dk_at dksL_law_58 16 rfl rfl)
theorem dL_law_1628 : decode cL_law 1628 = .ok (.ireturn, 1) := dk_172 (dk_at dksL_law_58 17 rfl rfl)
theorem dL_law_1629 : decode cL_law 1629 = .ok (.iload 5, 2) := dk_21 5 (dk_at dksL_law_58 18 rfl rfl)
theorem dL_law_1631 : decode cL_law 1631 = .ok (.ifCond .ne 15, 3) := dk_154 0 15 (dk_at dksL_law_58 20 rfl rfl)
theorem dL_law_1634 : decode cL_law 1634 = .ok (.aload_n 3, 1) := dk_45 (dk_at dksL_law_58 23 rfl rfl)
theorem dL_law_1635 : decode cL_law 1635 = .ok (.iconst 0, 1) := dk_3 (dk_at dksL_law_59 0 rfl rfl)
theorem dL_law_1636 : decode cL_law 1636 = .ok (.laload, 1) := dk_47 (dk_at dksL_law_59 1 rfl rfl)
theorem dL_law_1637 : decode cL_law 1637 = .ok (.iload 6, 2) := dk_21 6 (dk_at dksL_law_59 2 rfl rfl)
theorem dL_law_1639 : decode cL_law 1639 = .ok (.i2l, 1) := dk_133 (dk_at dksL_law_59 4 rfl rfl)
theorem dL_law_1640 : decode cL_law 1640 = .ok (.lcmp, 1) := dk_148 (dk_at dksL_law_59 5 rfl rfl)
theorem dL_law_1641 : decode cL_law 1641 = .ok (.ifCond .eq 5, 3) := dk_153 0 5 (dk_at dksL_law_59 6 rfl rfl)
theorem dL_law_1644 : decode cL_law 1644 = .ok (.iconst 0, 1) := dk_3 (dk_at dksL_law_59 9 rfl rfl)
theorem dL_law_1645 : decode cL_law 1645 = .ok (.ireturn, 1) := dk_172 (dk_at dksL_law_59 10 rfl rfl)
theorem dL_law_1646 : decode cL_law 1646 = .ok (.goto 2612, 3) := dk_167 10 52 (dk_at dksL_law_59 11 rfl rfl)
theorem dL_law_1649 : decode cL_law 1649 = .ok (.aload_n 1, 1) := dk_43 (dk_at dksL_law_59 14 rfl rfl)
theorem dL_law_1650 : decode cL_law 1650 = .ok (.aload_n 0, 1) := dk_42 (dk_at dksL_law_59 15 rfl rfl)
theorem dL_law_1651 : decode cL_law 1651 = .ok (.iload 4, 2) := dk_21 4 (dk_at dksL_law_59 16 rfl rfl)
theorem dL_law_1653 : decode cL_law 1653 = .ok (.iconst 1, 1) := dk_4 (dk_at dksL_law_59 18 rfl rfl)
theorem dL_law_1654 : decode cL_law 1654 = .ok (.iadd, 1) := dk_96 (dk_at dksL_law_59 19 rfl rfl)
theorem dL_law_1655 : decode cL_law 1655 = .ok (.iaload, 1) := dk_46 (dk_at dksL_law_59 20 rfl rfl)
theorem dL_law_1656 : decode cL_law 1656 = .ok (.aload_n 0, 1) := dk_42 (dk_at dksL_law_59 21 rfl rfl)
theorem dL_law_1657 : decode cL_law 1657 = .ok (.iload 4, 2) := dk_21 4 (dk_at dksL_law_59 22 rfl rfl)
theorem dL_law_1659 : decode cL_law 1659 = .ok (.iconst 2, 1) := dk_5 (dk_at dksL_law_60 0 rfl rfl)
theorem dL_law_1660 : decode cL_law 1660 = .ok (.iadd, 1) := dk_96 (dk_at dksL_law_60 1 rfl rfl)
theorem dL_law_1661 : decode cL_law 1661 = .ok (.iaload, 1) := dk_46 (dk_at dksL_law_60 2 rfl rfl)
theorem dL_law_1662 : decode cL_law 1662 = .ok (.aload_n 0, 1) := dk_42 (dk_at dksL_law_60 3 rfl rfl)
theorem dL_law_1663 : decode cL_law 1663 = .ok (.iload 4, 2) := dk_21 4 (dk_at dksL_law_60 4 rfl rfl)
theorem dL_law_1665 : decode cL_law 1665 = .ok (.iconst 3, 1) := dk_6 (dk_at dksL_law_60 6 rfl rfl)
theorem dL_law_1666 : decode cL_law 1666 = .ok (.iadd, 1) := dk_96 (dk_at dksL_law_60 7 rfl rfl)
theorem dL_law_1667 : decode cL_law 1667 = .ok (.iaload, 1) := dk_46 (dk_at dksL_law_60 8 rfl rfl)
theorem dL_law_1668 : decode cL_law 1668 = .ok (.aload_n 3, 1) := dk_45 (dk_at dksL_law_60 9 rfl rfl)
theorem dL_law_1669 : decode cL_law 1669 = .ok (.invokestatic 251, 3) := dk_184 0 251 (dk_at dksL_law_60 10 rfl rfl)
theorem dL_law_1672 : decode cL_law 1672 = .ok (.istore 5, 2) := dk_54 5 (dk_at dksL_law_60 13 rfl rfl)
theorem dL_law_1674 : decode cL_law 1674 = .ok (.aload_n 2, 1) := dk_44 (dk_at dksL_law_60 15 rfl rfl)
theorem dL_law_1675 : decode cL_law 1675 = .ok (.aload_n 0, 1) := dk_42 (dk_at dksL_law_60 16 rfl rfl)
theorem dL_law_1676 : decode cL_law 1676 = .ok (.iload 4, 2) := dk_21 4 (dk_at dksL_law_60 17 rfl rfl)
theorem dL_law_1678 : decode cL_law 1678 = .ok (.iconst 1, 1) := dk_4 (dk_at dksL_law_60 19 rfl rfl)
theorem dL_law_1679 : decode cL_law 1679 = .ok (.iadd, 1) := dk_96 (dk_at dksL_law_60 20 rfl rfl)
theorem dL_law_1680 : decode cL_law 1680 = .ok (.iaload, 1) := dk_46 (dk_at dksL_law_60 21 rfl rfl)
theorem dL_law_1681 : decode cL_law 1681 = .ok (.aload_n 0, 1) := dk_42 (dk_at dksL_law_60 22 rfl rfl)
theorem dL_law_1682 : decode cL_law 1682 = .ok (.iload 4, 2) := dk_21 4 (dk_at dksL_law_61 0 rfl rfl)
theorem dL_law_1684 : decode cL_law 1684 = .ok (.iconst 2, 1) := dk_5 (dk_at dksL_law_61 2 rfl rfl)
theorem dL_law_1685 : decode cL_law 1685 = .ok (.iadd, 1) := dk_96 (dk_at dksL_law_61 3 rfl rfl)
theorem dL_law_1686 : decode cL_law 1686 = .ok (.iaload, 1) := dk_46 (dk_at dksL_law_61 4 rfl rfl)
theorem dL_law_1687 : decode cL_law 1687 = .ok (.aload_n 0, 1) := dk_42 (dk_at dksL_law_61 5 rfl rfl)
theorem dL_law_1688 : decode cL_law 1688 = .ok (.iload 4, 2) := dk_21 4 (dk_at dksL_law_61 6 rfl rfl)
theorem dL_law_1690 : decode cL_law 1690 = .ok (.iconst 3, 1) := dk_6 (dk_at dksL_law_61 8 rfl rfl)
theorem dL_law_1691 : decode cL_law 1691 = .ok (.iadd, 1) := dk_96 (dk_at dksL_law_61 9 rfl rfl)
theorem dL_law_1692 : decode cL_law 1692 = .ok (.iaload, 1) := dk_46 (dk_at dksL_law_61 10 rfl rfl)
theorem dL_law_1693 : decode cL_law 1693 = .ok (.invokevirtual 253, 3) := dk_182 0 253 (dk_at dksL_law_61 11 rfl rfl)
theorem dL_law_1696 : decode cL_law 1696 = .ok (.istore 6, 2) := dk_54 6 (dk_at dksL_law_61 14 rfl rfl)
theorem dL_law_1698 : decode cL_law 1698 = .ok (.aload_n 2, 1) := dk_44 (dk_at dksL_law_61 16 rfl rfl)
theorem dL_law_1699 : decode cL_law 1699 = .ok (.invokevirtual 194, 3) := dk_182 0 194 (dk_at dksL_law_61 17 rfl rfl)
theorem dL_law_1702 : decode cL_law 1702 = .ok (.iload 5, 2) := dk_21 5 (dk_at dksL_law_61 20 rfl rfl)
theorem dL_law_1704 : decode cL_law 1704 = .ok (.if_icmp .eq 5, 3) := dk_159 0 5 (dk_at dksL_law_62 0 rfl rfl)
theorem dL_law_1707 : decode cL_law 1707 = .ok (.iconst 0, 1) := dk_3 (dk_at dksL_law_62 3 rfl rfl)
theorem dL_law_1708 : decode cL_law 1708 = .ok (.ireturn, 1) := dk_172 (dk_at dksL_law_62 4 rfl rfl)
theorem dL_law_1709 : decode cL_law 1709 = .ok (.iload 5, 2) := dk_21 5 (dk_at dksL_law_62 5 rfl rfl)
theorem dL_law_1711 : decode cL_law 1711 = .ok (.ifCond .ne 15, 3) := dk_154 0 15 (dk_at dksL_law_62 7 rfl rfl)
theorem dL_law_1714 : decode cL_law 1714 = .ok (.aload_n 3, 1) := dk_45 (dk_at dksL_law_62 10 rfl rfl)
theorem dL_law_1715 : decode cL_law 1715 = .ok (.iconst 0, 1) := dk_3 (dk_at dksL_law_62 11 rfl rfl)
theorem dL_law_1716 : decode cL_law 1716 = .ok (.laload, 1) := dk_47 (dk_at dksL_law_62 12 rfl rfl)
theorem dL_law_1717 : decode cL_law 1717 = .ok (.iload 6, 2) := dk_21 6 (dk_at dksL_law_62 13 rfl rfl)
theorem dL_law_1719 : decode cL_law 1719 = .ok (.i2l, 1) := dk_133 (dk_at dksL_law_62 15 rfl rfl)
theorem dL_law_1720 : decode cL_law 1720 = .ok (.lcmp, 1) := dk_148 (dk_at dksL_law_62 16 rfl rfl)
theorem dL_law_1721 : decode cL_law 1721 = .ok (.ifCond .eq 5, 3) := dk_153 0 5 (dk_at dksL_law_62 17 rfl rfl)
theorem dL_law_1724 : decode cL_law 1724 = .ok (.iconst 0, 1) := dk_3 (dk_at dksL_law_62 20 rfl rfl)
theorem dL_law_1725 : decode cL_law 1725 = .ok (.ireturn, 1) := dk_172 (dk_at dksL_law_62 21 rfl rfl)
theorem dL_law_1726 : decode cL_law 1726 = .ok (.goto 2532, 3) := dk_167 9 228 (dk_at dksL_law_63 0 rfl rfl)
theorem dL_law_1729 : decode cL_law 1729 = .ok (.aload_n 1, 1) := dk_43 (dk_at dksL_law_63 3 rfl rfl)
theorem dL_law_1730 : decode cL_law 1730 = .ok (.aload_n 0, 1) := dk_42 (dk_at dksL_law_63 4 rfl rfl)
theorem dL_law_1731 : decode cL_law 1731 = .ok (.iload 4, 2) := dk_21 4 (dk_at dksL_law_63 5 rfl rfl)
theorem dL_law_1733 : decode cL_law 1733 = .ok (.iconst 1, 1) := dk_4 (dk_at dksL_law_63 7 rfl rfl)
theorem dL_law_1734 : decode cL_law 1734 = .ok (.iadd, 1) := dk_96 (dk_at dksL_law_63 8 rfl rfl)
theorem dL_law_1735 : decode cL_law 1735 = .ok (.iaload, 1) := dk_46 (dk_at dksL_law_63 9 rfl rfl)
theorem dL_law_1736 : decode cL_law 1736 = .ok (.aload_n 0, 1) := dk_42 (dk_at dksL_law_63 10 rfl rfl)
theorem dL_law_1737 : decode cL_law 1737 = .ok (.iload 4, 2) := dk_21 4 (dk_at dksL_law_63 11 rfl rfl)
theorem dL_law_1739 : decode cL_law 1739 = .ok (.iconst 2, 1) := dk_5 (dk_at dksL_law_63 13 rfl rfl)
theorem dL_law_1740 : decode cL_law 1740 = .ok (.iadd, 1) := dk_96 (dk_at dksL_law_63 14 rfl rfl)
theorem dL_law_1741 : decode cL_law 1741 = .ok (.iaload, 1) := dk_46 (dk_at dksL_law_63 15 rfl rfl)
theorem dL_law_1742 : decode cL_law 1742 = .ok (.aload_n 3, 1) := dk_45 (dk_at dksL_law_63 16 rfl rfl)
theorem dL_law_1743 : decode cL_law 1743 = .ok (.invokestatic 254, 3) := dk_184 0 254 (dk_at dksL_law_63 17 rfl rfl)
theorem dL_law_1746 : decode cL_law 1746 = .ok (.istore 5, 2) := dk_54 5 (dk_at dksL_law_63 20 rfl rfl)
theorem dL_law_1748 : decode cL_law 1748 = .ok (.aload_n 2, 1) := dk_44 (dk_at dksL_law_63 22 rfl rfl)
theorem dL_law_1749 : decode cL_law 1749 = .ok (.aload_n 0, 1) := dk_42 (dk_at dksL_law_63 23 rfl rfl)
theorem dL_law_1750 : decode cL_law 1750 = .ok (.iload 4, 2) := dk_21 4 (dk_at dksL_law_64 0 rfl rfl)
theorem dL_law_1752 : decode cL_law 1752 = .ok (.iconst 1, 1) := dk_4 (dk_at dksL_law_64 2 rfl rfl)
theorem dL_law_1753 : decode cL_law 1753 = .ok (.iadd, 1) := dk_96 (dk_at dksL_law_64 3 rfl rfl)
theorem dL_law_1754 : decode cL_law 1754 = .ok (.iaload, 1) := dk_46 (dk_at dksL_law_64 4 rfl rfl)
theorem dL_law_1755 : decode cL_law 1755 = .ok (.aload_n 0, 1) := dk_42 (dk_at dksL_law_64 5 rfl rfl)
theorem dL_law_1756 : decode cL_law 1756 = .ok (.iload 4, 2) := dk_21 4 (dk_at dksL_law_64 6 rfl rfl)
theorem dL_law_1758 : decode cL_law 1758 = .ok (.iconst 2, 1) := dk_5 (dk_at dksL_law_64 8 rfl rfl)
theorem dL_law_1759 : decode cL_law 1759 = .ok (.iadd, 1) := dk_96 (dk_at dksL_law_64 9 rfl rfl)
theorem dL_law_1760 : decode cL_law 1760 = .ok (.iaload, 1) := dk_46 (dk_at dksL_law_64 10 rfl rfl)
theorem dL_law_1761 : decode cL_law 1761 = .ok (.invokevirtual 256, 3) := dk_182 1 0 (dk_at dksL_law_64 11 rfl rfl)
theorem dL_law_1764 : decode cL_law 1764 = .ok (.istore 6, 2) := dk_54 6 (dk_at dksL_law_64 14 rfl rfl)
theorem dL_law_1766 : decode cL_law 1766 = .ok (.aload_n 2, 1) := dk_44 (dk_at dksL_law_64 16 rfl rfl)
theorem dL_law_1767 : decode cL_law 1767 = .ok (.invokevirtual 194, 3) := dk_182 0 194 (dk_at dksL_law_64 17 rfl rfl)
theorem dL_law_1770 : decode cL_law 1770 = .ok (.iload 5, 2) := dk_21 5 (dk_at dksL_law_64 20 rfl rfl)
theorem dL_law_1772 : decode cL_law 1772 = .ok (.if_icmp .eq 5, 3) := dk_159 0 5 (dk_at dksL_law_65 0 rfl rfl)
theorem dL_law_1775 : decode cL_law 1775 = .ok (.iconst 0, 1) := dk_3 (dk_at dksL_law_65 3 rfl rfl)
theorem dL_law_1776 : decode cL_law 1776 = .ok (.ireturn, 1) := dk_172 (dk_at dksL_law_65 4 rfl rfl)
theorem dL_law_1777 : decode cL_law 1777 = .ok (.iload 5, 2) := dk_21 5 (dk_at dksL_law_65 5 rfl rfl)
theorem dL_law_1779 : decode cL_law 1779 = .ok (.ifCond .ne 15, 3) := dk_154 0 15 (dk_at dksL_law_65 7 rfl rfl)
theorem dL_law_1782 : decode cL_law 1782 = .ok (.aload_n 3, 1) := dk_45 (dk_at dksL_law_65 10 rfl rfl)
theorem dL_law_1783 : decode cL_law 1783 = .ok (.iconst 0, 1) := dk_3 (dk_at dksL_law_65 11 rfl rfl)
theorem dL_law_1784 : decode cL_law 1784 = .ok (.laload, 1) := dk_47 (dk_at dksL_law_65 12 rfl rfl)
theorem dL_law_1785 : decode cL_law 1785 = .ok (.iload 6, 2) := dk_21 6 (dk_at dksL_law_65 13 rfl rfl)
theorem dL_law_1787 : decode cL_law 1787 = .ok (.i2l, 1) := dk_133 (dk_at dksL_law_65 15 rfl rfl)
theorem dL_law_1788 : decode cL_law 1788 = .ok (.lcmp, 1) := dk_148 (dk_at dksL_law_65 16 rfl rfl)
theorem dL_law_1789 : decode cL_law 1789 = .ok (.ifCond .eq 5, 3) := dk_153 0 5 (dk_at dksL_law_65 17 rfl rfl)
theorem dL_law_1792 : decode cL_law 1792 = .ok (.iconst 0, 1) := dk_3 (dk_at dksL_law_65 20 rfl rfl)
theorem dL_law_1793 : decode cL_law 1793 = .ok (.ireturn, 1) := dk_172 (dk_at dksL_law_65 21 rfl rfl)
theorem dL_law_1794 : decode cL_law 1794 = .ok (.goto 2464, 3) := dk_167 9 160 (dk_at dksL_law_66 0 rfl rfl)
theorem dL_law_1797 : decode cL_law 1797 = .ok (.aload_n 1, 1) := dk_43 (dk_at dksL_law_66 3 rfl rfl)
theorem dL_law_1798 : decode cL_law 1798 = .ok (.invokevirtual 257, 3) := dk_182 1 1 (dk_at dksL_law_66 4 rfl rfl)
theorem dL_law_1801 : decode cL_law 1801 = .ok (.aload_n 2, 1) := dk_44 (dk_at dksL_law_66 7 rfl rfl)
theorem dL_law_1802 : decode cL_law 1802 = .ok (.invokevirtual 260, 3) := dk_182 1 4 (dk_at dksL_law_66 8 rfl rfl)
theorem dL_law_1805 : decode cL_law 1805 = .ok (.if_icmp .eq 2453, 3) := dk_159 9 149 (dk_at dksL_law_66 11 rfl rfl)
theorem dL_law_1808 : decode cL_law 1808 = .ok (.iconst 0, 1) := dk_3 (dk_at dksL_law_66 14 rfl rfl)
theorem dL_law_1809 : decode cL_law 1809 = .ok (.ireturn, 1) := dk_172 (dk_at dksL_law_66 15 rfl rfl)
theorem dL_law_1810 : decode cL_law 1810 = .ok (.aload_n 1, 1) := dk_43 (dk_at dksL_law_66 16 rfl rfl)
theorem dL_law_1811 : decode cL_law 1811 = .ok (.aload_n 0, 1) := dk_42 (dk_at dksL_law_66 17 rfl rfl)
theorem dL_law_1812 : decode cL_law 1812 = .ok (.iload 4, 2) := dk_21 4 (dk_at dksL_law_66 18 rfl rfl)
theorem dL_law_1814 : decode cL_law 1814 = .ok (.iconst 1, 1) := dk_4 (dk_at dksL_law_66 20 rfl rfl)
theorem dL_law_1815 : decode cL_law 1815 = .ok (.iadd, 1) := dk_96 (dk_at dksL_law_66 21 rfl rfl)
theorem dL_law_1816 : decode cL_law 1816 = .ok (.iaload, 1) := dk_46 (dk_at dksL_law_66 22 rfl rfl)
theorem dL_law_1817 : decode cL_law 1817 = .ok (.invokevirtual 261, 3) := dk_182 1 5 (dk_at dksL_law_67 0 rfl rfl)
theorem dL_law_1820 : decode cL_law 1820 = .ok (.aload_n 2, 1) := dk_44 (dk_at dksL_law_67 3 rfl rfl)
theorem dL_law_1821 : decode cL_law 1821 = .ok (.aload_n 0, 1) := dk_42 (dk_at dksL_law_67 4 rfl rfl)
theorem dL_law_1822 : decode cL_law 1822 = .ok (.iload 4, 2) := dk_21 4 (dk_at dksL_law_67 5 rfl rfl)
theorem dL_law_1824 : decode cL_law 1824 = .ok (.iconst 1, 1) := dk_4 (dk_at dksL_law_67 7 rfl rfl)
theorem dL_law_1825 : decode cL_law 1825 = .ok (.iadd, 1) := dk_96 (dk_at dksL_law_67 8 rfl rfl)
theorem dL_law_1826 : decode cL_law 1826 = .ok (.iaload, 1) := dk_46 (dk_at dksL_law_67 9 rfl rfl)
theorem dL_law_1827 : decode cL_law 1827 = .ok (.invokevirtual 264, 3) := dk_182 1 8 (dk_at dksL_law_67 10 rfl rfl)
theorem dL_law_1830 : decode cL_law 1830 = .ok (.if_icmp .eq 2428, 3) := dk_159 9 124 (dk_at dksL_law_67 13 rfl rfl)
theorem dL_law_1833 : decode cL_law 1833 = .ok (.iconst 0, 1) := dk_3 (dk_at dksL_law_67 16 rfl rfl)
theorem dL_law_1834 : decode cL_law 1834 = .ok (.ireturn, 1) := dk_172 (dk_at dksL_law_67 17 rfl rfl)
theorem dL_law_1835 : decode cL_law 1835 = .ok (.aload_n 1, 1) := dk_43 (dk_at dksL_law_67 18 rfl rfl)
theorem dL_law_1836 : decode cL_law 1836 = .ok (.aload_n 0, 1) := dk_42 (dk_at dksL_law_67 19 rfl rfl)
theorem dL_law_1837 : decode cL_law 1837 = .ok (.iload 4, 2) := dk_21 4 (dk_at dksL_law_67 20 rfl rfl)
theorem dL_law_1839 : decode cL_law 1839 = .ok (.iconst 1, 1) := dk_4 (dk_at dksL_law_67 22 rfl rfl)
theorem dL_law_1840 : decode cL_law 1840 = .ok (.iadd, 1) := dk_96 (dk_at dksL_law_67 23 rfl rfl)
theorem dL_law_1841 : decode cL_law 1841 = .ok (.iaload, 1) := dk_46 (dk_at dksL_law_68 0 rfl rfl)
theorem dL_law_1842 : decode cL_law 1842 = .ok (.aload_n 0, 1) := dk_42 (dk_at dksL_law_68 1 rfl rfl)
theorem dL_law_1843 : decode cL_law 1843 = .ok (.iload 4, 2) := dk_21 4 (dk_at dksL_law_68 2 rfl rfl)
theorem dL_law_1845 : decode cL_law 1845 = .ok (.iconst 2, 1) := dk_5 (dk_at dksL_law_68 4 rfl rfl)
theorem dL_law_1846 : decode cL_law 1846 = .ok (.iadd, 1) := dk_96 (dk_at dksL_law_68 5 rfl rfl)
theorem dL_law_1847 : decode cL_law 1847 = .ok (.iaload, 1) := dk_46 (dk_at dksL_law_68 6 rfl rfl)
theorem dL_law_1848 : decode cL_law 1848 = .ok (.aload_n 3, 1) := dk_45 (dk_at dksL_law_68 7 rfl rfl)
theorem dL_law_1849 : decode cL_law 1849 = .ok (.invokestatic 265, 3) := dk_184 1 9 (dk_at dksL_law_68 8 rfl rfl)
theorem dL_law_1852 : decode cL_law 1852 = .ok (.istore 5, 2) := dk_54 5 (dk_at dksL_law_68 11 rfl rfl)
theorem dL_law_1854 : decode cL_law 1854 = .ok (.aload_n 2, 1) := dk_44 (dk_at dksL_law_68 13 rfl rfl)
theorem dL_law_1855 : decode cL_law 1855 = .ok (.aload_n 0, 1) := dk_42 (dk_at dksL_law_68 14 rfl rfl)
theorem dL_law_1856 : decode cL_law 1856 = .ok (.iload 4, 2) := dk_21 4 (dk_at dksL_law_68 15 rfl rfl)
theorem dL_law_1858 : decode cL_law 1858 = .ok (.iconst 1, 1) := dk_4 (dk_at dksL_law_68 17 rfl rfl)
theorem dL_law_1859 : decode cL_law 1859 = .ok (.iadd, 1) := dk_96 (dk_at dksL_law_68 18 rfl rfl)
theorem dL_law_1860 : decode cL_law 1860 = .ok (.iaload, 1) := dk_46 (dk_at dksL_law_68 19 rfl rfl)
theorem dL_law_1861 : decode cL_law 1861 = .ok (.aload_n 0, 1) := dk_42 (dk_at dksL_law_68 20 rfl rfl)
theorem dL_law_1862 : decode cL_law 1862 = .ok (.iload 4, 2) := dk_21 4 (dk_at dksL_law_68 21 rfl rfl)
theorem dL_law_1864 : decode cL_law 1864 = .ok (.iconst 2, 1) := dk_5 (dk_at dksL_law_68 23 rfl rfl)
theorem dL_law_1865 : decode cL_law 1865 = .ok (.iadd, 1) := dk_96 (dk_at dksL_law_69 0 rfl rfl)
theorem dL_law_1866 : decode cL_law 1866 = .ok (.iaload, 1) := dk_46 (dk_at dksL_law_69 1 rfl rfl)
theorem dL_law_1867 : decode cL_law 1867 = .ok (.invokevirtual 267, 3) := dk_182 1 11 (dk_at dksL_law_69 2 rfl rfl)
theorem dL_law_1870 : decode cL_law 1870 = .ok (.istore 6, 2) := dk_54 6 (dk_at dksL_law_69 5 rfl rfl)
theorem dL_law_1872 : decode cL_law 1872 = .ok (.aload_n 2, 1) := dk_44 (dk_at dksL_law_69 7 rfl rfl)
theorem dL_law_1873 : decode cL_law 1873 = .ok (.invokevirtual 194, 3) := dk_182 0 194 (dk_at dksL_law_69 8 rfl rfl)
theorem dL_law_1876 : decode cL_law 1876 = .ok (.iload 5, 2) := dk_21 5 (dk_at dksL_law_69 11 rfl rfl)
theorem dL_law_1878 : decode cL_law 1878 = .ok (.if_icmp .eq 5, 3) := dk_159 0 5 (dk_at dksL_law_69 13 rfl rfl)
theorem dL_law_1881 : decode cL_law 1881 = .ok (.iconst 0, 1) := dk_3 (dk_at dksL_law_69 16 rfl rfl)
theorem dL_law_1882 : decode cL_law 1882 = .ok (.ireturn, 1) := dk_172 (dk_at dksL_law_69 17 rfl rfl)
theorem dL_law_1883 : decode cL_law 1883 = .ok (.iload 5, 2) := dk_21 5 (dk_at dksL_law_69 18 rfl rfl)
theorem dL_law_1885 : decode cL_law 1885 = .ok (.ifCond .ne 15, 3) := dk_154 0 15 (dk_at dksL_law_69 20 rfl rfl)
theorem dL_law_1888 : decode cL_law 1888 = .ok (.aload_n 3, 1) := dk_45 (dk_at dksL_law_69 23 rfl rfl)
theorem dL_law_1889 : decode cL_law 1889 = .ok (.iconst 0, 1) := dk_3 (dk_at dksL_law_70 0 rfl rfl)
theorem dL_law_1890 : decode cL_law 1890 = .ok (.laload, 1) := dk_47 (dk_at dksL_law_70 1 rfl rfl)
theorem dL_law_1891 : decode cL_law 1891 = .ok (.iload 6, 2) := dk_21 6 (dk_at dksL_law_70 2 rfl rfl)
theorem dL_law_1893 : decode cL_law 1893 = .ok (.i2l, 1) := dk_133 (dk_at dksL_law_70 4 rfl rfl)
theorem dL_law_1894 : decode cL_law 1894 = .ok (.lcmp, 1) := dk_148 (dk_at dksL_law_70 5 rfl rfl)
theorem dL_law_1895 : decode cL_law 1895 = .ok (.ifCond .eq 5, 3) := dk_153 0 5 (dk_at dksL_law_70 6 rfl rfl)
theorem dL_law_1898 : decode cL_law 1898 = .ok (.iconst 0, 1) := dk_3 (dk_at dksL_law_70 9 rfl rfl)
theorem dL_law_1899 : decode cL_law 1899 = .ok (.ireturn, 1) := dk_172 (dk_at dksL_law_70 10 rfl rfl)
theorem dL_law_1900 : decode cL_law 1900 = .ok (.goto 2358, 3) := dk_167 9 54 (dk_at dksL_law_70 11 rfl rfl)
theorem dL_law_1903 : decode cL_law 1903 = .ok (.aload_n 1, 1) := dk_43 (dk_at dksL_law_70 14 rfl rfl)
theorem dL_law_1904 : decode cL_law 1904 = .ok (.aload_n 0, 1) := dk_42 (dk_at dksL_law_70 15 rfl rfl)
theorem dL_law_1905 : decode cL_law 1905 = .ok (.iload 4, 2) := dk_21 4 (dk_at dksL_law_70 16 rfl rfl)
theorem dL_law_1907 : decode cL_law 1907 = .ok (.iconst 1, 1) := dk_4 (dk_at dksL_law_70 18 rfl rfl)
theorem dL_law_1908 : decode cL_law 1908 = .ok (.iadd, 1) := dk_96 (dk_at dksL_law_70 19 rfl rfl)
theorem dL_law_1909 : decode cL_law 1909 = .ok (.iaload, 1) := dk_46 (dk_at dksL_law_70 20 rfl rfl)
theorem dL_law_1910 : decode cL_law 1910 = .ok (.aload_n 0, 1) := dk_42 (dk_at dksL_law_70 21 rfl rfl)
theorem dL_law_1911 : decode cL_law 1911 = .ok (.iload 4, 2) := dk_21 4 (dk_at dksL_law_70 22 rfl rfl)
theorem dL_law_1913 : decode cL_law 1913 = .ok (.iconst 2, 1) := dk_5 (dk_at dksL_law_71 0 rfl rfl)
theorem dL_law_1914 : decode cL_law 1914 = .ok (.iadd, 1) := dk_96 (dk_at dksL_law_71 1 rfl rfl)
theorem dL_law_1915 : decode cL_law 1915 = .ok (.iaload, 1) := dk_46 (dk_at dksL_law_71 2 rfl rfl)
theorem dL_law_1916 : decode cL_law 1916 = .ok (.aload_n 3, 1) := dk_45 (dk_at dksL_law_71 3 rfl rfl)
theorem dL_law_1917 : decode cL_law 1917 = .ok (.invokestatic 268, 3) := dk_184 1 12 (dk_at dksL_law_71 4 rfl rfl)
theorem dL_law_1920 : decode cL_law 1920 = .ok (.istore 5, 2) := dk_54 5 (dk_at dksL_law_71 7 rfl rfl)
theorem dL_law_1922 : decode cL_law 1922 = .ok (.aload_n 2, 1) := dk_44 (dk_at dksL_law_71 9 rfl rfl)
theorem dL_law_1923 : decode cL_law 1923 = .ok (.aload_n 0, 1) := dk_42 (dk_at dksL_law_71 10 rfl rfl)
theorem dL_law_1924 : decode cL_law 1924 = .ok (.iload 4, 2) := dk_21 4 (dk_at dksL_law_71 11 rfl rfl)
theorem dL_law_1926 : decode cL_law 1926 = .ok (.iconst 1, 1) := dk_4 (dk_at dksL_law_71 13 rfl rfl)
theorem dL_law_1927 : decode cL_law 1927 = .ok (.iadd, 1) := dk_96 (dk_at dksL_law_71 14 rfl rfl)
theorem dL_law_1928 : decode cL_law 1928 = .ok (.iaload, 1) := dk_46 (dk_at dksL_law_71 15 rfl rfl)
theorem dL_law_1929 : decode cL_law 1929 = .ok (.aload_n 0, 1) := dk_42 (dk_at dksL_law_71 16 rfl rfl)
theorem dL_law_1930 : decode cL_law 1930 = .ok (.iload 4, 2) := dk_21 4 (dk_at dksL_law_71 17 rfl rfl)
theorem dL_law_1932 : decode cL_law 1932 = .ok (.iconst 2, 1) := dk_5 (dk_at dksL_law_71 19 rfl rfl)
theorem dL_law_1933 : decode cL_law 1933 = .ok (.iadd, 1) := dk_96 (dk_at dksL_law_71 20 rfl rfl)
theorem dL_law_1934 : decode cL_law 1934 = .ok (.iaload, 1) := dk_46 (dk_at dksL_law_71 21 rfl rfl)
theorem dL_law_1935 : decode cL_law 1935 = .ok (.invokevirtual 270, 3) := dk_182 1 14 (dk_at dksL_law_72 0 rfl rfl)
theorem dL_law_1938 : decode cL_law 1938 = .ok (.istore 6, 2) := dk_54 6 (dk_at dksL_law_72 3 rfl rfl)
theorem dL_law_1940 : decode cL_law 1940 = .ok (.aload_n 2, 1) := dk_44 (dk_at dksL_law_72 5 rfl rfl)
theorem dL_law_1941 : decode cL_law 1941 = .ok (.invokevirtual 194, 3) := dk_182 0 194 (dk_at dksL_law_72 6 rfl rfl)
theorem dL_law_1944 : decode cL_law 1944 = .ok (.iload 5, 2) := dk_21 5 (dk_at dksL_law_72 9 rfl rfl)
theorem dL_law_1946 : decode cL_law 1946 = .ok (.if_icmp .eq 5, 3) := dk_159 0 5 (dk_at dksL_law_72 11 rfl rfl)
theorem dL_law_1949 : decode cL_law 1949 = .ok (.iconst 0, 1) := dk_3 (dk_at dksL_law_72 14 rfl rfl)
theorem dL_law_1950 : decode cL_law 1950 = .ok (.ireturn, 1) := dk_172 (dk_at dksL_law_72 15 rfl rfl)
theorem dL_law_1951 : decode cL_law 1951 = .ok (.iload 5, 2) := dk_21 5 (dk_at dksL_law_72 16 rfl rfl)
theorem dL_law_1953 : decode cL_law 1953 = .ok (.ifCond .ne 15, 3) := dk_154 0 15 (dk_at dksL_law_72 18 rfl rfl)
theorem dL_law_1956 : decode cL_law 1956 = .ok (.aload_n 3, 1) := dk_45 (dk_at dksL_law_72 21 rfl rfl)
theorem dL_law_1957 : decode cL_law 1957 = .ok (.iconst 0, 1) := dk_3 (dk_at dksL_law_72 22 rfl rfl)
theorem dL_law_1958 : decode cL_law 1958 = .ok (.laload, 1) := dk_47 (dk_at dksL_law_72 23 rfl rfl)
theorem dL_law_1959 : decode cL_law 1959 = .ok (.iload 6, 2) := dk_21 6 (dk_at dksL_law_73 0 rfl rfl)
theorem dL_law_1961 : decode cL_law 1961 = .ok (.i2l, 1) := dk_133 (dk_at dksL_law_73 2 rfl rfl)
theorem dL_law_1962 : decode cL_law 1962 = .ok (.lcmp, 1) := dk_148 (dk_at dksL_law_73 3 rfl rfl)
theorem dL_law_1963 : decode cL_law 1963 = .ok (.ifCond .eq 5, 3) := dk_153 0 5 (dk_at dksL_law_73 4 rfl rfl)
theorem dL_law_1966 : decode cL_law 1966 = .ok (.iconst 0, 1) := dk_3 (dk_at dksL_law_73 7 rfl rfl)
theorem dL_law_1967 : decode cL_law 1967 = .ok (.ireturn, 1) := dk_172 (dk_at dksL_law_73 8 rfl rfl)
theorem dL_law_1968 : decode cL_law 1968 = .ok (.goto 2290, 3) := dk_167 8 242 (dk_at dksL_law_73 9 rfl rfl)
theorem dL_law_1971 : decode cL_law 1971 = .ok (.aload_n 1, 1) := dk_43 (dk_at dksL_law_73 12 rfl rfl)
theorem dL_law_1972 : decode cL_law 1972 = .ok (.aload_n 0, 1) := dk_42 (dk_at dksL_law_73 13 rfl rfl)
theorem dL_law_1973 : decode cL_law 1973 = .ok (.iload 4, 2) := dk_21 4 (dk_at dksL_law_73 14 rfl rfl)
theorem dL_law_1975 : decode cL_law 1975 = .ok (.iconst 1, 1) := dk_4 (dk_at dksL_law_73 16 rfl rfl)
theorem dL_law_1976 : decode cL_law 1976 = .ok (.iadd, 1) := dk_96 (dk_at dksL_law_73 17 rfl rfl)
theorem dL_law_1977 : decode cL_law 1977 = .ok (.iaload, 1) := dk_46 (dk_at dksL_law_73 18 rfl rfl)
theorem dL_law_1978 : decode cL_law 1978 = .ok (.aload_n 0, 1) := dk_42 (dk_at dksL_law_73 19 rfl rfl)
theorem dL_law_1979 : decode cL_law 1979 = .ok (.iload 4, 2) := dk_21 4 (dk_at dksL_law_73 20 rfl rfl)
theorem dL_law_1981 : decode cL_law 1981 = .ok (.iconst 2, 1) := dk_5 (dk_at dksL_law_73 22 rfl rfl)
theorem dL_law_1982 : decode cL_law 1982 = .ok (.iadd, 1) := dk_96 (dk_at dksL_law_73 23 rfl rfl)
theorem dL_law_1983 : decode cL_law 1983 = .ok (.iaload, 1) := dk_46 (dk_at dksL_law_74 0 rfl rfl)
theorem dL_law_1984 : decode cL_law 1984 = .ok (.aload_n 3, 1) := dk_45 (dk_at dksL_law_74 1 rfl rfl)
theorem dL_law_1985 : decode cL_law 1985 = .ok (.invokestatic 271, 3) := dk_184 1 15 (dk_at dksL_law_74 2 rfl rfl)
theorem dL_law_1988 : decode cL_law 1988 = .ok (.istore 5, 2) := dk_54 5 (dk_at dksL_law_74 5 rfl rfl)
theorem dL_law_1990 : decode cL_law 1990 = .ok (.aload_n 2, 1) := dk_44 (dk_at dksL_law_74 7 rfl rfl)
theorem dL_law_1991 : decode cL_law 1991 = .ok (.aload_n 0, 1) := dk_42 (dk_at dksL_law_74 8 rfl rfl)
theorem dL_law_1992 : decode cL_law 1992 = .ok (.iload 4, 2) := dk_21 4 (dk_at dksL_law_74 9 rfl rfl)
theorem dL_law_1994 : decode cL_law 1994 = .ok (.iconst 1, 1) := dk_4 (dk_at dksL_law_74 11 rfl rfl)
theorem dL_law_1995 : decode cL_law 1995 = .ok (.iadd, 1) := dk_96 (dk_at dksL_law_74 12 rfl rfl)
theorem dL_law_1996 : decode cL_law 1996 = .ok (.iaload, 1) := dk_46 (dk_at dksL_law_74 13 rfl rfl)
theorem dL_law_1997 : decode cL_law 1997 = .ok (.aload_n 0, 1) := dk_42 (dk_at dksL_law_74 14 rfl rfl)
theorem dL_law_1998 : decode cL_law 1998 = .ok (.iload 4, 2) := dk_21 4 (dk_at dksL_law_74 15 rfl rfl)
theorem dL_law_2000 : decode cL_law 2000 = .ok (.iconst 2, 1) := dk_5 (dk_at dksL_law_74 17 rfl rfl)
theorem dL_law_2001 : decode cL_law 2001 = .ok (.iadd, 1) := dk_96 (dk_at dksL_law_74 18 rfl rfl)
theorem dL_law_2002 : decode cL_law 2002 = .ok (.iaload, 1) := dk_46 (dk_at dksL_law_74 19 rfl rfl)
theorem dL_law_2003 : decode cL_law 2003 = .ok (.invokevirtual 273, 3) := dk_182 1 17 (dk_at dksL_law_74 20 rfl rfl)
theorem dL_law_2006 : decode cL_law 2006 = .ok (.istore 6, 2) := dk_54 6 (dk_at dksL_law_75 0 rfl rfl)
theorem dL_law_2008 : decode cL_law 2008 = .ok (.aload_n 2, 1) := dk_44 (dk_at dksL_law_75 2 rfl rfl)
theorem dL_law_2009 : decode cL_law 2009 = .ok (.invokevirtual 194, 3) := dk_182 0 194 (dk_at dksL_law_75 3 rfl rfl)
theorem dL_law_2012 : decode cL_law 2012 = .ok (.iload 5, 2) := dk_21 5 (dk_at dksL_law_75 6 rfl rfl)
theorem dL_law_2014 : decode cL_law 2014 = .ok (.if_icmp .eq 5, 3) := dk_159 0 5 (dk_at dksL_law_75 8 rfl rfl)
theorem dL_law_2017 : decode cL_law 2017 = .ok (.iconst 0, 1) := dk_3 (dk_at dksL_law_75 11 rfl rfl)
theorem dL_law_2018 : decode cL_law 2018 = .ok (.ireturn, 1) := dk_172 (dk_at dksL_law_75 12 rfl rfl)
theorem dL_law_2019 : decode cL_law 2019 = .ok (.iload 5, 2) := dk_21 5 (dk_at dksL_law_75 13 rfl rfl)
theorem dL_law_2021 : decode cL_law 2021 = .ok (.ifCond .ne 15, 3) := dk_154 0 15 (dk_at dksL_law_75 15 rfl rfl)
theorem dL_law_2024 : decode cL_law 2024 = .ok (.aload_n 3, 1) := dk_45 (dk_at dksL_law_75 18 rfl rfl)
theorem dL_law_2025 : decode cL_law 2025 = .ok (.iconst 0, 1) := dk_3 (dk_at dksL_law_75 19 rfl rfl)
theorem dL_law_2026 : decode cL_law 2026 = .ok (.laload, 1) := dk_47 (dk_at dksL_law_75 20 rfl rfl)
theorem dL_law_2027 : decode cL_law 2027 = .ok (.iload 6, 2) := dk_21 6 (dk_at dksL_law_75 21 rfl rfl)
theorem dL_law_2029 : decode cL_law 2029 = .ok (.i2l, 1) := dk_133 (dk_at dksL_law_75 23 rfl rfl)
theorem dL_law_2030 : decode cL_law 2030 = .ok (.lcmp, 1) := dk_148 (dk_at dksL_law_76 0 rfl rfl)
theorem dL_law_2031 : decode cL_law 2031 = .ok (.ifCond .eq 5, 3) := dk_153 0 5 (dk_at dksL_law_76 1 rfl rfl)
theorem dL_law_2034 : decode cL_law 2034 = .ok (.iconst 0, 1) := dk_3 (dk_at dksL_law_76 4 rfl rfl)
theorem dL_law_2035 : decode cL_law 2035 = .ok (.ireturn, 1) := dk_172 (dk_at dksL_law_76 5 rfl rfl)
theorem dL_law_2036 : decode cL_law 2036 = .ok (.goto 2222, 3) := dk_167 8 174 (dk_at dksL_law_76 6 rfl rfl)
theorem dL_law_2039 : decode cL_law 2039 = .ok (.aload_n 1, 1) := dk_43 (dk_at dksL_law_76 9 rfl rfl)
theorem dL_law_2040 : decode cL_law 2040 = .ok (.aload_n 0, 1) := dk_42 (dk_at dksL_law_76 10 rfl rfl)
theorem dL_law_2041 : decode cL_law 2041 = .ok (.iload 4, 2) := dk_21 4 (dk_at dksL_law_76 11 rfl rfl)
theorem dL_law_2043 : decode cL_law 2043 = .ok (.iconst 1, 1) := dk_4 (dk_at dksL_law_76 13 rfl rfl)
theorem dL_law_2044 : decode cL_law 2044 = .ok (.iadd, 1) := dk_96 (dk_at dksL_law_76 14 rfl rfl)
theorem dL_law_2045 : decode cL_law 2045 = .ok (.iaload, 1) := dk_46 (dk_at dksL_law_76 15 rfl rfl)
theorem dL_law_2046 : decode cL_law 2046 = .ok (.aload_n 0, 1) := dk_42 (dk_at dksL_law_76 16 rfl rfl)
theorem dL_law_2047 : decode cL_law 2047 = .ok (.iload 4, 2) := dk_21 4 (dk_at dksL_law_76 17 rfl rfl)
theorem dL_law_2049 : decode cL_law 2049 = .ok (.iconst 2, 1) := dk_5 (dk_at dksL_law_76 19 rfl rfl)
theorem dL_law_2050 : decode cL_law 2050 = .ok (.iadd, 1) := dk_96 (dk_at dksL_law_76 20 rfl rfl)
theorem dL_law_2051 : decode cL_law 2051 = .ok (.iaload, 1) := dk_46 (dk_at dksL_law_76 21 rfl rfl)
theorem dL_law_2052 : decode cL_law 2052 = .ok (.aload_n 0, 1) := dk_42 (dk_at dksL_law_76 22 rfl rfl)
theorem dL_law_2053 : decode cL_law 2053 = .ok (.iload 4, 2) := dk_21 4 (dk_at dksL_law_77 0 rfl rfl)
theorem dL_law_2055 : decode cL_law 2055 = .ok (.iconst 3, 1) := dk_6 (dk_at dksL_law_77 2 rfl rfl)
theorem dL_law_2056 : decode cL_law 2056 = .ok (.iadd, 1) := dk_96 (dk_at dksL_law_77 3 rfl rfl)
theorem dL_law_2057 : decode cL_law 2057 = .ok (.iaload, 1) := dk_46 (dk_at dksL_law_77 4 rfl rfl)
theorem dL_law_2058 : decode cL_law 2058 = .ok (.aload_n 0, 1) := dk_42 (dk_at dksL_law_77 5 rfl rfl)
theorem dL_law_2059 : decode cL_law 2059 = .ok (.iload 4, 2) := dk_21 4 (dk_at dksL_law_77 6 rfl rfl)
theorem dL_law_2061 : decode cL_law 2061 = .ok (.iconst 4, 1) := dk_7 (dk_at dksL_law_77 8 rfl rfl)
theorem dL_law_2062 : decode cL_law 2062 = .ok (.iadd, 1) := dk_96 (dk_at dksL_law_77 9 rfl rfl)
theorem dL_law_2063 : decode cL_law 2063 = .ok (.iaload, 1) := dk_46 (dk_at dksL_law_77 10 rfl rfl)
theorem dL_law_2064 : decode cL_law 2064 = .ok (.aload_n 3, 1) := dk_45 (dk_at dksL_law_77 11 rfl rfl)
theorem dL_law_2065 : decode cL_law 2065 = .ok (.invokestatic 274, 3) := dk_184 1 18 (dk_at dksL_law_77 12 rfl rfl)
theorem dL_law_2068 : decode cL_law 2068 = .ok (.istore 5, 2) := dk_54 5 (dk_at dksL_law_77 15 rfl rfl)
theorem dL_law_2070 : decode cL_law 2070 = .ok (.aload_n 2, 1) := dk_44 (dk_at dksL_law_77 17 rfl rfl)
theorem dL_law_2071 : decode cL_law 2071 = .ok (.aload_n 0, 1) := dk_42 (dk_at dksL_law_77 18 rfl rfl)
theorem dL_law_2072 : decode cL_law 2072 = .ok (.iload 4, 2) := dk_21 4 (dk_at dksL_law_77 19 rfl rfl)
theorem dL_law_2074 : decode cL_law 2074 = .ok (.iconst 1, 1) := dk_4 (dk_at dksL_law_77 21 rfl rfl)
theorem dL_law_2075 : decode cL_law 2075 = .ok (.iadd, 1) := dk_96 (dk_at dksL_law_77 22 rfl rfl)
theorem dL_law_2076 : decode cL_law 2076 = .ok (.iaload, 1) := dk_46 (dk_at dksL_law_77 23 rfl rfl)
theorem dL_law_2077 : decode cL_law 2077 = .ok (.aload_n 0, 1) := dk_42 (dk_at dksL_law_78 0 rfl rfl)
theorem dL_law_2078 : decode cL_law 2078 = .ok (.iload 4, 2) := dk_21 4 (dk_at dksL_law_78 1 rfl rfl)
theorem dL_law_2080 : decode cL_law 2080 = .ok (.iconst 2, 1) := dk_5 (dk_at dksL_law_78 3 rfl rfl)
theorem dL_law_2081 : decode cL_law 2081 = .ok (.iadd, 1) := dk_96 (dk_at dksL_law_78 4 rfl rfl)
theorem dL_law_2082 : decode cL_law 2082 = .ok (.iaload, 1) := dk_46 (dk_at dksL_law_78 5 rfl rfl)
theorem dL_law_2083 : decode cL_law 2083 = .ok (.aload_n 0, 1) := dk_42 (dk_at dksL_law_78 6 rfl rfl)
theorem dL_law_2084 : decode cL_law 2084 = .ok (.iload 4, 2) := dk_21 4 (dk_at dksL_law_78 7 rfl rfl)
theorem dL_law_2086 : decode cL_law 2086 = .ok (.iconst 3, 1) := dk_6 (dk_at dksL_law_78 9 rfl rfl)
theorem dL_law_2087 : decode cL_law 2087 = .ok (.iadd, 1) := dk_96 (dk_at dksL_law_78 10 rfl rfl)
theorem dL_law_2088 : decode cL_law 2088 = .ok (.iaload, 1) := dk_46 (dk_at dksL_law_78 11 rfl rfl)
theorem dL_law_2089 : decode cL_law 2089 = .ok (.aload_n 0, 1) := dk_42 (dk_at dksL_law_78 12 rfl rfl)
theorem dL_law_2090 : decode cL_law 2090 = .ok (.iload 4, 2) := dk_21 4 (dk_at dksL_law_78 13 rfl rfl)
theorem dL_law_2092 : decode cL_law 2092 = .ok (.iconst 4, 1) := dk_7 (dk_at dksL_law_78 15 rfl rfl)
theorem dL_law_2093 : decode cL_law 2093 = .ok (.iadd, 1) := dk_96 (dk_at dksL_law_78 16 rfl rfl)
theorem dL_law_2094 : decode cL_law 2094 = .ok (.iaload, 1) := dk_46 (dk_at dksL_law_78 17 rfl rfl)
theorem dL_law_2095 : decode cL_law 2095 = .ok (.invokevirtual 276, 3) := dk_182 1 20 (dk_at dksL_law_78 18 rfl rfl)
theorem dL_law_2098 : decode cL_law 2098 = .ok (.istore 6, 2) := dk_54 6 (dk_at dksL_law_78 21 rfl rfl)
theorem dL_law_2100 : decode cL_law 2100 = .ok (.aload_n 2, 1) := dk_44 (dk_at dksL_law_78 23 rfl rfl)
theorem dL_law_2101 : decode cL_law 2101 = .ok (.invokevirtual 194, 3) := dk_182 0 194 (dk_at dksL_law_79 0 rfl rfl)
theorem dL_law_2104 : decode cL_law 2104 = .ok (.iload 5, 2) := dk_21 5 (dk_at dksL_law_79 3 rfl rfl)
theorem dL_law_2106 : decode cL_law 2106 = .ok (.if_icmp .eq 5, 3) := dk_159 0 5 (dk_at dksL_law_79 5 rfl rfl)
theorem dL_law_2109 : decode cL_law 2109 = .ok (.iconst 0, 1) := dk_3 (dk_at dksL_law_79 8 rfl rfl)
theorem dL_law_2110 : decode cL_law 2110 = .ok (.ireturn, 1) := dk_172 (dk_at dksL_law_79 9 rfl rfl)
theorem dL_law_2111 : decode cL_law 2111 = .ok (.iload 5, 2) := dk_21 5 (dk_at dksL_law_79 10 rfl rfl)
theorem dL_law_2113 : decode cL_law 2113 = .ok (.ifCond .ne 15, 3) := dk_154 0 15 (dk_at dksL_law_79 12 rfl rfl)
theorem dL_law_2116 : decode cL_law 2116 = .ok (.aload_n 3, 1) := dk_45 (dk_at dksL_law_79 15 rfl rfl)
theorem dL_law_2117 : decode cL_law 2117 = .ok (.iconst 0, 1) := dk_3 (dk_at dksL_law_79 16 rfl rfl)
theorem dL_law_2118 : decode cL_law 2118 = .ok (.laload, 1) := dk_47 (dk_at dksL_law_79 17 rfl rfl)
theorem dL_law_2119 : decode cL_law 2119 = .ok (.iload 6, 2) := dk_21 6 (dk_at dksL_law_79 18 rfl rfl)
theorem dL_law_2121 : decode cL_law 2121 = .ok (.i2l, 1) := dk_133 (dk_at dksL_law_79 20 rfl rfl)
theorem dL_law_2122 : decode cL_law 2122 = .ok (.lcmp, 1) := dk_148 (dk_at dksL_law_79 21 rfl rfl)
theorem dL_law_2123 : decode cL_law 2123 = .ok (.ifCond .eq 5, 3) := dk_153 0 5 (dk_at dksL_law_80 0 rfl rfl)
theorem dL_law_2126 : decode cL_law 2126 = .ok (.iconst 0, 1) := dk_3 (dk_at dksL_law_80 3 rfl rfl)
theorem dL_law_2127 : decode cL_law 2127 = .ok (.ireturn, 1) := dk_172 (dk_at dksL_law_80 4 rfl rfl)
theorem dL_law_2128 : decode cL_law 2128 = .ok (.goto 2130, 3) := dk_167 8 82 (dk_at dksL_law_80 5 rfl rfl)
theorem dL_law_2131 : decode cL_law 2131 = .ok (.aload_n 1, 1) := dk_43 (dk_at dksL_law_80 8 rfl rfl)
theorem dL_law_2132 : decode cL_law 2132 = .ok (.aload_n 0, 1) := dk_42 (dk_at dksL_law_80 9 rfl rfl)
theorem dL_law_2133 : decode cL_law 2133 = .ok (.iload 4, 2) := dk_21 4 (dk_at dksL_law_80 10 rfl rfl)
theorem dL_law_2135 : decode cL_law 2135 = .ok (.iconst 1, 1) := dk_4 (dk_at dksL_law_80 12 rfl rfl)
theorem dL_law_2136 : decode cL_law 2136 = .ok (.iadd, 1) := dk_96 (dk_at dksL_law_80 13 rfl rfl)
theorem dL_law_2137 : decode cL_law 2137 = .ok (.iaload, 1) := dk_46 (dk_at dksL_law_80 14 rfl rfl)
theorem dL_law_2138 : decode cL_law 2138 = .ok (.aload_n 3, 1) := dk_45 (dk_at dksL_law_80 15 rfl rfl)
theorem dL_law_2139 : decode cL_law 2139 = .ok (.invokestatic 277, 3) := dk_184 1 21 (dk_at dksL_law_80 16 rfl rfl)
theorem dL_law_2142 : decode cL_law 2142 = .ok (.istore 5, 2) := dk_54 5 (dk_at dksL_law_80 19 rfl rfl)
theorem dL_law_2144 : decode cL_law 2144 = .ok (.aload_n 2, 1) := dk_44 (dk_at dksL_law_80 21 rfl rfl)
theorem dL_law_2145 : decode cL_law 2145 = .ok (.aload_n 0, 1) := dk_42 (dk_at dksL_law_80 22 rfl rfl)
theorem dL_law_2146 : decode cL_law 2146 = .ok (.iload 4, 2) := dk_21 4 (dk_at dksL_law_81 0 rfl rfl)
theorem dL_law_2148 : decode cL_law 2148 = .ok (.iconst 1, 1) := dk_4 (dk_at dksL_law_81 2 rfl rfl)
theorem dL_law_2149 : decode cL_law 2149 = .ok (.iadd, 1) := dk_96 (dk_at dksL_law_81 3 rfl rfl)
theorem dL_law_2150 : decode cL_law 2150 = .ok (.iaload, 1) := dk_46 (dk_at dksL_law_81 4 rfl rfl)
theorem dL_law_2151 : decode cL_law 2151 = .ok (.invokevirtual 279, 3) := dk_182 1 23 (dk_at dksL_law_81 5 rfl rfl)
theorem dL_law_2154 : decode cL_law 2154 = .ok (.istore 6, 2) := dk_54 6 (dk_at dksL_law_81 8 rfl rfl)
theorem dL_law_2156 : decode cL_law 2156 = .ok (.aload_n 2, 1) := dk_44 (dk_at dksL_law_81 10 rfl rfl)
theorem dL_law_2157 : decode cL_law 2157 = .ok (.invokevirtual 194, 3) := dk_182 0 194 (dk_at dksL_law_81 11 rfl rfl)
theorem dL_law_2160 : decode cL_law 2160 = .ok (.iload 5, 2) := dk_21 5 (dk_at dksL_law_81 14 rfl rfl)
theorem dL_law_2162 : decode cL_law 2162 = .ok (.if_icmp .eq 5, 3) := dk_159 0 5 (dk_at dksL_law_81 16 rfl rfl)
theorem dL_law_2165 : decode cL_law 2165 = .ok (.iconst 0, 1) := dk_3 (dk_at dksL_law_81 19 rfl rfl)
theorem dL_law_2166 : decode cL_law 2166 = .ok (.ireturn, 1) := dk_172 (dk_at dksL_law_81 20 rfl rfl)
theorem dL_law_2167 : decode cL_law 2167 = .ok (.iload 5, 2) := dk_21 5 (dk_at dksL_law_81 21 rfl rfl)
theorem dL_law_2169 : decode cL_law 2169 = .ok (.ifCond .ne 15, 3) := dk_154 0 15 (dk_at dksL_law_82 0 rfl rfl)
theorem dL_law_2172 : decode cL_law 2172 = .ok (.aload_n 3, 1) := dk_45 (dk_at dksL_law_82 3 rfl rfl)
theorem dL_law_2173 : decode cL_law 2173 = .ok (.iconst 0, 1) := dk_3 (dk_at dksL_law_82 4 rfl rfl)
theorem dL_law_2174 : decode cL_law 2174 = .ok (.laload, 1) := dk_47 (dk_at dksL_law_82 5 rfl rfl)
theorem dL_law_2175 : decode cL_law 2175 = .ok (.iload 6, 2) := dk_21 6 (dk_at dksL_law_82 6 rfl rfl)
theorem dL_law_2177 : decode cL_law 2177 = .ok (.i2l, 1) := dk_133 (dk_at dksL_law_82 8 rfl rfl)
theorem dL_law_2178 : decode cL_law 2178 = .ok (.lcmp, 1) := dk_148 (dk_at dksL_law_82 9 rfl rfl)
theorem dL_law_2179 : decode cL_law 2179 = .ok (.ifCond .eq 5, 3) := dk_153 0 5 (dk_at dksL_law_82 10 rfl rfl)
theorem dL_law_2182 : decode cL_law 2182 = .ok (.iconst 0, 1) := dk_3 (dk_at dksL_law_82 13 rfl rfl)
theorem dL_law_2183 : decode cL_law 2183 = .ok (.ireturn, 1) := dk_172 (dk_at dksL_law_82 14 rfl rfl)
theorem dL_law_2184 : decode cL_law 2184 = .ok (.goto 2074, 3) := dk_167 8 26 (dk_at dksL_law_82 15 rfl rfl)
theorem dL_law_2187 : decode cL_law 2187 = .ok (.aload_n 1, 1) := dk_43 (dk_at dksL_law_82 18 rfl rfl)
theorem dL_law_2188 : decode cL_law 2188 = .ok (.aload_n 0, 1) := dk_42 (dk_at dksL_law_82 19 rfl rfl)
theorem dL_law_2189 : decode cL_law 2189 = .ok (.iload 4, 2) := dk_21 4 (dk_at dksL_law_82 20 rfl rfl)
theorem dL_law_2191 : decode cL_law 2191 = .ok (.iconst 1, 1) := dk_4 (dk_at dksL_law_82 22 rfl rfl)
theorem dL_law_2192 : decode cL_law 2192 = .ok (.iadd, 1) := dk_96 (dk_at dksL_law_82 23 rfl rfl)
theorem dL_law_2193 : decode cL_law 2193 = .ok (.iaload, 1) := dk_46 (dk_at dksL_law_83 0 rfl rfl)
theorem dL_law_2194 : decode cL_law 2194 = .ok (.aload_n 3, 1) := dk_45 (dk_at dksL_law_83 1 rfl rfl)
theorem dL_law_2195 : decode cL_law 2195 = .ok (.invokestatic 280, 3) := dk_184 1 24 (dk_at dksL_law_83 2 rfl rfl)
theorem dL_law_2198 : decode cL_law 2198 = .ok (.istore 5, 2) := dk_54 5 (dk_at dksL_law_83 5 rfl rfl)
theorem dL_law_2200 : decode cL_law 2200 = .ok (.aload_n 2, 1) := dk_44 (dk_at dksL_law_83 7 rfl rfl)
theorem dL_law_2201 : decode cL_law 2201 = .ok (.aload_n 0, 1) := dk_42 (dk_at dksL_law_83 8 rfl rfl)
theorem dL_law_2202 : decode cL_law 2202 = .ok (.iload 4, 2) := dk_21 4 (dk_at dksL_law_83 9 rfl rfl)
theorem dL_law_2204 : decode cL_law 2204 = .ok (.iconst 1, 1) := dk_4 (dk_at dksL_law_83 11 rfl rfl)
theorem dL_law_2205 : decode cL_law 2205 = .ok (.iadd, 1) := dk_96 (dk_at dksL_law_83 12 rfl rfl)
theorem dL_law_2206 : decode cL_law 2206 = .ok (.iaload, 1) := dk_46 (dk_at dksL_law_83 13 rfl rfl)
theorem dL_law_2207 : decode cL_law 2207 = .ok (.invokevirtual 282, 3) := dk_182 1 26 (dk_at dksL_law_83 14 rfl rfl)
theorem dL_law_2210 : decode cL_law 2210 = .ok (.istore 6, 2) := dk_54 6 (dk_at dksL_law_83 17 rfl rfl)
theorem dL_law_2212 : decode cL_law 2212 = .ok (.aload_n 2, 1) := dk_44 (dk_at dksL_law_83 19 rfl rfl)
theorem dL_law_2213 : decode cL_law 2213 = .ok (.invokevirtual 194, 3) := dk_182 0 194 (dk_at dksL_law_83 20 rfl rfl)
theorem dL_law_2216 : decode cL_law 2216 = .ok (.iload 5, 2) := dk_21 5 (dk_at dksL_law_84 0 rfl rfl)
theorem dL_law_2218 : decode cL_law 2218 = .ok (.if_icmp .eq 5, 3) := dk_159 0 5 (dk_at dksL_law_84 2 rfl rfl)
theorem dL_law_2221 : decode cL_law 2221 = .ok (.iconst 0, 1) := dk_3 (dk_at dksL_law_84 5 rfl rfl)
theorem dL_law_2222 : decode cL_law 2222 = .ok (.ireturn, 1) := dk_172 (dk_at dksL_law_84 6 rfl rfl)
theorem dL_law_2223 : decode cL_law 2223 = .ok (.iload 5, 2) := dk_21 5 (dk_at dksL_law_84 7 rfl rfl)
theorem dL_law_2225 : decode cL_law 2225 = .ok (.ifCond .ne 15, 3) := dk_154 0 15 (dk_at dksL_law_84 9 rfl rfl)
theorem dL_law_2228 : decode cL_law 2228 = .ok (.aload_n 3, 1) := dk_45 (dk_at dksL_law_84 12 rfl rfl)
theorem dL_law_2229 : decode cL_law 2229 = .ok (.iconst 0, 1) := dk_3 (dk_at dksL_law_84 13 rfl rfl)
theorem dL_law_2230 : decode cL_law 2230 = .ok (.laload, 1) := dk_47 (dk_at dksL_law_84 14 rfl rfl)
theorem dL_law_2231 : decode cL_law 2231 = .ok (.iload 6, 2) := dk_21 6 (dk_at dksL_law_84 15 rfl rfl)
theorem dL_law_2233 : decode cL_law 2233 = .ok (.i2l, 1) := dk_133 (dk_at dksL_law_84 17 rfl rfl)
theorem dL_law_2234 : decode cL_law 2234 = .ok (.lcmp, 1) := dk_148 (dk_at dksL_law_84 18 rfl rfl)
theorem dL_law_2235 : decode cL_law 2235 = .ok (.ifCond .eq 5, 3) := dk_153 0 5 (dk_at dksL_law_84 19 rfl rfl)
theorem dL_law_2238 : decode cL_law 2238 = .ok (.iconst 0, 1) := dk_3 (dk_at dksL_law_84 22 rfl rfl)
theorem dL_law_2239 : decode cL_law 2239 = .ok (.ireturn, 1) := dk_172 (dk_at dksL_law_84 23 rfl rfl)
theorem dL_law_2240 : decode cL_law 2240 = .ok (.goto 2018, 3) := dk_167 7 226 (dk_at dksL_law_85 0 rfl rfl)
theorem dL_law_2243 : decode cL_law 2243 = .ok (.aload_n 1, 1) := dk_43 (dk_at dksL_law_85 3 rfl rfl)
theorem dL_law_2244 : decode cL_law 2244 = .ok (.invokevirtual 283, 3) := dk_182 1 27 (dk_at dksL_law_85 4 rfl rfl)
theorem dL_law_2247 : decode cL_law 2247 = .ok (.aload_n 2, 1) := dk_44 (dk_at dksL_law_85 7 rfl rfl)
theorem dL_law_2248 : decode cL_law 2248 = .ok (.invokevirtual 286, 3) := dk_182 1 30 (dk_at dksL_law_85 8 rfl rfl)
theorem dL_law_2251 : decode cL_law 2251 = .ok (.if_icmp .eq 2007, 3) := dk_159 7 215 (dk_at dksL_law_85 11 rfl rfl)
theorem dL_law_2254 : decode cL_law 2254 = .ok (.iconst 0, 1) := dk_3 (dk_at dksL_law_85 14 rfl rfl)
theorem dL_law_2255 : decode cL_law 2255 = .ok (.ireturn, 1) := dk_172 (dk_at dksL_law_85 15 rfl rfl)
theorem dL_law_2256 : decode cL_law 2256 = .ok (.aload_n 1, 1) := dk_43 (dk_at dksL_law_85 16 rfl rfl)
theorem dL_law_2257 : decode cL_law 2257 = .ok (.aload_n 0, 1) := dk_42 (dk_at dksL_law_85 17 rfl rfl)
theorem dL_law_2258 : decode cL_law 2258 = .ok (.iload 4, 2) := dk_21 4 (dk_at dksL_law_85 18 rfl rfl)
theorem dL_law_2260 : decode cL_law 2260 = .ok (.iconst 1, 1) := dk_4 (dk_at dksL_law_85 20 rfl rfl)
theorem dL_law_2261 : decode cL_law 2261 = .ok (.iadd, 1) := dk_96 (dk_at dksL_law_85 21 rfl rfl)
theorem dL_law_2262 : decode cL_law 2262 = .ok (.iaload, 1) := dk_46 (dk_at dksL_law_85 22 rfl rfl)
theorem dL_law_2263 : decode cL_law 2263 = .ok (.aload_n 0, 1) := dk_42 (dk_at dksL_law_85 23 rfl rfl)
theorem dL_law_2264 : decode cL_law 2264 = .ok (.iload 4, 2) := dk_21 4 (dk_at dksL_law_86 0 rfl rfl)
theorem dL_law_2266 : decode cL_law 2266 = .ok (.iconst 2, 1) := dk_5 (dk_at dksL_law_86 2 rfl rfl)
theorem dL_law_2267 : decode cL_law 2267 = .ok (.iadd, 1) := dk_96 (dk_at dksL_law_86 3 rfl rfl)
theorem dL_law_2268 : decode cL_law 2268 = .ok (.iaload, 1) := dk_46 (dk_at dksL_law_86 4 rfl rfl)
theorem dL_law_2269 : decode cL_law 2269 = .ok (.aload_n 3, 1) := dk_45 (dk_at dksL_law_86 5 rfl rfl)
theorem dL_law_2270 : decode cL_law 2270 = .ok (.invokestatic 287, 3) := dk_184 1 31 (dk_at dksL_law_86 6 rfl rfl)
theorem dL_law_2273 : decode cL_law 2273 = .ok (.istore 5, 2) := dk_54 5 (dk_at dksL_law_86 9 rfl rfl)
theorem dL_law_2275 : decode cL_law 2275 = .ok (.aload_n 2, 1) := dk_44 (dk_at dksL_law_86 11 rfl rfl)
theorem dL_law_2276 : decode cL_law 2276 = .ok (.aload_n 0, 1) := dk_42 (dk_at dksL_law_86 12 rfl rfl)
theorem dL_law_2277 : decode cL_law 2277 = .ok (.iload 4, 2) := dk_21 4 (dk_at dksL_law_86 13 rfl rfl)
theorem dL_law_2279 : decode cL_law 2279 = .ok (.iconst 1, 1) := dk_4 (dk_at dksL_law_86 15 rfl rfl)
theorem dL_law_2280 : decode cL_law 2280 = .ok (.iadd, 1) := dk_96 (dk_at dksL_law_86 16 rfl rfl)
theorem dL_law_2281 : decode cL_law 2281 = .ok (.iaload, 1) := dk_46 (dk_at dksL_law_86 17 rfl rfl)
theorem dL_law_2282 : decode cL_law 2282 = .ok (.aload_n 0, 1) := dk_42 (dk_at dksL_law_86 18 rfl rfl)
theorem dL_law_2283 : decode cL_law 2283 = .ok (.iload 4, 2) := dk_21 4 (dk_at dksL_law_86 19 rfl rfl)
theorem dL_law_2285 : decode cL_law 2285 = .ok (.iconst 2, 1) := dk_5 (dk_at dksL_law_86 21 rfl rfl)
theorem dL_law_2286 : decode cL_law 2286 = .ok (.iadd, 1) := dk_96 (dk_at dksL_law_86 22 rfl rfl)
theorem dL_law_2287 : decode cL_law 2287 = .ok (.iaload, 1) := dk_46 (dk_at dksL_law_86 23 rfl rfl)
theorem dL_law_2288 : decode cL_law 2288 = .ok (.invokevirtual 289, 3) := dk_182 1 33 (dk_at dksL_law_87 0 rfl rfl)
theorem dL_law_2291 : decode cL_law 2291 = .ok (.istore 6, 2) := dk_54 6 (dk_at dksL_law_87 3 rfl rfl)
theorem dL_law_2293 : decode cL_law 2293 = .ok (.aload_n 2, 1) := dk_44 (dk_at dksL_law_87 5 rfl rfl)
theorem dL_law_2294 : decode cL_law 2294 = .ok (.invokevirtual 194, 3) := dk_182 0 194 (dk_at dksL_law_87 6 rfl rfl)
theorem dL_law_2297 : decode cL_law 2297 = .ok (.iload 5, 2) := dk_21 5 (dk_at dksL_law_87 9 rfl rfl)
theorem dL_law_2299 : decode cL_law 2299 = .ok (.if_icmp .eq 5, 3) := dk_159 0 5 (dk_at dksL_law_87 11 rfl rfl)
theorem dL_law_2302 : decode cL_law 2302 = .ok (.iconst 0, 1) := dk_3 (dk_at dksL_law_87 14 rfl rfl)
theorem dL_law_2303 : decode cL_law 2303 = .ok (.ireturn, 1) := dk_172 (dk_at dksL_law_87 15 rfl rfl)
theorem dL_law_2304 : decode cL_law 2304 = .ok (.iload 5, 2) := dk_21 5 (dk_at dksL_law_87 16 rfl rfl)
theorem dL_law_2306 : decode cL_law 2306 = .ok (.ifCond .ne 15, 3) := dk_154 0 15 (dk_at dksL_law_87 18 rfl rfl)
theorem dL_law_2309 : decode cL_law 2309 = .ok (.aload_n 3, 1) := dk_45 (dk_at dksL_law_87 21 rfl rfl)
theorem dL_law_2310 : decode cL_law 2310 = .ok (.iconst 0, 1) := dk_3 (dk_at dksL_law_87 22 rfl rfl)
theorem dL_law_2311 : decode cL_law 2311 = .ok (.laload, 1) := dk_47 (dk_at dksL_law_87 23 rfl rfl)
theorem dL_law_2312 : decode cL_law 2312 = .ok (.iload 6, 2) := dk_21 6 (dk_at dksL_law_88 0 rfl rfl)
theorem dL_law_2314 : decode cL_law 2314 = .ok (.i2l, 1) := dk_133 (dk_at dksL_law_88 2 rfl rfl)
theorem dL_law_2315 : decode cL_law 2315 = .ok (.lcmp, 1) := dk_148 (dk_at dksL_law_88 3 rfl rfl)
theorem dL_law_2316 : decode cL_law 2316 = .ok (.ifCond .eq 5, 3) := dk_153 0 5 (dk_at dksL_law_88 4 rfl rfl)
theorem dL_law_2319 : decode cL_law 2319 = .ok (.iconst 0, 1) := dk_3 (dk_at dksL_law_88 7 rfl rfl)
theorem dL_law_2320 : decode cL_law 2320 = .ok (.ireturn, 1) := dk_172 (dk_at dksL_law_88 8 rfl rfl)
theorem dL_law_2321 : decode cL_law 2321 = .ok (.goto 1937, 3) := dk_167 7 145 (dk_at dksL_law_88 9 rfl rfl)
theorem dL_law_2324 : decode cL_law 2324 = .ok (.aload_n 1, 1) := dk_43 (dk_at dksL_law_88 12 rfl rfl)
theorem dL_law_2325 : decode cL_law 2325 = .ok (.aload_n 0, 1) := dk_42 (dk_at dksL_law_88 13 rfl rfl)
theorem dL_law_2326 : decode cL_law 2326 = .ok (.iload 4, 2) := dk_21 4 (dk_at dksL_law_88 14 rfl rfl)
theorem dL_law_2328 : decode cL_law 2328 = .ok (.iconst 1, 1) := dk_4 (dk_at dksL_law_88 16 rfl rfl)
theorem dL_law_2329 : decode cL_law 2329 = .ok (.iadd, 1) := dk_96 (dk_at dksL_law_88 17 rfl rfl)
theorem dL_law_2330 : decode cL_law 2330 = .ok (.iaload, 1) := dk_46 (dk_at dksL_law_88 18 rfl rfl)
theorem dL_law_2331 : decode cL_law 2331 = .ok (.aload_n 3, 1) := dk_45 (dk_at dksL_law_88 19 rfl rfl)
theorem dL_law_2332 : decode cL_law 2332 = .ok (.invokestatic 290, 3) := dk_184 1 34 (dk_at dksL_law_88 20 rfl rfl)
theorem dL_law_2335 : decode cL_law 2335 = .ok (.istore 5, 2) := dk_54 5 (dk_at dksL_law_89 0 rfl rfl)
theorem dL_law_2337 : decode cL_law 2337 = .ok (.aload_n 2, 1) := dk_44 (dk_at dksL_law_89 2 rfl rfl)
theorem dL_law_2338 : decode cL_law 2338 = .ok (.aload_n 0, 1) := dk_42 (dk_at dksL_law_89 3 rfl rfl)
theorem dL_law_2339 : decode cL_law 2339 = .ok (.iload 4, 2) := dk_21 4 (dk_at dksL_law_89 4 rfl rfl)
theorem dL_law_2341 : decode cL_law 2341 = .ok (.iconst 1, 1) := dk_4 (dk_at dksL_law_89 6 rfl rfl)
theorem dL_law_2342 : decode cL_law 2342 = .ok (.iadd, 1) := dk_96 (dk_at dksL_law_89 7 rfl rfl)
theorem dL_law_2343 : decode cL_law 2343 = .ok (.iaload, 1) := dk_46 (dk_at dksL_law_89 8 rfl rfl)
theorem dL_law_2344 : decode cL_law 2344 = .ok (.invokevirtual 292, 3) := dk_182 1 36 (dk_at dksL_law_89 9 rfl rfl)
theorem dL_law_2347 : decode cL_law 2347 = .ok (.istore 6, 2) := dk_54 6 (dk_at dksL_law_89 12 rfl rfl)
theorem dL_law_2349 : decode cL_law 2349 = .ok (.aload_n 2, 1) := dk_44 (dk_at dksL_law_89 14 rfl rfl)
theorem dL_law_2350 : decode cL_law 2350 = .ok (.invokevirtual 194, 3) := dk_182 0 194 (dk_at dksL_law_89 15 rfl rfl)
theorem dL_law_2353 : decode cL_law 2353 = .ok (.iload 5, 2) := dk_21 5 (dk_at dksL_law_89 18 rfl rfl)
theorem dL_law_2355 : decode cL_law 2355 = .ok (.if_icmp .eq 5, 3) := dk_159 0 5 (dk_at dksL_law_89 20 rfl rfl)
theorem dL_law_2358 : decode cL_law 2358 = .ok (.iconst 0, 1) := dk_3 (dk_at dksL_law_89 23 rfl rfl)
theorem dL_law_2359 : decode cL_law 2359 = .ok (.ireturn, 1) := dk_172 (dk_at dksL_law_90 0 rfl rfl)
theorem dL_law_2360 : decode cL_law 2360 = .ok (.iload 5, 2) := dk_21 5 (dk_at dksL_law_90 1 rfl rfl)
theorem dL_law_2362 : decode cL_law 2362 = .ok (.ifCond .ne 15, 3) := dk_154 0 15 (dk_at dksL_law_90 3 rfl rfl)
theorem dL_law_2365 : decode cL_law 2365 = .ok (.aload_n 3, 1) := dk_45 (dk_at dksL_law_90 6 rfl rfl)
theorem dL_law_2366 : decode cL_law 2366 = .ok (.iconst 0, 1) := dk_3 (dk_at dksL_law_90 7 rfl rfl)
theorem dL_law_2367 : decode cL_law 2367 = .ok (.laload, 1) := dk_47 (dk_at dksL_law_90 8 rfl rfl)
theorem dL_law_2368 : decode cL_law 2368 = .ok (.iload 6, 2) := dk_21 6 (dk_at dksL_law_90 9 rfl rfl)
theorem dL_law_2370 : decode cL_law 2370 = .ok (.i2l, 1) := dk_133 (dk_at dksL_law_90 11 rfl rfl)
theorem dL_law_2371 : decode cL_law 2371 = .ok (.lcmp, 1) := dk_148 (dk_at dksL_law_90 12 rfl rfl)
theorem dL_law_2372 : decode cL_law 2372 = .ok (.ifCond .eq 5, 3) := dk_153 0 5 (dk_at dksL_law_90 13 rfl rfl)
theorem dL_law_2375 : decode cL_law 2375 = .ok (.iconst 0, 1) := dk_3 (dk_at dksL_law_90 16 rfl rfl)
theorem dL_law_2376 : decode cL_law 2376 = .ok (.ireturn, 1) := dk_172 (dk_at dksL_law_90 17 rfl rfl)
theorem dL_law_2377 : decode cL_law 2377 = .ok (.goto 1881, 3) := dk_167 7 89 (dk_at dksL_law_90 18 rfl rfl)
theorem dL_law_2380 : decode cL_law 2380 = .ok (.aload_n 1, 1) := dk_43 (dk_at dksL_law_90 21 rfl rfl)
theorem dL_law_2381 : decode cL_law 2381 = .ok (.aload_n 0, 1) := dk_42 (dk_at dksL_law_90 22 rfl rfl)
theorem dL_law_2382 : decode cL_law 2382 = .ok (.iload 4, 2) := dk_21 4 (dk_at dksL_law_91 0 rfl rfl)
theorem dL_law_2384 : decode cL_law 2384 = .ok (.iconst 1, 1) := dk_4 (dk_at dksL_law_91 2 rfl rfl)
theorem dL_law_2385 : decode cL_law 2385 = .ok (.iadd, 1) := dk_96 (dk_at dksL_law_91 3 rfl rfl)
theorem dL_law_2386 : decode cL_law 2386 = .ok (.iaload, 1) := dk_46 (dk_at dksL_law_91 4 rfl rfl)
theorem dL_law_2387 : decode cL_law 2387 = .ok (.aload_n 3, 1) := dk_45 (dk_at dksL_law_91 5 rfl rfl)
theorem dL_law_2388 : decode cL_law 2388 = .ok (.invokestatic 293, 3) := dk_184 1 37 (dk_at dksL_law_91 6 rfl rfl)
theorem dL_law_2391 : decode cL_law 2391 = .ok (.istore 5, 2) := dk_54 5 (dk_at dksL_law_91 9 rfl rfl)
theorem dL_law_2393 : decode cL_law 2393 = .ok (.aload_n 2, 1) := dk_44 (dk_at dksL_law_91 11 rfl rfl)
theorem dL_law_2394 : decode cL_law 2394 = .ok (.aload_n 0, 1) := dk_42 (dk_at dksL_law_91 12 rfl rfl)
theorem dL_law_2395 : decode cL_law 2395 = .ok (.iload 4, 2) := dk_21 4 (dk_at dksL_law_91 13 rfl rfl)
theorem dL_law_2397 : decode cL_law 2397 = .ok (.iconst 1, 1) := dk_4 (dk_at dksL_law_91 15 rfl rfl)
theorem dL_law_2398 : decode cL_law 2398 = .ok (.iadd, 1) := dk_96 (dk_at dksL_law_91 16 rfl rfl)
theorem dL_law_2399 : decode cL_law 2399 = .ok (.iaload, 1) := dk_46 (dk_at dksL_law_91 17 rfl rfl)
theorem dL_law_2400 : decode cL_law 2400 = .ok (.invokevirtual 295, 3) := dk_182 1 39 (dk_at dksL_law_91 18 rfl rfl)
theorem dL_law_2403 : decode cL_law 2403 = .ok (.istore 6, 2) := dk_54 6 (dk_at dksL_law_91 21 rfl rfl)
theorem dL_law_2405 : decode cL_law 2405 = .ok (.aload_n 2, 1) := dk_44 (dk_at dksL_law_91 23 rfl rfl)
theorem dL_law_2406 : decode cL_law 2406 = .ok (.invokevirtual 194, 3) := dk_182 0 194 (dk_at dksL_law_92 0 rfl rfl)
theorem dL_law_2409 : decode cL_law 2409 = .ok (.iload 5, 2) := dk_21 5 (dk_at dksL_law_92 3 rfl rfl)
theorem dL_law_2411 : decode cL_law 2411 = .ok (.if_icmp .eq 5, 3) := dk_159 0 5 (dk_at dksL_law_92 5 rfl rfl)
theorem dL_law_2414 : decode cL_law 2414 = .ok (.iconst 0, 1) := dk_3 (dk_at dksL_law_92 8 rfl rfl)
theorem dL_law_2415 : decode cL_law 2415 = .ok (.ireturn, 1) := dk_172 (dk_at dksL_law_92 9 rfl rfl)
theorem dL_law_2416 : decode cL_law 2416 = .ok (.iload 5, 2) := dk_21 5 (dk_at dksL_law_92 10 rfl rfl)
theorem dL_law_2418 : decode cL_law 2418 = .ok (.ifCond .ne 15, 3) := dk_154 0 15 (dk_at dksL_law_92 12 rfl rfl)
theorem dL_law_2421 : decode cL_law 2421 = .ok (.aload_n 3, 1) := dk_45 (dk_at dksL_law_92 15 rfl rfl)
theorem dL_law_2422 : decode cL_law 2422 = .ok (.iconst 0, 1) := dk_3 (dk_at dksL_law_92 16 rfl rfl)
theorem dL_law_2423 : decode cL_law 2423 = .ok (.laload, 1) := dk_47 (dk_at dksL_law_92 17 rfl rfl)
theorem dL_law_2424 : decode cL_law 2424 = .ok (.iload 6, 2) := dk_21 6 (dk_at dksL_law_92 18 rfl rfl)
theorem dL_law_2426 : decode cL_law 2426 = .ok (.i2l, 1) := dk_133 (dk_at dksL_law_92 20 rfl rfl)
theorem dL_law_2427 : decode cL_law 2427 = .ok (.lcmp, 1) := dk_148 (dk_at dksL_law_92 21 rfl rfl)
theorem dL_law_2428 : decode cL_law 2428 = .ok (.ifCond .eq 5, 3) := dk_153 0 5 (dk_at dksL_law_93 0 rfl rfl)
theorem dL_law_2431 : decode cL_law 2431 = .ok (.iconst 0, 1) := dk_3 (dk_at dksL_law_93 3 rfl rfl)
theorem dL_law_2432 : decode cL_law 2432 = .ok (.ireturn, 1) := dk_172 (dk_at dksL_law_93 4 rfl rfl)
theorem dL_law_2433 : decode cL_law 2433 = .ok (.goto 1825, 3) := dk_167 7 33 (dk_at dksL_law_93 5 rfl rfl)
theorem dL_law_2436 : decode cL_law 2436 = .ok (.aload_n 1, 1) := dk_43 (dk_at dksL_law_93 8 rfl rfl)
theorem dL_law_2437 : decode cL_law 2437 = .ok (.aload_n 0, 1) := dk_42 (dk_at dksL_law_93 9 rfl rfl)
theorem dL_law_2438 : decode cL_law 2438 = .ok (.iload 4, 2) := dk_21 4 (dk_at dksL_law_93 10 rfl rfl)
theorem dL_law_2440 : decode cL_law 2440 = .ok (.iconst 1, 1) := dk_4 (dk_at dksL_law_93 12 rfl rfl)
theorem dL_law_2441 : decode cL_law 2441 = .ok (.iadd, 1) := dk_96 (dk_at dksL_law_93 13 rfl rfl)
theorem dL_law_2442 : decode cL_law 2442 = .ok (.iaload, 1) := dk_46 (dk_at dksL_law_93 14 rfl rfl)
theorem dL_law_2443 : decode cL_law 2443 = .ok (.aload_n 0, 1) := dk_42 (dk_at dksL_law_93 15 rfl rfl)
theorem dL_law_2444 : decode cL_law 2444 = .ok (.iload 4, 2) := dk_21 4 (dk_at dksL_law_93 16 rfl rfl)
theorem dL_law_2446 : decode cL_law 2446 = .ok (.iconst 2, 1) := dk_5 (dk_at dksL_law_93 18 rfl rfl)
theorem dL_law_2447 : decode cL_law 2447 = .ok (.iadd, 1) := dk_96 (dk_at dksL_law_93 19 rfl rfl)
theorem dL_law_2448 : decode cL_law 2448 = .ok (.iaload, 1) := dk_46 (dk_at dksL_law_93 20 rfl rfl)
theorem dL_law_2449 : decode cL_law 2449 = .ok (.aload_n 3, 1) := dk_45 (dk_at dksL_law_93 21 rfl rfl)
theorem dL_law_2450 : decode cL_law 2450 = .ok (.invokestatic 296, 3) := dk_184 1 40 (dk_at dksL_law_94 0 rfl rfl)
theorem dL_law_2453 : decode cL_law 2453 = .ok (.istore 5, 2) := dk_54 5 (dk_at dksL_law_94 3 rfl rfl)
theorem dL_law_2455 : decode cL_law 2455 = .ok (.aload_n 2, 1) := dk_44 (dk_at dksL_law_94 5 rfl rfl)
theorem dL_law_2456 : decode cL_law 2456 = .ok (.aload_n 0, 1) := dk_42 (dk_at dksL_law_94 6 rfl rfl)
theorem dL_law_2457 : decode cL_law 2457 = .ok (.iload 4, 2) := dk_21 4 (dk_at dksL_law_94 7 rfl rfl)
theorem dL_law_2459 : decode cL_law 2459 = .ok (.iconst 1, 1) := dk_4 (dk_at dksL_law_94 9 rfl rfl)
theorem dL_law_2460 : decode cL_law 2460 = .ok (.iadd, 1) := dk_96 (dk_at dksL_law_94 10 rfl rfl)
theorem dL_law_2461 : decode cL_law 2461 = .ok (.iaload, 1) := dk_46 (dk_at dksL_law_94 11 rfl rfl)
theorem dL_law_2462 : decode cL_law 2462 = .ok (.aload_n 0, 1) := dk_42 (dk_at dksL_law_94 12 rfl rfl)
theorem dL_law_2463 : decode cL_law 2463 = .ok (.iload 4, 2) := dk_21 4 (dk_at dksL_law_94 13 rfl rfl)
theorem dL_law_2465 : decode cL_law 2465 = .ok (.iconst 2, 1) := dk_5 (dk_at dksL_law_94 15 rfl rfl)
theorem dL_law_2466 : decode cL_law 2466 = .ok (.iadd, 1) := dk_96 (dk_at dksL_law_94 16 rfl rfl)
theorem dL_law_2467 : decode cL_law 2467 = .ok (.iaload, 1) := dk_46 (dk_at dksL_law_94 17 rfl rfl)
theorem dL_law_2468 : decode cL_law 2468 = .ok (.invokevirtual 298, 3) := dk_182 1 42 (dk_at dksL_law_94 18 rfl rfl)
theorem dL_law_2471 : decode cL_law 2471 = .ok (.istore 6, 2) := dk_54 6 (dk_at dksL_law_94 21 rfl rfl)
theorem dL_law_2473 : decode cL_law 2473 = .ok (.aload_n 2, 1) := dk_44 (dk_at dksL_law_94 23 rfl rfl)
theorem dL_law_2474 : decode cL_law 2474 = .ok (.invokevirtual 194, 3) := dk_182 0 194 (dk_at dksL_law_95 0 rfl rfl)
theorem dL_law_2477 : decode cL_law 2477 = .ok (.iload 5, 2) := dk_21 5 (dk_at dksL_law_95 3 rfl rfl)
theorem dL_law_2479 : decode cL_law 2479 = .ok (.if_icmp .eq 5, 3) := dk_159 0 5 (dk_at dksL_law_95 5 rfl rfl)
theorem dL_law_2482 : decode cL_law 2482 = .ok (.iconst 0, 1) := dk_3 (dk_at dksL_law_95 8 rfl rfl)
theorem dL_law_2483 : decode cL_law 2483 = .ok (.ireturn, 1) := dk_172 (dk_at dksL_law_95 9 rfl rfl)
theorem dL_law_2484 : decode cL_law 2484 = .ok (.iload 5, 2) := dk_21 5 (dk_at dksL_law_95 10 rfl rfl)
theorem dL_law_2486 : decode cL_law 2486 = .ok (.ifCond .ne 15, 3) := dk_154 0 15 (dk_at dksL_law_95 12 rfl rfl)
theorem dL_law_2489 : decode cL_law 2489 = .ok (.aload_n 3, 1) := dk_45 (dk_at dksL_law_95 15 rfl rfl)
theorem dL_law_2490 : decode cL_law 2490 = .ok (.iconst 0, 1) := dk_3 (dk_at dksL_law_95 16 rfl rfl)
theorem dL_law_2491 : decode cL_law 2491 = .ok (.laload, 1) := dk_47 (dk_at dksL_law_95 17 rfl rfl)
theorem dL_law_2492 : decode cL_law 2492 = .ok (.iload 6, 2) := dk_21 6 (dk_at dksL_law_95 18 rfl rfl)
theorem dL_law_2494 : decode cL_law 2494 = .ok (.i2l, 1) := dk_133 (dk_at dksL_law_95 20 rfl rfl)
theorem dL_law_2495 : decode cL_law 2495 = .ok (.lcmp, 1) := dk_148 (dk_at dksL_law_95 21 rfl rfl)
theorem dL_law_2496 : decode cL_law 2496 = .ok (.ifCond .eq 5, 3) := dk_153 0 5 (dk_at dksL_law_96 0 rfl rfl)
theorem dL_law_2499 : decode cL_law 2499 = .ok (.iconst 0, 1) := dk_3 (dk_at dksL_law_96 3 rfl rfl)
theorem dL_law_2500 : decode cL_law 2500 = .ok (.ireturn, 1) := dk_172 (dk_at dksL_law_96 4 rfl rfl)
theorem dL_law_2501 : decode cL_law 2501 = .ok (.goto 1757, 3) := dk_167 6 221 (dk_at dksL_law_96 5 rfl rfl)
theorem dL_law_2504 : decode cL_law 2504 = .ok (.aload_n 1, 1) := dk_43 (dk_at dksL_law_96 8 rfl rfl)
theorem dL_law_2505 : decode cL_law 2505 = .ok (.aload_n 0, 1) := dk_42 (dk_at dksL_law_96 9 rfl rfl)
theorem dL_law_2506 : decode cL_law 2506 = .ok (.iload 4, 2) := dk_21 4 (dk_at dksL_law_96 10 rfl rfl)
theorem dL_law_2508 : decode cL_law 2508 = .ok (.iconst 1, 1) := dk_4 (dk_at dksL_law_96 12 rfl rfl)
theorem dL_law_2509 : decode cL_law 2509 = .ok (.iadd, 1) := dk_96 (dk_at dksL_law_96 13 rfl rfl)
theorem dL_law_2510 : decode cL_law 2510 = .ok (.iaload, 1) := dk_46 (dk_at dksL_law_96 14 rfl rfl)
theorem dL_law_2511 : decode cL_law 2511 = .ok (.aload_n 3, 1) := dk_45 (dk_at dksL_law_96 15 rfl rfl)
theorem dL_law_2512 : decode cL_law 2512 = .ok (.invokestatic 299, 3) := dk_184 1 43 (dk_at dksL_law_96 16 rfl rfl)
theorem dL_law_2515 : decode cL_law 2515 = .ok (.istore 5, 2) := dk_54 5 (dk_at dksL_law_96 19 rfl rfl)
theorem dL_law_2517 : decode cL_law 2517 = .ok (.aload_n 2, 1) := dk_44 (dk_at dksL_law_96 21 rfl rfl)
theorem dL_law_2518 : decode cL_law 2518 = .ok (.aload_n 0, 1) := dk_42 (dk_at dksL_law_96 22 rfl rfl)
theorem dL_law_2519 : decode cL_law 2519 = .ok (.iload 4, 2) := dk_21 4 (dk_at dksL_law_97 0 rfl rfl)
theorem dL_law_2521 : decode cL_law 2521 = .ok (.iconst 1, 1) := dk_4 (dk_at dksL_law_97 2 rfl rfl)
theorem dL_law_2522 : decode cL_law 2522 = .ok (.iadd, 1) := dk_96 (dk_at dksL_law_97 3 rfl rfl)
theorem dL_law_2523 : decode cL_law 2523 = .ok (.iaload, 1) := dk_46 (dk_at dksL_law_97 4 rfl rfl)
theorem dL_law_2524 : decode cL_law 2524 = .ok (.invokevirtual 301, 3) := dk_182 1 45 (dk_at dksL_law_97 5 rfl rfl)
theorem dL_law_2527 : decode cL_law 2527 = .ok (.istore 6, 2) := dk_54 6 (dk_at dksL_law_97 8 rfl rfl)
theorem dL_law_2529 : decode cL_law 2529 = .ok (.aload_n 2, 1) := dk_44 (dk_at dksL_law_97 10 rfl rfl)
theorem dL_law_2530 : decode cL_law 2530 = .ok (.invokevirtual 194, 3) := dk_182 0 194 (dk_at dksL_law_97 11 rfl rfl)
theorem dL_law_2533 : decode cL_law 2533 = .ok (.iload 5, 2) := dk_21 5 (dk_at dksL_law_97 14 rfl rfl)
theorem dL_law_2535 : decode cL_law 2535 = .ok (.if_icmp .eq 5, 3) := dk_159 0 5 (dk_at dksL_law_97 16 rfl rfl)
theorem dL_law_2538 : decode cL_law 2538 = .ok (.iconst 0, 1) := dk_3 (dk_at dksL_law_97 19 rfl rfl)
theorem dL_law_2539 : decode cL_law 2539 = .ok (.ireturn, 1) := dk_172 (dk_at dksL_law_97 20 rfl rfl)
theorem dL_law_2540 : decode cL_law 2540 = .ok (.iload 5, 2) := dk_21 5 (dk_at dksL_law_97 21 rfl rfl)
theorem dL_law_2542 : decode cL_law 2542 = .ok (.ifCond .ne 15, 3) := dk_154 0 15 (dk_at dksL_law_98 0 rfl rfl)
theorem dL_law_2545 : decode cL_law 2545 = .ok (.aload_n 3, 1) := dk_45 (dk_at dksL_law_98 3 rfl rfl)
theorem dL_law_2546 : decode cL_law 2546 = .ok (.iconst 0, 1) := dk_3 (dk_at dksL_law_98 4 rfl rfl)
theorem dL_law_2547 : decode cL_law 2547 = .ok (.laload, 1) := dk_47 (dk_at dksL_law_98 5 rfl rfl)
theorem dL_law_2548 : decode cL_law 2548 = .ok (.iload 6, 2) := dk_21 6 (dk_at dksL_law_98 6 rfl rfl)
theorem dL_law_2550 : decode cL_law 2550 = .ok (.i2l, 1) := dk_133 (dk_at dksL_law_98 8 rfl rfl)
theorem dL_law_2551 : decode cL_law 2551 = .ok (.lcmp, 1) := dk_148 (dk_at dksL_law_98 9 rfl rfl)
theorem dL_law_2552 : decode cL_law 2552 = .ok (.ifCond .eq 5, 3) := dk_153 0 5 (dk_at dksL_law_98 10 rfl rfl)
theorem dL_law_2555 : decode cL_law 2555 = .ok (.iconst 0, 1) := dk_3 (dk_at dksL_law_98 13 rfl rfl)
theorem dL_law_2556 : decode cL_law 2556 = .ok (.ireturn, 1) := dk_172 (dk_at dksL_law_98 14 rfl rfl)
theorem dL_law_2557 : decode cL_law 2557 = .ok (.goto 1701, 3) := dk_167 6 165 (dk_at dksL_law_98 15 rfl rfl)
theorem dL_law_2560 : decode cL_law 2560 = .ok (.aload_n 1, 1) := dk_43 (dk_at dksL_law_98 18 rfl rfl)
theorem dL_law_2561 : decode cL_law 2561 = .ok (.aload_n 0, 1) := dk_42 (dk_at dksL_law_98 19 rfl rfl)
theorem dL_law_2562 : decode cL_law 2562 = .ok (.iload 4, 2) := dk_21 4 (dk_at dksL_law_98 20 rfl rfl)
theorem dL_law_2564 : decode cL_law 2564 = .ok (.iconst 1, 1) := dk_4 (dk_at dksL_law_98 22 rfl rfl)
theorem dL_law_2565 : decode cL_law 2565 = .ok (.iadd, 1) := dk_96 (dk_at dksL_law_98 23 rfl rfl)
theorem dL_law_2566 : decode cL_law 2566 = .ok (.iaload, 1) := dk_46 (dk_at dksL_law_99 0 rfl rfl)
theorem dL_law_2567 : decode cL_law 2567 = .ok (.aload_n 3, 1) := dk_45 (dk_at dksL_law_99 1 rfl rfl)
theorem dL_law_2568 : decode cL_law 2568 = .ok (.invokestatic 302, 3) := dk_184 1 46 (dk_at dksL_law_99 2 rfl rfl)
theorem dL_law_2571 : decode cL_law 2571 = .ok (.istore 5, 2) := dk_54 5 (dk_at dksL_law_99 5 rfl rfl)
theorem dL_law_2573 : decode cL_law 2573 = .ok (.aload_n 2, 1) := dk_44 (dk_at dksL_law_99 7 rfl rfl)
theorem dL_law_2574 : decode cL_law 2574 = .ok (.aload_n 0, 1) := dk_42 (dk_at dksL_law_99 8 rfl rfl)
theorem dL_law_2575 : decode cL_law 2575 = .ok (.iload 4, 2) := dk_21 4 (dk_at dksL_law_99 9 rfl rfl)
theorem dL_law_2577 : decode cL_law 2577 = .ok (.iconst 1, 1) := dk_4 (dk_at dksL_law_99 11 rfl rfl)
theorem dL_law_2578 : decode cL_law 2578 = .ok (.iadd, 1) := dk_96 (dk_at dksL_law_99 12 rfl rfl)
theorem dL_law_2579 : decode cL_law 2579 = .ok (.iaload, 1) := dk_46 (dk_at dksL_law_99 13 rfl rfl)
theorem dL_law_2580 : decode cL_law 2580 = .ok (.invokevirtual 304, 3) := dk_182 1 48 (dk_at dksL_law_99 14 rfl rfl)
theorem dL_law_2583 : decode cL_law 2583 = .ok (.istore 6, 2) := dk_54 6 (dk_at dksL_law_99 17 rfl rfl)
theorem dL_law_2585 : decode cL_law 2585 = .ok (.aload_n 2, 1) := dk_44 (dk_at dksL_law_99 19 rfl rfl)
theorem dL_law_2586 : decode cL_law 2586 = .ok (.invokevirtual 194, 3) := dk_182 0 194 (dk_at dksL_law_99 20 rfl rfl)
theorem dL_law_2589 : decode cL_law 2589 = .ok (.iload 5, 2) := dk_21 5 (dk_at dksL_law_100 0 rfl rfl)
theorem dL_law_2591 : decode cL_law 2591 = .ok (.if_icmp .eq 5, 3) := dk_159 0 5 (dk_at dksL_law_100 2 rfl rfl)
theorem dL_law_2594 : decode cL_law 2594 = .ok (.iconst 0, 1) := dk_3 (dk_at dksL_law_100 5 rfl rfl)
theorem dL_law_2595 : decode cL_law 2595 = .ok (.ireturn, 1) := dk_172 (dk_at dksL_law_100 6 rfl rfl)
theorem dL_law_2596 : decode cL_law 2596 = .ok (.iload 5, 2) := dk_21 5 (dk_at dksL_law_100 7 rfl rfl)
theorem dL_law_2598 : decode cL_law 2598 = .ok (.ifCond .ne 15, 3) := dk_154 0 15 (dk_at dksL_law_100 9 rfl rfl)
theorem dL_law_2601 : decode cL_law 2601 = .ok (.aload_n 3, 1) := dk_45 (dk_at dksL_law_100 12 rfl rfl)
theorem dL_law_2602 : decode cL_law 2602 = .ok (.iconst 0, 1) := dk_3 (dk_at dksL_law_100 13 rfl rfl)
theorem dL_law_2603 : decode cL_law 2603 = .ok (.laload, 1) := dk_47 (dk_at dksL_law_100 14 rfl rfl)
theorem dL_law_2604 : decode cL_law 2604 = .ok (.iload 6, 2) := dk_21 6 (dk_at dksL_law_100 15 rfl rfl)
theorem dL_law_2606 : decode cL_law 2606 = .ok (.i2l, 1) := dk_133 (dk_at dksL_law_100 17 rfl rfl)
theorem dL_law_2607 : decode cL_law 2607 = .ok (.lcmp, 1) := dk_148 (dk_at dksL_law_100 18 rfl rfl)
theorem dL_law_2608 : decode cL_law 2608 = .ok (.ifCond .eq 5, 3) := dk_153 0 5 (dk_at dksL_law_100 19 rfl rfl)
theorem dL_law_2611 : decode cL_law 2611 = .ok (.iconst 0, 1) := dk_3 (dk_at dksL_law_100 22 rfl rfl)
theorem dL_law_2612 : decode cL_law 2612 = .ok (.ireturn, 1) := dk_172 (dk_at dksL_law_100 23 rfl rfl)
theorem dL_law_2613 : decode cL_law 2613 = .ok (.goto 1645, 3) := dk_167 6 109 (dk_at dksL_law_101 0 rfl rfl)
theorem dL_law_2616 : decode cL_law 2616 = .ok (.aload_n 1, 1) := dk_43 (dk_at dksL_law_101 3 rfl rfl)
theorem dL_law_2617 : decode cL_law 2617 = .ok (.aload_n 0, 1) := dk_42 (dk_at dksL_law_101 4 rfl rfl)
theorem dL_law_2618 : decode cL_law 2618 = .ok (.iload 4, 2) := dk_21 4 (dk_at dksL_law_101 5 rfl rfl)
theorem dL_law_2620 : decode cL_law 2620 = .ok (.iconst 1, 1) := dk_4 (dk_at dksL_law_101 7 rfl rfl)
theorem dL_law_2621 : decode cL_law 2621 = .ok (.iadd, 1) := dk_96 (dk_at dksL_law_101 8 rfl rfl)
theorem dL_law_2622 : decode cL_law 2622 = .ok (.iaload, 1) := dk_46 (dk_at dksL_law_101 9 rfl rfl)
theorem dL_law_2623 : decode cL_law 2623 = .ok (.aload_n 0, 1) := dk_42 (dk_at dksL_law_101 10 rfl rfl)
theorem dL_law_2624 : decode cL_law 2624 = .ok (.iload 4, 2) := dk_21 4 (dk_at dksL_law_101 11 rfl rfl)
theorem dL_law_2626 : decode cL_law 2626 = .ok (.iconst 2, 1) := dk_5 (dk_at dksL_law_101 13 rfl rfl)
theorem dL_law_2627 : decode cL_law 2627 = .ok (.iadd, 1) := dk_96 (dk_at dksL_law_101 14 rfl rfl)
theorem dL_law_2628 : decode cL_law 2628 = .ok (.iaload, 1) := dk_46 (dk_at dksL_law_101 15 rfl rfl)
theorem dL_law_2629 : decode cL_law 2629 = .ok (.ifCond .eq 7, 3) := dk_153 0 7 (dk_at dksL_law_101 16 rfl rfl)
theorem dL_law_2632 : decode cL_law 2632 = .ok (.iconst 1, 1) := dk_4 (dk_at dksL_law_101 19 rfl rfl)
theorem dL_law_2633 : decode cL_law 2633 = .ok (.goto 4, 3) := dk_167 0 4 (dk_at dksL_law_101 20 rfl rfl)
theorem dL_law_2636 : decode cL_law 2636 = .ok (.iconst 0, 1) := dk_3 (dk_at dksL_law_101 23 rfl rfl)
theorem dL_law_2637 : decode cL_law 2637 = .ok (.aload_n 3, 1) := dk_45 (dk_at dksL_law_102 0 rfl rfl)
theorem dL_law_2638 : decode cL_law 2638 = .ok (.invokestatic 305, 3) := dk_184 1 49 (dk_at dksL_law_102 1 rfl rfl)
theorem dL_law_2641 : decode cL_law 2641 = .ok (.istore 5, 2) := dk_54 5 (dk_at dksL_law_102 4 rfl rfl)
theorem dL_law_2643 : decode cL_law 2643 = .ok (.aload_n 2, 1) := dk_44 (dk_at dksL_law_102 6 rfl rfl)
theorem dL_law_2644 : decode cL_law 2644 = .ok (.aload_n 0, 1) := dk_42 (dk_at dksL_law_102 7 rfl rfl)
theorem dL_law_2645 : decode cL_law 2645 = .ok (.iload 4, 2) := dk_21 4 (dk_at dksL_law_102 8 rfl rfl)
theorem dL_law_2647 : decode cL_law 2647 = .ok (.iconst 1, 1) := dk_4 (dk_at dksL_law_102 10 rfl rfl)
theorem dL_law_2648 : decode cL_law 2648 = .ok (.iadd, 1) := dk_96 (dk_at dksL_law_102 11 rfl rfl)
theorem dL_law_2649 : decode cL_law 2649 = .ok (.iaload, 1) := dk_46 (dk_at dksL_law_102 12 rfl rfl)
theorem dL_law_2650 : decode cL_law 2650 = .ok (.aload_n 0, 1) := dk_42 (dk_at dksL_law_102 13 rfl rfl)
theorem dL_law_2651 : decode cL_law 2651 = .ok (.iload 4, 2) := dk_21 4 (dk_at dksL_law_102 14 rfl rfl)
theorem dL_law_2653 : decode cL_law 2653 = .ok (.iconst 2, 1) := dk_5 (dk_at dksL_law_102 16 rfl rfl)
theorem dL_law_2654 : decode cL_law 2654 = .ok (.iadd, 1) := dk_96 (dk_at dksL_law_102 17 rfl rfl)
theorem dL_law_2655 : decode cL_law 2655 = .ok (.iaload, 1) := dk_46 (dk_at dksL_law_102 18 rfl rfl)
theorem dL_law_2656 : decode cL_law 2656 = .ok (.ifCond .eq 7, 3) := dk_153 0 7 (dk_at dksL_law_102 19 rfl rfl)
theorem dL_law_2659 : decode cL_law 2659 = .ok (.iconst 1, 1) := dk_4 (dk_at dksL_law_102 22 rfl rfl)
theorem dL_law_2660 : decode cL_law 2660 = .ok (.goto 4, 3) := dk_167 0 4 (dk_at dksL_law_103 0 rfl rfl)
theorem dL_law_2663 : decode cL_law 2663 = .ok (.iconst 0, 1) := dk_3 (dk_at dksL_law_103 3 rfl rfl)
theorem dL_law_2664 : decode cL_law 2664 = .ok (.invokevirtual 308, 3) := dk_182 1 52 (dk_at dksL_law_103 4 rfl rfl)
theorem dL_law_2667 : decode cL_law 2667 = .ok (.istore 6, 2) := dk_54 6 (dk_at dksL_law_103 7 rfl rfl)
theorem dL_law_2669 : decode cL_law 2669 = .ok (.aload_n 2, 1) := dk_44 (dk_at dksL_law_103 9 rfl rfl)
theorem dL_law_2670 : decode cL_law 2670 = .ok (.invokevirtual 194, 3) := dk_182 0 194 (dk_at dksL_law_103 10 rfl rfl)
theorem dL_law_2673 : decode cL_law 2673 = .ok (.iload 5, 2) := dk_21 5 (dk_at dksL_law_103 13 rfl rfl)
theorem dL_law_2675 : decode cL_law 2675 = .ok (.if_icmp .eq 5, 3) := dk_159 0 5 (dk_at dksL_law_103 15 rfl rfl)
theorem dL_law_2678 : decode cL_law 2678 = .ok (.iconst 0, 1) := dk_3 (dk_at dksL_law_103 18 rfl rfl)
theorem dL_law_2679 : decode cL_law 2679 = .ok (.ireturn, 1) := dk_172 (dk_at dksL_law_103 19 rfl rfl)
theorem dL_law_2680 : decode cL_law 2680 = .ok (.iload 5, 2) := dk_21 5 (dk_at dksL_law_103 20 rfl rfl)
theorem dL_law_2682 : decode cL_law 2682 = .ok (.ifCond .ne 15, 3) := dk_154 0 15 (dk_at dksL_law_104 0 rfl rfl)
theorem dL_law_2685 : decode cL_law 2685 = .ok (.aload_n 3, 1) := dk_45 (dk_at dksL_law_104 3 rfl rfl)
theorem dL_law_2686 : decode cL_law 2686 = .ok (.iconst 0, 1) := dk_3 (dk_at dksL_law_104 4 rfl rfl)
theorem dL_law_2687 : decode cL_law 2687 = .ok (.laload, 1) := dk_47 (dk_at dksL_law_104 5 rfl rfl)
theorem dL_law_2688 : decode cL_law 2688 = .ok (.iload 6, 2) := dk_21 6 (dk_at dksL_law_104 6 rfl rfl)
theorem dL_law_2690 : decode cL_law 2690 = .ok (.i2l, 1) := dk_133 (dk_at dksL_law_104 8 rfl rfl)
theorem dL_law_2691 : decode cL_law 2691 = .ok (.lcmp, 1) := dk_148 (dk_at dksL_law_104 9 rfl rfl)
theorem dL_law_2692 : decode cL_law 2692 = .ok (.ifCond .eq 5, 3) := dk_153 0 5 (dk_at dksL_law_104 10 rfl rfl)
theorem dL_law_2695 : decode cL_law 2695 = .ok (.iconst 0, 1) := dk_3 (dk_at dksL_law_104 13 rfl rfl)
theorem dL_law_2696 : decode cL_law 2696 = .ok (.ireturn, 1) := dk_172 (dk_at dksL_law_104 14 rfl rfl)
theorem dL_law_2697 : decode cL_law 2697 = .ok (.goto 1561, 3) := dk_167 6 25 (dk_at dksL_law_104 15 rfl rfl)
theorem dL_law_2700 : decode cL_law 2700 = .ok (.aload_n 1, 1) := dk_43 (dk_at dksL_law_104 18 rfl rfl)
theorem dL_law_2701 : decode cL_law 2701 = .ok (.aload_n 0, 1) := dk_42 (dk_at dksL_law_104 19 rfl rfl)
theorem dL_law_2702 : decode cL_law 2702 = .ok (.iload 4, 2) := dk_21 4 (dk_at dksL_law_104 20 rfl rfl)
theorem dL_law_2704 : decode cL_law 2704 = .ok (.iconst 1, 1) := dk_4 (dk_at dksL_law_104 22 rfl rfl)
theorem dL_law_2705 : decode cL_law 2705 = .ok (.iadd, 1) := dk_96 (dk_at dksL_law_104 23 rfl rfl)
theorem dL_law_2706 : decode cL_law 2706 = .ok (.iaload, 1) := dk_46 (dk_at dksL_law_105 0 rfl rfl)
theorem dL_law_2707 : decode cL_law 2707 = .ok (.aload_n 0, 1) := dk_42 (dk_at dksL_law_105 1 rfl rfl)
theorem dL_law_2708 : decode cL_law 2708 = .ok (.iload 4, 2) := dk_21 4 (dk_at dksL_law_105 2 rfl rfl)
theorem dL_law_2710 : decode cL_law 2710 = .ok (.iconst 2, 1) := dk_5 (dk_at dksL_law_105 4 rfl rfl)
theorem dL_law_2711 : decode cL_law 2711 = .ok (.iadd, 1) := dk_96 (dk_at dksL_law_105 5 rfl rfl)
theorem dL_law_2712 : decode cL_law 2712 = .ok (.iaload, 1) := dk_46 (dk_at dksL_law_105 6 rfl rfl)
theorem dL_law_2713 : decode cL_law 2713 = .ok (.aload_n 3, 1) := dk_45 (dk_at dksL_law_105 7 rfl rfl)
theorem dL_law_2714 : decode cL_law 2714 = .ok (.invokestatic 309, 3) := dk_184 1 53 (dk_at dksL_law_105 8 rfl rfl)
theorem dL_law_2717 : decode cL_law 2717 = .ok (.istore 5, 2) := dk_54 5 (dk_at dksL_law_105 11 rfl rfl)
theorem dL_law_2719 : decode cL_law 2719 = .ok (.aload_n 2, 1) := dk_44 (dk_at dksL_law_105 13 rfl rfl)
theorem dL_law_2720 : decode cL_law 2720 = .ok (.aload_n 0, 1) := dk_42 (dk_at dksL_law_105 14 rfl rfl)
theorem dL_law_2721 : decode cL_law 2721 = .ok (.iload 4, 2) := dk_21 4 (dk_at dksL_law_105 15 rfl rfl)
theorem dL_law_2723 : decode cL_law 2723 = .ok (.iconst 1, 1) := dk_4 (dk_at dksL_law_105 17 rfl rfl)
theorem dL_law_2724 : decode cL_law 2724 = .ok (.iadd, 1) := dk_96 (dk_at dksL_law_105 18 rfl rfl)
theorem dL_law_2725 : decode cL_law 2725 = .ok (.iaload, 1) := dk_46 (dk_at dksL_law_105 19 rfl rfl)
theorem dL_law_2726 : decode cL_law 2726 = .ok (.aload_n 0, 1) := dk_42 (dk_at dksL_law_105 20 rfl rfl)
theorem dL_law_2727 : decode cL_law 2727 = .ok (.iload 4, 2) := dk_21 4 (dk_at dksL_law_105 21 rfl rfl)
theorem dL_law_2729 : decode cL_law 2729 = .ok (.iconst 2, 1) := dk_5 (dk_at dksL_law_105 23 rfl rfl)
theorem dL_law_2730 : decode cL_law 2730 = .ok (.iadd, 1) := dk_96 (dk_at dksL_law_106 0 rfl rfl)
theorem dL_law_2731 : decode cL_law 2731 = .ok (.iaload, 1) := dk_46 (dk_at dksL_law_106 1 rfl rfl)
theorem dL_law_2732 : decode cL_law 2732 = .ok (.invokevirtual 311, 3) := dk_182 1 55 (dk_at dksL_law_106 2 rfl rfl)
theorem dL_law_2735 : decode cL_law 2735 = .ok (.istore 6, 2) := dk_54 6 (dk_at dksL_law_106 5 rfl rfl)
theorem dL_law_2737 : decode cL_law 2737 = .ok (.aload_n 2, 1) := dk_44 (dk_at dksL_law_106 7 rfl rfl)
theorem dL_law_2738 : decode cL_law 2738 = .ok (.invokevirtual 194, 3) := dk_182 0 194 (dk_at dksL_law_106 8 rfl rfl)
theorem dL_law_2741 : decode cL_law 2741 = .ok (.iload 5, 2) := dk_21 5 (dk_at dksL_law_106 11 rfl rfl)
theorem dL_law_2743 : decode cL_law 2743 = .ok (.if_icmp .eq 5, 3) := dk_159 0 5 (dk_at dksL_law_106 13 rfl rfl)
theorem dL_law_2746 : decode cL_law 2746 = .ok (.iconst 0, 1) := dk_3 (dk_at dksL_law_106 16 rfl rfl)
theorem dL_law_2747 : decode cL_law 2747 = .ok (.ireturn, 1) := dk_172 (dk_at dksL_law_106 17 rfl rfl)
theorem dL_law_2748 : decode cL_law 2748 = .ok (.iload 5, 2) := dk_21 5 (dk_at dksL_law_106 18 rfl rfl)
theorem dL_law_2750 : decode cL_law 2750 = .ok (.ifCond .ne 15, 3) := dk_154 0 15 (dk_at dksL_law_106 20 rfl rfl)
theorem dL_law_2753 : decode cL_law 2753 = .ok (.aload_n 3, 1) := dk_45 (dk_at dksL_law_106 23 rfl rfl)
theorem dL_law_2754 : decode cL_law 2754 = .ok (.iconst 0, 1) := dk_3 (dk_at dksL_law_107 0 rfl rfl)
theorem dL_law_2755 : decode cL_law 2755 = .ok (.laload, 1) := dk_47 (dk_at dksL_law_107 1 rfl rfl)
theorem dL_law_2756 : decode cL_law 2756 = .ok (.iload 6, 2) := dk_21 6 (dk_at dksL_law_107 2 rfl rfl)
theorem dL_law_2758 : decode cL_law 2758 = .ok (.i2l, 1) := dk_133 (dk_at dksL_law_107 4 rfl rfl)
theorem dL_law_2759 : decode cL_law 2759 = .ok (.lcmp, 1) := dk_148 (dk_at dksL_law_107 5 rfl rfl)
theorem dL_law_2760 : decode cL_law 2760 = .ok (.ifCond .eq 5, 3) := dk_153 0 5 (dk_at dksL_law_107 6 rfl rfl)
theorem dL_law_2763 : decode cL_law 2763 = .ok (.iconst 0, 1) := dk_3 (dk_at dksL_law_107 9 rfl rfl)
theorem dL_law_2764 : decode cL_law 2764 = .ok (.ireturn, 1) := dk_172 (dk_at dksL_law_107 10 rfl rfl)
theorem dL_law_2765 : decode cL_law 2765 = .ok (.goto 1493, 3) := dk_167 5 213 (dk_at dksL_law_107 11 rfl rfl)
theorem dL_law_2768 : decode cL_law 2768 = .ok (.aload_n 1, 1) := dk_43 (dk_at dksL_law_107 14 rfl rfl)
theorem dL_law_2769 : decode cL_law 2769 = .ok (.aload_n 0, 1) := dk_42 (dk_at dksL_law_107 15 rfl rfl)
theorem dL_law_2770 : decode cL_law 2770 = .ok (.iload 4, 2) := dk_21 4 (dk_at dksL_law_107 16 rfl rfl)
theorem dL_law_2772 : decode cL_law 2772 = .ok (.iconst 1, 1) := dk_4 (dk_at dksL_law_107 18 rfl rfl)
theorem dL_law_2773 : decode cL_law 2773 = .ok (.iadd, 1) := dk_96 (dk_at dksL_law_107 19 rfl rfl)
theorem dL_law_2774 : decode cL_law 2774 = .ok (.iaload, 1) := dk_46 (dk_at dksL_law_107 20 rfl rfl)
theorem dL_law_2775 : decode cL_law 2775 = .ok (.aload_n 3, 1) := dk_45 (dk_at dksL_law_107 21 rfl rfl)
theorem dL_law_2776 : decode cL_law 2776 = .ok (.invokestatic 312, 3) := dk_184 1 56 (dk_at dksL_law_108 0 rfl rfl)
theorem dL_law_2779 : decode cL_law 2779 = .ok (.istore 5, 2) := dk_54 5 (dk_at dksL_law_108 3 rfl rfl)
theorem dL_law_2781 : decode cL_law 2781 = .ok (.aload_n 2, 1) := dk_44 (dk_at dksL_law_108 5 rfl rfl)
theorem dL_law_2782 : decode cL_law 2782 = .ok (.aload_n 0, 1) := dk_42 (dk_at dksL_law_108 6 rfl rfl)
theorem dL_law_2783 : decode cL_law 2783 = .ok (.iload 4, 2) := dk_21 4 (dk_at dksL_law_108 7 rfl rfl)
theorem dL_law_2785 : decode cL_law 2785 = .ok (.iconst 1, 1) := dk_4 (dk_at dksL_law_108 9 rfl rfl)
theorem dL_law_2786 : decode cL_law 2786 = .ok (.iadd, 1) := dk_96 (dk_at dksL_law_108 10 rfl rfl)
theorem dL_law_2787 : decode cL_law 2787 = .ok (.iaload, 1) := dk_46 (dk_at dksL_law_108 11 rfl rfl)
theorem dL_law_2788 : decode cL_law 2788 = .ok (.invokevirtual 314, 3) := dk_182 1 58 (dk_at dksL_law_108 12 rfl rfl)
theorem dL_law_2791 : decode cL_law 2791 = .ok (.istore 6, 2) := dk_54 6 (dk_at dksL_law_108 15 rfl rfl)
theorem dL_law_2793 : decode cL_law 2793 = .ok (.aload_n 2, 1) := dk_44 (dk_at dksL_law_108 17 rfl rfl)
theorem dL_law_2794 : decode cL_law 2794 = .ok (.invokevirtual 194, 3) := dk_182 0 194 (dk_at dksL_law_108 18 rfl rfl)
theorem dL_law_2797 : decode cL_law 2797 = .ok (.iload 5, 2) := dk_21 5 (dk_at dksL_law_108 21 rfl rfl)
theorem dL_law_2799 : decode cL_law 2799 = .ok (.if_icmp .eq 5, 3) := dk_159 0 5 (dk_at dksL_law_109 0 rfl rfl)
theorem dL_law_2802 : decode cL_law 2802 = .ok (.iconst 0, 1) := dk_3 (dk_at dksL_law_109 3 rfl rfl)
theorem dL_law_2803 : decode cL_law 2803 = .ok (.ireturn, 1) := dk_172 (dk_at dksL_law_109 4 rfl rfl)
theorem dL_law_2804 : decode cL_law 2804 = .ok (.iload 5, 2) := dk_21 5 (dk_at dksL_law_109 5 rfl rfl)
theorem dL_law_2806 : decode cL_law 2806 = .ok (.ifCond .ne 15, 3) := dk_154 0 15 (dk_at dksL_law_109 7 rfl rfl)
theorem dL_law_2809 : decode cL_law 2809 = .ok (.aload_n 3, 1) := dk_45 (dk_at dksL_law_109 10 rfl rfl)
theorem dL_law_2810 : decode cL_law 2810 = .ok (.iconst 0, 1) := dk_3 (dk_at dksL_law_109 11 rfl rfl)
theorem dL_law_2811 : decode cL_law 2811 = .ok (.laload, 1) := dk_47 (dk_at dksL_law_109 12 rfl rfl)
theorem dL_law_2812 : decode cL_law 2812 = .ok (.iload 6, 2) := dk_21 6 (dk_at dksL_law_109 13 rfl rfl)
theorem dL_law_2814 : decode cL_law 2814 = .ok (.i2l, 1) := dk_133 (dk_at dksL_law_109 15 rfl rfl)
theorem dL_law_2815 : decode cL_law 2815 = .ok (.lcmp, 1) := dk_148 (dk_at dksL_law_109 16 rfl rfl)
theorem dL_law_2816 : decode cL_law 2816 = .ok (.ifCond .eq 5, 3) := dk_153 0 5 (dk_at dksL_law_109 17 rfl rfl)
theorem dL_law_2819 : decode cL_law 2819 = .ok (.iconst 0, 1) := dk_3 (dk_at dksL_law_109 20 rfl rfl)
theorem dL_law_2820 : decode cL_law 2820 = .ok (.ireturn, 1) := dk_172 (dk_at dksL_law_109 21 rfl rfl)
theorem dL_law_2821 : decode cL_law 2821 = .ok (.goto 1437, 3) := dk_167 5 157 (dk_at dksL_law_110 0 rfl rfl)
theorem dL_law_2824 : decode cL_law 2824 = .ok (.aload_n 1, 1) := dk_43 (dk_at dksL_law_110 3 rfl rfl)
theorem dL_law_2825 : decode cL_law 2825 = .ok (.aload_n 0, 1) := dk_42 (dk_at dksL_law_110 4 rfl rfl)
theorem dL_law_2826 : decode cL_law 2826 = .ok (.iload 4, 2) := dk_21 4 (dk_at dksL_law_110 5 rfl rfl)
theorem dL_law_2828 : decode cL_law 2828 = .ok (.iconst 1, 1) := dk_4 (dk_at dksL_law_110 7 rfl rfl)
theorem dL_law_2829 : decode cL_law 2829 = .ok (.iadd, 1) := dk_96 (dk_at dksL_law_110 8 rfl rfl)
theorem dL_law_2830 : decode cL_law 2830 = .ok (.iaload, 1) := dk_46 (dk_at dksL_law_110 9 rfl rfl)
theorem dL_law_2831 : decode cL_law 2831 = .ok (.aload_n 3, 1) := dk_45 (dk_at dksL_law_110 10 rfl rfl)
theorem dL_law_2832 : decode cL_law 2832 = .ok (.invokestatic 315, 3) := dk_184 1 59 (dk_at dksL_law_110 11 rfl rfl)
theorem dL_law_2835 : decode cL_law 2835 = .ok (.istore 5, 2) := dk_54 5 (dk_at dksL_law_110 14 rfl rfl)
theorem dL_law_2837 : decode cL_law 2837 = .ok (.aload_n 2, 1) := dk_44 (dk_at dksL_law_110 16 rfl rfl)
theorem dL_law_2838 : decode cL_law 2838 = .ok (.aload_n 0, 1) := dk_42 (dk_at dksL_law_110 17 rfl rfl)
theorem dL_law_2839 : decode cL_law 2839 = .ok (.iload 4, 2) := dk_21 4 (dk_at dksL_law_110 18 rfl rfl)
theorem dL_law_2841 : decode cL_law 2841 = .ok (.iconst 1, 1) := dk_4 (dk_at dksL_law_110 20 rfl rfl)
theorem dL_law_2842 : decode cL_law 2842 = .ok (.iadd, 1) := dk_96 (dk_at dksL_law_110 21 rfl rfl)
theorem dL_law_2843 : decode cL_law 2843 = .ok (.iaload, 1) := dk_46 (dk_at dksL_law_110 22 rfl rfl)
theorem dL_law_2844 : decode cL_law 2844 = .ok (.invokevirtual 317, 3) := dk_182 1 61 (dk_at dksL_law_111 0 rfl rfl)
theorem dL_law_2847 : decode cL_law 2847 = .ok (.istore 6, 2) := dk_54 6 (dk_at dksL_law_111 3 rfl rfl)
theorem dL_law_2849 : decode cL_law 2849 = .ok (.aload_n 2, 1) := dk_44 (dk_at dksL_law_111 5 rfl rfl)
theorem dL_law_2850 : decode cL_law 2850 = .ok (.invokevirtual 194, 3) := dk_182 0 194 (dk_at dksL_law_111 6 rfl rfl)
theorem dL_law_2853 : decode cL_law 2853 = .ok (.iload 5, 2) := dk_21 5 (dk_at dksL_law_111 9 rfl rfl)
theorem dL_law_2855 : decode cL_law 2855 = .ok (.if_icmp .eq 5, 3) := dk_159 0 5 (dk_at dksL_law_111 11 rfl rfl)
theorem dL_law_2858 : decode cL_law 2858 = .ok (.iconst 0, 1) := dk_3 (dk_at dksL_law_111 14 rfl rfl)
theorem dL_law_2859 : decode cL_law 2859 = .ok (.ireturn, 1) := dk_172 (dk_at dksL_law_111 15 rfl rfl)
theorem dL_law_2860 : decode cL_law 2860 = .ok (.iload 5, 2) := dk_21 5 (dk_at dksL_law_111 16 rfl rfl)
theorem dL_law_2862 : decode cL_law 2862 = .ok (.ifCond .ne 15, 3) := dk_154 0 15 (dk_at dksL_law_111 18 rfl rfl)
theorem dL_law_2865 : decode cL_law 2865 = .ok (.aload_n 3, 1) := dk_45 (dk_at dksL_law_111 21 rfl rfl)
theorem dL_law_2866 : decode cL_law 2866 = .ok (.iconst 0, 1) := dk_3 (dk_at dksL_law_111 22 rfl rfl)
theorem dL_law_2867 : decode cL_law 2867 = .ok (.laload, 1) := dk_47 (dk_at dksL_law_111 23 rfl rfl)
theorem dL_law_2868 : decode cL_law 2868 = .ok (.iload 6, 2) := dk_21 6 (dk_at dksL_law_112 0 rfl rfl)
theorem dL_law_2870 : decode cL_law 2870 = .ok (.i2l, 1) := dk_133 (dk_at dksL_law_112 2 rfl rfl)
theorem dL_law_2871 : decode cL_law 2871 = .ok (.lcmp, 1) := dk_148 (dk_at dksL_law_112 3 rfl rfl)
theorem dL_law_2872 : decode cL_law 2872 = .ok (.ifCond .eq 5, 3) := dk_153 0 5 (dk_at dksL_law_112 4 rfl rfl)
theorem dL_law_2875 : decode cL_law 2875 = .ok (.iconst 0, 1) := dk_3 (dk_at dksL_law_112 7 rfl rfl)
theorem dL_law_2876 : decode cL_law 2876 = .ok (.ireturn, 1) := dk_172 (dk_at dksL_law_112 8 rfl rfl)
theorem dL_law_2877 : decode cL_law 2877 = .ok (.goto 1381, 3) := dk_167 5 101 (dk_at dksL_law_112 9 rfl rfl)
theorem dL_law_2880 : decode cL_law 2880 = .ok (.aload_n 1, 1) := dk_43 (dk_at dksL_law_112 12 rfl rfl)
theorem dL_law_2881 : decode cL_law 2881 = .ok (.aload_n 0, 1) := dk_42 (dk_at dksL_law_112 13 rfl rfl)
theorem dL_law_2882 : decode cL_law 2882 = .ok (.iload 4, 2) := dk_21 4 (dk_at dksL_law_112 14 rfl rfl)
theorem dL_law_2884 : decode cL_law 2884 = .ok (.iconst 1, 1) := dk_4 (dk_at dksL_law_112 16 rfl rfl)
theorem dL_law_2885 : decode cL_law 2885 = .ok (.iadd, 1) := dk_96 (dk_at dksL_law_112 17 rfl rfl)
theorem dL_law_2886 : decode cL_law 2886 = .ok (.iaload, 1) := dk_46 (dk_at dksL_law_112 18 rfl rfl)
theorem dL_law_2887 : decode cL_law 2887 = .ok (.aload_n 3, 1) := dk_45 (dk_at dksL_law_112 19 rfl rfl)
theorem dL_law_2888 : decode cL_law 2888 = .ok (.invokestatic 318, 3) := dk_184 1 62 (dk_at dksL_law_112 20 rfl rfl)
theorem dL_law_2891 : decode cL_law 2891 = .ok (.istore 5, 2) := dk_54 5 (dk_at dksL_law_113 0 rfl rfl)
theorem dL_law_2893 : decode cL_law 2893 = .ok (.aload_n 2, 1) := dk_44 (dk_at dksL_law_113 2 rfl rfl)
theorem dL_law_2894 : decode cL_law 2894 = .ok (.aload_n 0, 1) := dk_42 (dk_at dksL_law_113 3 rfl rfl)
theorem dL_law_2895 : decode cL_law 2895 = .ok (.iload 4, 2) := dk_21 4 (dk_at dksL_law_113 4 rfl rfl)
theorem dL_law_2897 : decode cL_law 2897 = .ok (.iconst 1, 1) := dk_4 (dk_at dksL_law_113 6 rfl rfl)
theorem dL_law_2898 : decode cL_law 2898 = .ok (.iadd, 1) := dk_96 (dk_at dksL_law_113 7 rfl rfl)
theorem dL_law_2899 : decode cL_law 2899 = .ok (.iaload, 1) := dk_46 (dk_at dksL_law_113 8 rfl rfl)
theorem dL_law_2900 : decode cL_law 2900 = .ok (.invokevirtual 320, 3) := dk_182 1 64 (dk_at dksL_law_113 9 rfl rfl)
theorem dL_law_2903 : decode cL_law 2903 = .ok (.istore 6, 2) := dk_54 6 (dk_at dksL_law_113 12 rfl rfl)
theorem dL_law_2905 : decode cL_law 2905 = .ok (.aload_n 2, 1) := dk_44 (dk_at dksL_law_113 14 rfl rfl)
theorem dL_law_2906 : decode cL_law 2906 = .ok (.invokevirtual 194, 3) := dk_182 0 194 (dk_at dksL_law_113 15 rfl rfl)
theorem dL_law_2909 : decode cL_law 2909 = .ok (.iload 5, 2) := dk_21 5 (dk_at dksL_law_113 18 rfl rfl)
theorem dL_law_2911 : decode cL_law 2911 = .ok (.if_icmp .eq 5, 3) := dk_159 0 5 (dk_at dksL_law_113 20 rfl rfl)
theorem dL_law_2914 : decode cL_law 2914 = .ok (.iconst 0, 1) := dk_3 (dk_at dksL_law_113 23 rfl rfl)
theorem dL_law_2915 : decode cL_law 2915 = .ok (.ireturn, 1) := dk_172 (dk_at dksL_law_114 0 rfl rfl)
theorem dL_law_2916 : decode cL_law 2916 = .ok (.iload 5, 2) := dk_21 5 (dk_at dksL_law_114 1 rfl rfl)
theorem dL_law_2918 : decode cL_law 2918 = .ok (.ifCond .ne 15, 3) := dk_154 0 15 (dk_at dksL_law_114 3 rfl rfl)
theorem dL_law_2921 : decode cL_law 2921 = .ok (.aload_n 3, 1) := dk_45 (dk_at dksL_law_114 6 rfl rfl)
theorem dL_law_2922 : decode cL_law 2922 = .ok (.iconst 0, 1) := dk_3 (dk_at dksL_law_114 7 rfl rfl)
theorem dL_law_2923 : decode cL_law 2923 = .ok (.laload, 1) := dk_47 (dk_at dksL_law_114 8 rfl rfl)
theorem dL_law_2924 : decode cL_law 2924 = .ok (.iload 6, 2) := dk_21 6 (dk_at dksL_law_114 9 rfl rfl)
theorem dL_law_2926 : decode cL_law 2926 = .ok (.i2l, 1) := dk_133 (dk_at dksL_law_114 11 rfl rfl)
theorem dL_law_2927 : decode cL_law 2927 = .ok (.lcmp, 1) := dk_148 (dk_at dksL_law_114 12 rfl rfl)
theorem dL_law_2928 : decode cL_law 2928 = .ok (.ifCond .eq 5, 3) := dk_153 0 5 (dk_at dksL_law_114 13 rfl rfl)
theorem dL_law_2931 : decode cL_law 2931 = .ok (.iconst 0, 1) := dk_3 (dk_at dksL_law_114 16 rfl rfl)
theorem dL_law_2932 : decode cL_law 2932 = .ok (.ireturn, 1) := dk_172 (dk_at dksL_law_114 17 rfl rfl)
theorem dL_law_2933 : decode cL_law 2933 = .ok (.goto 1325, 3) := dk_167 5 45 (dk_at dksL_law_114 18 rfl rfl)
theorem dL_law_2936 : decode cL_law 2936 = .ok (.aload_n 1, 1) := dk_43 (dk_at dksL_law_114 21 rfl rfl)
theorem dL_law_2937 : decode cL_law 2937 = .ok (.invokevirtual 321, 3) := dk_182 1 65 (dk_at dksL_law_115 0 rfl rfl)
theorem dL_law_2940 : decode cL_law 2940 = .ok (.aload_n 2, 1) := dk_44 (dk_at dksL_law_115 3 rfl rfl)
theorem dL_law_2941 : decode cL_law 2941 = .ok (.invokevirtual 324, 3) := dk_182 1 68 (dk_at dksL_law_115 4 rfl rfl)
theorem dL_law_2944 : decode cL_law 2944 = .ok (.if_icmp .eq 1314, 3) := dk_159 5 34 (dk_at dksL_law_115 7 rfl rfl)
theorem dL_law_2947 : decode cL_law 2947 = .ok (.iconst 0, 1) := dk_3 (dk_at dksL_law_115 10 rfl rfl)
theorem dL_law_2948 : decode cL_law 2948 = .ok (.ireturn, 1) := dk_172 (dk_at dksL_law_115 11 rfl rfl)
theorem dL_law_2949 : decode cL_law 2949 = .ok (.aload_n 1, 1) := dk_43 (dk_at dksL_law_115 12 rfl rfl)
theorem dL_law_2950 : decode cL_law 2950 = .ok (.aload_n 0, 1) := dk_42 (dk_at dksL_law_115 13 rfl rfl)
theorem dL_law_2951 : decode cL_law 2951 = .ok (.iload 4, 2) := dk_21 4 (dk_at dksL_law_115 14 rfl rfl)
theorem dL_law_2953 : decode cL_law 2953 = .ok (.iconst 1, 1) := dk_4 (dk_at dksL_law_115 16 rfl rfl)
theorem dL_law_2954 : decode cL_law 2954 = .ok (.iadd, 1) := dk_96 (dk_at dksL_law_115 17 rfl rfl)
theorem dL_law_2955 : decode cL_law 2955 = .ok (.iaload, 1) := dk_46 (dk_at dksL_law_115 18 rfl rfl)
theorem dL_law_2956 : decode cL_law 2956 = .ok (.aload_n 0, 1) := dk_42 (dk_at dksL_law_115 19 rfl rfl)
theorem dL_law_2957 : decode cL_law 2957 = .ok (.iload 4, 2) := dk_21 4 (dk_at dksL_law_115 20 rfl rfl)
theorem dL_law_2959 : decode cL_law 2959 = .ok (.iconst 2, 1) := dk_5 (dk_at dksL_law_115 22 rfl rfl)
theorem dL_law_2960 : decode cL_law 2960 = .ok (.iadd, 1) := dk_96 (dk_at dksL_law_115 23 rfl rfl)
theorem dL_law_2961 : decode cL_law 2961 = .ok (.iaload, 1) := dk_46 (dk_at dksL_law_116 0 rfl rfl)
theorem dL_law_2962 : decode cL_law 2962 = .ok (.aload_n 0, 1) := dk_42 (dk_at dksL_law_116 1 rfl rfl)
theorem dL_law_2963 : decode cL_law 2963 = .ok (.iload 4, 2) := dk_21 4 (dk_at dksL_law_116 2 rfl rfl)
theorem dL_law_2965 : decode cL_law 2965 = .ok (.iconst 3, 1) := dk_6 (dk_at dksL_law_116 4 rfl rfl)
theorem dL_law_2966 : decode cL_law 2966 = .ok (.iadd, 1) := dk_96 (dk_at dksL_law_116 5 rfl rfl)
theorem dL_law_2967 : decode cL_law 2967 = .ok (.iaload, 1) := dk_46 (dk_at dksL_law_116 6 rfl rfl)
theorem dL_law_2968 : decode cL_law 2968 = .ok (.aload_n 3, 1) := dk_45 (dk_at dksL_law_116 7 rfl rfl)
theorem dL_law_2969 : decode cL_law 2969 = .ok (.invokestatic 325, 3) := dk_184 1 69 (dk_at dksL_law_116 8 rfl rfl)
theorem dL_law_2972 : decode cL_law 2972 = .ok (.istore 5, 2) := dk_54 5 (dk_at dksL_law_116 11 rfl rfl)
theorem dL_law_2974 : decode cL_law 2974 = .ok (.aload_n 2, 1) := dk_44 (dk_at dksL_law_116 13 rfl rfl)
theorem dL_law_2975 : decode cL_law 2975 = .ok (.aload_n 0, 1) := dk_42 (dk_at dksL_law_116 14 rfl rfl)
theorem dL_law_2976 : decode cL_law 2976 = .ok (.iload 4, 2) := dk_21 4 (dk_at dksL_law_116 15 rfl rfl)
theorem dL_law_2978 : decode cL_law 2978 = .ok (.iconst 1, 1) := dk_4 (dk_at dksL_law_116 17 rfl rfl)
theorem dL_law_2979 : decode cL_law 2979 = .ok (.iadd, 1) := dk_96 (dk_at dksL_law_116 18 rfl rfl)
theorem dL_law_2980 : decode cL_law 2980 = .ok (.iaload, 1) := dk_46 (dk_at dksL_law_116 19 rfl rfl)
theorem dL_law_2981 : decode cL_law 2981 = .ok (.aload_n 0, 1) := dk_42 (dk_at dksL_law_116 20 rfl rfl)
theorem dL_law_2982 : decode cL_law 2982 = .ok (.iload 4, 2) := dk_21 4 (dk_at dksL_law_116 21 rfl rfl)
theorem dL_law_2984 : decode cL_law 2984 = .ok (.iconst 2, 1) := dk_5 (dk_at dksL_law_116 23 rfl rfl)
theorem dL_law_2985 : decode cL_law 2985 = .ok (.iadd, 1) := dk_96 (dk_at dksL_law_117 0 rfl rfl)
theorem dL_law_2986 : decode cL_law 2986 = .ok (.iaload, 1) := dk_46 (dk_at dksL_law_117 1 rfl rfl)
theorem dL_law_2987 : decode cL_law 2987 = .ok (.aload_n 0, 1) := dk_42 (dk_at dksL_law_117 2 rfl rfl)
theorem dL_law_2988 : decode cL_law 2988 = .ok (.iload 4, 2) := dk_21 4 (dk_at dksL_law_117 3 rfl rfl)
theorem dL_law_2990 : decode cL_law 2990 = .ok (.iconst 3, 1) := dk_6 (dk_at dksL_law_117 5 rfl rfl)
theorem dL_law_2991 : decode cL_law 2991 = .ok (.iadd, 1) := dk_96 (dk_at dksL_law_117 6 rfl rfl)
theorem dL_law_2992 : decode cL_law 2992 = .ok (.iaload, 1) := dk_46 (dk_at dksL_law_117 7 rfl rfl)
theorem dL_law_2993 : decode cL_law 2993 = .ok (.invokevirtual 327, 3) := dk_182 1 71 (dk_at dksL_law_117 8 rfl rfl)
theorem dL_law_2996 : decode cL_law 2996 = .ok (.istore 6, 2) := dk_54 6 (dk_at dksL_law_117 11 rfl rfl)
theorem dL_law_2998 : decode cL_law 2998 = .ok (.aload_n 2, 1) := dk_44 (dk_at dksL_law_117 13 rfl rfl)
theorem dL_law_2999 : decode cL_law 2999 = .ok (.invokevirtual 194, 3) := dk_182 0 194 (dk_at dksL_law_117 14 rfl rfl)
theorem dL_law_3002 : decode cL_law 3002 = .ok (.iload 5, 2) := dk_21 5 (dk_at dksL_law_117 17 rfl rfl)
theorem dL_law_3004 : decode cL_law 3004 = .ok (.if_icmp .eq 5, 3) := dk_159 0 5 (dk_at dksL_law_117 19 rfl rfl)
theorem dL_law_3007 : decode cL_law 3007 = .ok (.iconst 0, 1) := dk_3 (dk_at dksL_law_117 22 rfl rfl)
theorem dL_law_3008 : decode cL_law 3008 = .ok (.ireturn, 1) := dk_172 (dk_at dksL_law_117 23 rfl rfl)
theorem dL_law_3009 : decode cL_law 3009 = .ok (.iload 5, 2) := dk_21 5 (dk_at dksL_law_118 0 rfl rfl)
theorem dL_law_3011 : decode cL_law 3011 = .ok (.ifCond .ne 15, 3) := dk_154 0 15 (dk_at dksL_law_118 2 rfl rfl)
theorem dL_law_3014 : decode cL_law 3014 = .ok (.aload_n 3, 1) := dk_45 (dk_at dksL_law_118 5 rfl rfl)
theorem dL_law_3015 : decode cL_law 3015 = .ok (.iconst 0, 1) := dk_3 (dk_at dksL_law_118 6 rfl rfl)
theorem dL_law_3016 : decode cL_law 3016 = .ok (.laload, 1) := dk_47 (dk_at dksL_law_118 7 rfl rfl)
theorem dL_law_3017 : decode cL_law 3017 = .ok (.iload 6, 2) := dk_21 6 (dk_at dksL_law_118 8 rfl rfl)
theorem dL_law_3019 : decode cL_law 3019 = .ok (.i2l, 1) := dk_133 (dk_at dksL_law_118 10 rfl rfl)
theorem dL_law_3020 : decode cL_law 3020 = .ok (.lcmp, 1) := dk_148 (dk_at dksL_law_118 11 rfl rfl)
theorem dL_law_3021 : decode cL_law 3021 = .ok (.ifCond .eq 5, 3) := dk_153 0 5 (dk_at dksL_law_118 12 rfl rfl)
theorem dL_law_3024 : decode cL_law 3024 = .ok (.iconst 0, 1) := dk_3 (dk_at dksL_law_118 15 rfl rfl)
theorem dL_law_3025 : decode cL_law 3025 = .ok (.ireturn, 1) := dk_172 (dk_at dksL_law_118 16 rfl rfl)
theorem dL_law_3026 : decode cL_law 3026 = .ok (.goto 1232, 3) := dk_167 4 208 (dk_at dksL_law_118 17 rfl rfl)
theorem dL_law_3029 : decode cL_law 3029 = .ok (.aload_n 1, 1) := dk_43 (dk_at dksL_law_118 20 rfl rfl)
theorem dL_law_3030 : decode cL_law 3030 = .ok (.invokevirtual 328, 3) := dk_182 1 72 (dk_at dksL_law_118 21 rfl rfl)
theorem dL_law_3033 : decode cL_law 3033 = .ok (.aload_n 2, 1) := dk_44 (dk_at dksL_law_119 0 rfl rfl)
theorem dL_law_3034 : decode cL_law 3034 = .ok (.invokevirtual 331, 3) := dk_182 1 75 (dk_at dksL_law_119 1 rfl rfl)
theorem dL_law_3037 : decode cL_law 3037 = .ok (.if_icmp .eq 1221, 3) := dk_159 4 197 (dk_at dksL_law_119 4 rfl rfl)
theorem dL_law_3040 : decode cL_law 3040 = .ok (.iconst 0, 1) := dk_3 (dk_at dksL_law_119 7 rfl rfl)
theorem dL_law_3041 : decode cL_law 3041 = .ok (.ireturn, 1) := dk_172 (dk_at dksL_law_119 8 rfl rfl)
theorem dL_law_3042 : decode cL_law 3042 = .ok (.aload_n 1, 1) := dk_43 (dk_at dksL_law_119 9 rfl rfl)
theorem dL_law_3043 : decode cL_law 3043 = .ok (.aload_n 0, 1) := dk_42 (dk_at dksL_law_119 10 rfl rfl)
theorem dL_law_3044 : decode cL_law 3044 = .ok (.iload 4, 2) := dk_21 4 (dk_at dksL_law_119 11 rfl rfl)
theorem dL_law_3046 : decode cL_law 3046 = .ok (.iconst 1, 1) := dk_4 (dk_at dksL_law_119 13 rfl rfl)
theorem dL_law_3047 : decode cL_law 3047 = .ok (.iadd, 1) := dk_96 (dk_at dksL_law_119 14 rfl rfl)
theorem dL_law_3048 : decode cL_law 3048 = .ok (.iaload, 1) := dk_46 (dk_at dksL_law_119 15 rfl rfl)
theorem dL_law_3049 : decode cL_law 3049 = .ok (.aload_n 0, 1) := dk_42 (dk_at dksL_law_119 16 rfl rfl)
theorem dL_law_3050 : decode cL_law 3050 = .ok (.iload 4, 2) := dk_21 4 (dk_at dksL_law_119 17 rfl rfl)
theorem dL_law_3052 : decode cL_law 3052 = .ok (.iconst 2, 1) := dk_5 (dk_at dksL_law_119 19 rfl rfl)
theorem dL_law_3053 : decode cL_law 3053 = .ok (.iadd, 1) := dk_96 (dk_at dksL_law_119 20 rfl rfl)
theorem dL_law_3054 : decode cL_law 3054 = .ok (.iaload, 1) := dk_46 (dk_at dksL_law_119 21 rfl rfl)
theorem dL_law_3055 : decode cL_law 3055 = .ok (.aload_n 3, 1) := dk_45 (dk_at dksL_law_119 22 rfl rfl)
theorem dL_law_3056 : decode cL_law 3056 = .ok (.invokestatic 332, 3) := dk_184 1 76 (dk_at dksL_law_120 0 rfl rfl)
theorem dL_law_3059 : decode cL_law 3059 = .ok (.istore 5, 2) := dk_54 5 (dk_at dksL_law_120 3 rfl rfl)
theorem dL_law_3061 : decode cL_law 3061 = .ok (.aload_n 2, 1) := dk_44 (dk_at dksL_law_120 5 rfl rfl)
theorem dL_law_3062 : decode cL_law 3062 = .ok (.aload_n 0, 1) := dk_42 (dk_at dksL_law_120 6 rfl rfl)
theorem dL_law_3063 : decode cL_law 3063 = .ok (.iload 4, 2) := dk_21 4 (dk_at dksL_law_120 7 rfl rfl)
theorem dL_law_3065 : decode cL_law 3065 = .ok (.iconst 1, 1) := dk_4 (dk_at dksL_law_120 9 rfl rfl)
theorem dL_law_3066 : decode cL_law 3066 = .ok (.iadd, 1) := dk_96 (dk_at dksL_law_120 10 rfl rfl)
theorem dL_law_3067 : decode cL_law 3067 = .ok (.iaload, 1) := dk_46 (dk_at dksL_law_120 11 rfl rfl)
theorem dL_law_3068 : decode cL_law 3068 = .ok (.aload_n 0, 1) := dk_42 (dk_at dksL_law_120 12 rfl rfl)
theorem dL_law_3069 : decode cL_law 3069 = .ok (.iload 4, 2) := dk_21 4 (dk_at dksL_law_120 13 rfl rfl)
theorem dL_law_3071 : decode cL_law 3071 = .ok (.iconst 2, 1) := dk_5 (dk_at dksL_law_120 15 rfl rfl)
theorem dL_law_3072 : decode cL_law 3072 = .ok (.iadd, 1) := dk_96 (dk_at dksL_law_120 16 rfl rfl)
theorem dL_law_3073 : decode cL_law 3073 = .ok (.iaload, 1) := dk_46 (dk_at dksL_law_120 17 rfl rfl)
theorem dL_law_3074 : decode cL_law 3074 = .ok (.invokevirtual 334, 3) := dk_182 1 78 (dk_at dksL_law_120 18 rfl rfl)
theorem dL_law_3077 : decode cL_law 3077 = .ok (.istore 6, 2) := dk_54 6 (dk_at dksL_law_120 21 rfl rfl)
theorem dL_law_3079 : decode cL_law 3079 = .ok (.aload_n 2, 1) := dk_44 (dk_at dksL_law_120 23 rfl rfl)
theorem dL_law_3080 : decode cL_law 3080 = .ok (.invokevirtual 194, 3) := dk_182 0 194 (dk_at dksL_law_121 0 rfl rfl)
theorem dL_law_3083 : decode cL_law 3083 = .ok (.iload 5, 2) := dk_21 5 (dk_at dksL_law_121 3 rfl rfl)
theorem dL_law_3085 : decode cL_law 3085 = .ok (.if_icmp .eq 5, 3) := dk_159 0 5 (dk_at dksL_law_121 5 rfl rfl)
theorem dL_law_3088 : decode cL_law 3088 = .ok (.iconst 0, 1) := dk_3 (dk_at dksL_law_121 8 rfl rfl)
theorem dL_law_3089 : decode cL_law 3089 = .ok (.ireturn, 1) := dk_172 (dk_at dksL_law_121 9 rfl rfl)
theorem dL_law_3090 : decode cL_law 3090 = .ok (.iload 5, 2) := dk_21 5 (dk_at dksL_law_121 10 rfl rfl)
theorem dL_law_3092 : decode cL_law 3092 = .ok (.ifCond .ne 15, 3) := dk_154 0 15 (dk_at dksL_law_121 12 rfl rfl)
theorem dL_law_3095 : decode cL_law 3095 = .ok (.aload_n 3, 1) := dk_45 (dk_at dksL_law_121 15 rfl rfl)
theorem dL_law_3096 : decode cL_law 3096 = .ok (.iconst 0, 1) := dk_3 (dk_at dksL_law_121 16 rfl rfl)
theorem dL_law_3097 : decode cL_law 3097 = .ok (.laload, 1) := dk_47 (dk_at dksL_law_121 17 rfl rfl)
theorem dL_law_3098 : decode cL_law 3098 = .ok (.iload 6, 2) := dk_21 6 (dk_at dksL_law_121 18 rfl rfl)
theorem dL_law_3100 : decode cL_law 3100 = .ok (.i2l, 1) := dk_133 (dk_at dksL_law_121 20 rfl rfl)
theorem dL_law_3101 : decode cL_law 3101 = .ok (.lcmp, 1) := dk_148 (dk_at dksL_law_121 21 rfl rfl)
theorem dL_law_3102 : decode cL_law 3102 = .ok (.ifCond .eq 5, 3) := dk_153 0 5 (dk_at dksL_law_122 0 rfl rfl)
theorem dL_law_3105 : decode cL_law 3105 = .ok (.iconst 0, 1) := dk_3 (dk_at dksL_law_122 3 rfl rfl)
theorem dL_law_3106 : decode cL_law 3106 = .ok (.ireturn, 1) := dk_172 (dk_at dksL_law_122 4 rfl rfl)
theorem dL_law_3107 : decode cL_law 3107 = .ok (.goto 1151, 3) := dk_167 4 127 (dk_at dksL_law_122 5 rfl rfl)
theorem dL_law_3110 : decode cL_law 3110 = .ok (.aload_n 1, 1) := dk_43 (dk_at dksL_law_122 8 rfl rfl)
theorem dL_law_3111 : decode cL_law 3111 = .ok (.aload_n 0, 1) := dk_42 (dk_at dksL_law_122 9 rfl rfl)
theorem dL_law_3112 : decode cL_law 3112 = .ok (.iload 4, 2) := dk_21 4 (dk_at dksL_law_122 10 rfl rfl)
theorem dL_law_3114 : decode cL_law 3114 = .ok (.iconst 1, 1) := dk_4 (dk_at dksL_law_122 12 rfl rfl)
theorem dL_law_3115 : decode cL_law 3115 = .ok (.iadd, 1) := dk_96 (dk_at dksL_law_122 13 rfl rfl)
theorem dL_law_3116 : decode cL_law 3116 = .ok (.iaload, 1) := dk_46 (dk_at dksL_law_122 14 rfl rfl)
theorem dL_law_3117 : decode cL_law 3117 = .ok (.aload_n 0, 1) := dk_42 (dk_at dksL_law_122 15 rfl rfl)
theorem dL_law_3118 : decode cL_law 3118 = .ok (.iload 4, 2) := dk_21 4 (dk_at dksL_law_122 16 rfl rfl)
theorem dL_law_3120 : decode cL_law 3120 = .ok (.iconst 2, 1) := dk_5 (dk_at dksL_law_122 18 rfl rfl)
theorem dL_law_3121 : decode cL_law 3121 = .ok (.iadd, 1) := dk_96 (dk_at dksL_law_122 19 rfl rfl)
theorem dL_law_3122 : decode cL_law 3122 = .ok (.iaload, 1) := dk_46 (dk_at dksL_law_122 20 rfl rfl)
theorem dL_law_3123 : decode cL_law 3123 = .ok (.aload_n 0, 1) := dk_42 (dk_at dksL_law_122 21 rfl rfl)
theorem dL_law_3124 : decode cL_law 3124 = .ok (.iload 4, 2) := dk_21 4 (dk_at dksL_law_122 22 rfl rfl)
theorem dL_law_3126 : decode cL_law 3126 = .ok (.iconst 3, 1) := dk_6 (dk_at dksL_law_123 0 rfl rfl)
theorem dL_law_3127 : decode cL_law 3127 = .ok (.iadd, 1) := dk_96 (dk_at dksL_law_123 1 rfl rfl)
theorem dL_law_3128 : decode cL_law 3128 = .ok (.iaload, 1) := dk_46 (dk_at dksL_law_123 2 rfl rfl)
theorem dL_law_3129 : decode cL_law 3129 = .ok (.aload_n 3, 1) := dk_45 (dk_at dksL_law_123 3 rfl rfl)
theorem dL_law_3130 : decode cL_law 3130 = .ok (.invokestatic 335, 3) := dk_184 1 79 (dk_at dksL_law_123 4 rfl rfl)
theorem dL_law_3133 : decode cL_law 3133 = .ok (.istore 5, 2) := dk_54 5 (dk_at dksL_law_123 7 rfl rfl)
theorem dL_law_3135 : decode cL_law 3135 = .ok (.aload_n 2, 1) := dk_44 (dk_at dksL_law_123 9 rfl rfl)
theorem dL_law_3136 : decode cL_law 3136 = .ok (.aload_n 0, 1) := dk_42 (dk_at dksL_law_123 10 rfl rfl)
theorem dL_law_3137 : decode cL_law 3137 = .ok (.iload 4, 2) := dk_21 4 (dk_at dksL_law_123 11 rfl rfl)
theorem dL_law_3139 : decode cL_law 3139 = .ok (.iconst 1, 1) := dk_4 (dk_at dksL_law_123 13 rfl rfl)
theorem dL_law_3140 : decode cL_law 3140 = .ok (.iadd, 1) := dk_96 (dk_at dksL_law_123 14 rfl rfl)
theorem dL_law_3141 : decode cL_law 3141 = .ok (.iaload, 1) := dk_46 (dk_at dksL_law_123 15 rfl rfl)
theorem dL_law_3142 : decode cL_law 3142 = .ok (.aload_n 0, 1) := dk_42 (dk_at dksL_law_123 16 rfl rfl)
theorem dL_law_3143 : decode cL_law 3143 = .ok (.iload 4, 2) := dk_21 4 (dk_at dksL_law_123 17 rfl rfl)
theorem dL_law_3145 : decode cL_law 3145 = .ok (.iconst 2, 1) := dk_5 (dk_at dksL_law_123 19 rfl rfl)
theorem dL_law_3146 : decode cL_law 3146 = .ok (.iadd, 1) := dk_96 (dk_at dksL_law_123 20 rfl rfl)
theorem dL_law_3147 : decode cL_law 3147 = .ok (.iaload, 1) := dk_46 (dk_at dksL_law_123 21 rfl rfl)
theorem dL_law_3148 : decode cL_law 3148 = .ok (.aload_n 0, 1) := dk_42 (dk_at dksL_law_123 22 rfl rfl)
theorem dL_law_3149 : decode cL_law 3149 = .ok (.iload 4, 2) := dk_21 4 (dk_at dksL_law_124 0 rfl rfl)
theorem dL_law_3151 : decode cL_law 3151 = .ok (.iconst 3, 1) := dk_6 (dk_at dksL_law_124 2 rfl rfl)
theorem dL_law_3152 : decode cL_law 3152 = .ok (.iadd, 1) := dk_96 (dk_at dksL_law_124 3 rfl rfl)
theorem dL_law_3153 : decode cL_law 3153 = .ok (.iaload, 1) := dk_46 (dk_at dksL_law_124 4 rfl rfl)
theorem dL_law_3154 : decode cL_law 3154 = .ok (.invokevirtual 337, 3) := dk_182 1 81 (dk_at dksL_law_124 5 rfl rfl)
theorem dL_law_3157 : decode cL_law 3157 = .ok (.istore 6, 2) := dk_54 6 (dk_at dksL_law_124 8 rfl rfl)
theorem dL_law_3159 : decode cL_law 3159 = .ok (.aload_n 2, 1) := dk_44 (dk_at dksL_law_124 10 rfl rfl)
theorem dL_law_3160 : decode cL_law 3160 = .ok (.invokevirtual 194, 3) := dk_182 0 194 (dk_at dksL_law_124 11 rfl rfl)
theorem dL_law_3163 : decode cL_law 3163 = .ok (.iload 5, 2) := dk_21 5 (dk_at dksL_law_124 14 rfl rfl)
theorem dL_law_3165 : decode cL_law 3165 = .ok (.if_icmp .eq 5, 3) := dk_159 0 5 (dk_at dksL_law_124 16 rfl rfl)
theorem dL_law_3168 : decode cL_law 3168 = .ok (.iconst 0, 1) := dk_3 (dk_at dksL_law_124 19 rfl rfl)
theorem dL_law_3169 : decode cL_law 3169 = .ok (.ireturn, 1) := dk_172 (dk_at dksL_law_124 20 rfl rfl)
theorem dL_law_3170 : decode cL_law 3170 = .ok (.iload 5, 2) := dk_21 5 (dk_at dksL_law_124 21 rfl rfl)
theorem dL_law_3172 : decode cL_law 3172 = .ok (.ifCond .ne 15, 3) := dk_154 0 15 (dk_at dksL_law_125 0 rfl rfl)
theorem dL_law_3175 : decode cL_law 3175 = .ok (.aload_n 3, 1) := dk_45 (dk_at dksL_law_125 3 rfl rfl)
theorem dL_law_3176 : decode cL_law 3176 = .ok (.iconst 0, 1) := dk_3 (dk_at dksL_law_125 4 rfl rfl)
theorem dL_law_3177 : decode cL_law 3177 = .ok (.laload, 1) := dk_47 (dk_at dksL_law_125 5 rfl rfl)
theorem dL_law_3178 : decode cL_law 3178 = .ok (.iload 6, 2) := dk_21 6 (dk_at dksL_law_125 6 rfl rfl)
theorem dL_law_3180 : decode cL_law 3180 = .ok (.i2l, 1) := dk_133 (dk_at dksL_law_125 8 rfl rfl)
theorem dL_law_3181 : decode cL_law 3181 = .ok (.lcmp, 1) := dk_148 (dk_at dksL_law_125 9 rfl rfl)
theorem dL_law_3182 : decode cL_law 3182 = .ok (.ifCond .eq 5, 3) := dk_153 0 5 (dk_at dksL_law_125 10 rfl rfl)
theorem dL_law_3185 : decode cL_law 3185 = .ok (.iconst 0, 1) := dk_3 (dk_at dksL_law_125 13 rfl rfl)
theorem dL_law_3186 : decode cL_law 3186 = .ok (.ireturn, 1) := dk_172 (dk_at dksL_law_125 14 rfl rfl)
theorem dL_law_3187 : decode cL_law 3187 = .ok (.goto 1071, 3) := dk_167 4 47 (dk_at dksL_law_125 15 rfl rfl)
theorem dL_law_3190 : decode cL_law 3190 = .ok (.aload_n 1, 1) := dk_43 (dk_at dksL_law_125 18 rfl rfl)
theorem dL_law_3191 : decode cL_law 3191 = .ok (.aload_n 0, 1) := dk_42 (dk_at dksL_law_125 19 rfl rfl)
theorem dL_law_3192 : decode cL_law 3192 = .ok (.iload 4, 2) := dk_21 4 (dk_at dksL_law_125 20 rfl rfl)
theorem dL_law_3194 : decode cL_law 3194 = .ok (.iconst 1, 1) := dk_4 (dk_at dksL_law_125 22 rfl rfl)
theorem dL_law_3195 : decode cL_law 3195 = .ok (.iadd, 1) := dk_96 (dk_at dksL_law_125 23 rfl rfl)
theorem dL_law_3196 : decode cL_law 3196 = .ok (.iaload, 1) := dk_46 (dk_at dksL_law_126 0 rfl rfl)
theorem dL_law_3197 : decode cL_law 3197 = .ok (.aload_n 0, 1) := dk_42 (dk_at dksL_law_126 1 rfl rfl)
theorem dL_law_3198 : decode cL_law 3198 = .ok (.iload 4, 2) := dk_21 4 (dk_at dksL_law_126 2 rfl rfl)
theorem dL_law_3200 : decode cL_law 3200 = .ok (.iconst 2, 1) := dk_5 (dk_at dksL_law_126 4 rfl rfl)
theorem dL_law_3201 : decode cL_law 3201 = .ok (.iadd, 1) := dk_96 (dk_at dksL_law_126 5 rfl rfl)
theorem dL_law_3202 : decode cL_law 3202 = .ok (.iaload, 1) := dk_46 (dk_at dksL_law_126 6 rfl rfl)
theorem dL_law_3203 : decode cL_law 3203 = .ok (.aload_n 3, 1) := dk_45 (dk_at dksL_law_126 7 rfl rfl)
theorem dL_law_3204 : decode cL_law 3204 = .ok (.invokestatic 338, 3) := dk_184 1 82 (dk_at dksL_law_126 8 rfl rfl)
theorem dL_law_3207 : decode cL_law 3207 = .ok (.istore 5, 2) := dk_54 5 (dk_at dksL_law_126 11 rfl rfl)
theorem dL_law_3209 : decode cL_law 3209 = .ok (.aload_n 2, 1) := dk_44 (dk_at dksL_law_126 13 rfl rfl)
theorem dL_law_3210 : decode cL_law 3210 = .ok (.aload_n 0, 1) := dk_42 (dk_at dksL_law_126 14 rfl rfl)
theorem dL_law_3211 : decode cL_law 3211 = .ok (.iload 4, 2) := dk_21 4 (dk_at dksL_law_126 15 rfl rfl)
theorem dL_law_3213 : decode cL_law 3213 = .ok (.iconst 1, 1) := dk_4 (dk_at dksL_law_126 17 rfl rfl)
theorem dL_law_3214 : decode cL_law 3214 = .ok (.iadd, 1) := dk_96 (dk_at dksL_law_126 18 rfl rfl)
theorem dL_law_3215 : decode cL_law 3215 = .ok (.iaload, 1) := dk_46 (dk_at dksL_law_126 19 rfl rfl)
theorem dL_law_3216 : decode cL_law 3216 = .ok (.aload_n 0, 1) := dk_42 (dk_at dksL_law_126 20 rfl rfl)
theorem dL_law_3217 : decode cL_law 3217 = .ok (.iload 4, 2) := dk_21 4 (dk_at dksL_law_126 21 rfl rfl)
theorem dL_law_3219 : decode cL_law 3219 = .ok (.iconst 2, 1) := dk_5 (dk_at dksL_law_126 23 rfl rfl)
theorem dL_law_3220 : decode cL_law 3220 = .ok (.iadd, 1) := dk_96 (dk_at dksL_law_127 0 rfl rfl)
theorem dL_law_3221 : decode cL_law 3221 = .ok (.iaload, 1) := dk_46 (dk_at dksL_law_127 1 rfl rfl)
theorem dL_law_3222 : decode cL_law 3222 = .ok (.invokevirtual 340, 3) := dk_182 1 84 (dk_at dksL_law_127 2 rfl rfl)
theorem dL_law_3225 : decode cL_law 3225 = .ok (.istore 6, 2) := dk_54 6 (dk_at dksL_law_127 5 rfl rfl)
theorem dL_law_3227 : decode cL_law 3227 = .ok (.aload_n 2, 1) := dk_44 (dk_at dksL_law_127 7 rfl rfl)
theorem dL_law_3228 : decode cL_law 3228 = .ok (.invokevirtual 194, 3) := dk_182 0 194 (dk_at dksL_law_127 8 rfl rfl)
theorem dL_law_3231 : decode cL_law 3231 = .ok (.iload 5, 2) := dk_21 5 (dk_at dksL_law_127 11 rfl rfl)
theorem dL_law_3233 : decode cL_law 3233 = .ok (.if_icmp .eq 5, 3) := dk_159 0 5 (dk_at dksL_law_127 13 rfl rfl)
theorem dL_law_3236 : decode cL_law 3236 = .ok (.iconst 0, 1) := dk_3 (dk_at dksL_law_127 16 rfl rfl)
theorem dL_law_3237 : decode cL_law 3237 = .ok (.ireturn, 1) := dk_172 (dk_at dksL_law_127 17 rfl rfl)
theorem dL_law_3238 : decode cL_law 3238 = .ok (.iload 5, 2) := dk_21 5 (dk_at dksL_law_127 18 rfl rfl)
theorem dL_law_3240 : decode cL_law 3240 = .ok (.ifCond .ne 15, 3) := dk_154 0 15 (dk_at dksL_law_127 20 rfl rfl)
theorem dL_law_3243 : decode cL_law 3243 = .ok (.aload_n 3, 1) := dk_45 (dk_at dksL_law_127 23 rfl rfl)
theorem dL_law_3244 : decode cL_law 3244 = .ok (.iconst 0, 1) := dk_3 (dk_at dksL_law_128 0 rfl rfl)
theorem dL_law_3245 : decode cL_law 3245 = .ok (.laload, 1) := dk_47 (dk_at dksL_law_128 1 rfl rfl)
theorem dL_law_3246 : decode cL_law 3246 = .ok (.iload 6, 2) := dk_21 6 (dk_at dksL_law_128 2 rfl rfl)
theorem dL_law_3248 : decode cL_law 3248 = .ok (.i2l, 1) := dk_133 (dk_at dksL_law_128 4 rfl rfl)
theorem dL_law_3249 : decode cL_law 3249 = .ok (.lcmp, 1) := dk_148 (dk_at dksL_law_128 5 rfl rfl)
theorem dL_law_3250 : decode cL_law 3250 = .ok (.ifCond .eq 5, 3) := dk_153 0 5 (dk_at dksL_law_128 6 rfl rfl)
theorem dL_law_3253 : decode cL_law 3253 = .ok (.iconst 0, 1) := dk_3 (dk_at dksL_law_128 9 rfl rfl)
theorem dL_law_3254 : decode cL_law 3254 = .ok (.ireturn, 1) := dk_172 (dk_at dksL_law_128 10 rfl rfl)
theorem dL_law_3255 : decode cL_law 3255 = .ok (.goto 1003, 3) := dk_167 3 235 (dk_at dksL_law_128 11 rfl rfl)
theorem dL_law_3258 : decode cL_law 3258 = .ok (.aload_n 1, 1) := dk_43 (dk_at dksL_law_128 14 rfl rfl)
theorem dL_law_3259 : decode cL_law 3259 = .ok (.aload_n 0, 1) := dk_42 (dk_at dksL_law_128 15 rfl rfl)
theorem dL_law_3260 : decode cL_law 3260 = .ok (.iload 4, 2) := dk_21 4 (dk_at dksL_law_128 16 rfl rfl)
theorem dL_law_3262 : decode cL_law 3262 = .ok (.iconst 1, 1) := dk_4 (dk_at dksL_law_128 18 rfl rfl)
theorem dL_law_3263 : decode cL_law 3263 = .ok (.iadd, 1) := dk_96 (dk_at dksL_law_128 19 rfl rfl)
theorem dL_law_3264 : decode cL_law 3264 = .ok (.iaload, 1) := dk_46 (dk_at dksL_law_128 20 rfl rfl)
theorem dL_law_3265 : decode cL_law 3265 = .ok (.aload_n 0, 1) := dk_42 (dk_at dksL_law_128 21 rfl rfl)
theorem dL_law_3266 : decode cL_law 3266 = .ok (.iload 4, 2) := dk_21 4 (dk_at dksL_law_128 22 rfl rfl)
theorem dL_law_3268 : decode cL_law 3268 = .ok (.iconst 2, 1) := dk_5 (dk_at dksL_law_129 0 rfl rfl)
theorem dL_law_3269 : decode cL_law 3269 = .ok (.iadd, 1) := dk_96 (dk_at dksL_law_129 1 rfl rfl)
theorem dL_law_3270 : decode cL_law 3270 = .ok (.iaload, 1) := dk_46 (dk_at dksL_law_129 2 rfl rfl)
theorem dL_law_3271 : decode cL_law 3271 = .ok (.aload_n 0, 1) := dk_42 (dk_at dksL_law_129 3 rfl rfl)
theorem dL_law_3272 : decode cL_law 3272 = .ok (.iload 4, 2) := dk_21 4 (dk_at dksL_law_129 4 rfl rfl)
theorem dL_law_3274 : decode cL_law 3274 = .ok (.iconst 3, 1) := dk_6 (dk_at dksL_law_129 6 rfl rfl)
theorem dL_law_3275 : decode cL_law 3275 = .ok (.iadd, 1) := dk_96 (dk_at dksL_law_129 7 rfl rfl)
theorem dL_law_3276 : decode cL_law 3276 = .ok (.iaload, 1) := dk_46 (dk_at dksL_law_129 8 rfl rfl)
theorem dL_law_3277 : decode cL_law 3277 = .ok (.ifCond .eq 7, 3) := dk_153 0 7 (dk_at dksL_law_129 9 rfl rfl)
theorem dL_law_3280 : decode cL_law 3280 = .ok (.iconst 1, 1) := dk_4 (dk_at dksL_law_129 12 rfl rfl)
theorem dL_law_3281 : decode cL_law 3281 = .ok (.goto 4, 3) := dk_167 0 4 (dk_at dksL_law_129 13 rfl rfl)
theorem dL_law_3284 : decode cL_law 3284 = .ok (.iconst 0, 1) := dk_3 (dk_at dksL_law_129 16 rfl rfl)
theorem dL_law_3285 : decode cL_law 3285 = .ok (.aload_n 3, 1) := dk_45 (dk_at dksL_law_129 17 rfl rfl)
theorem dL_law_3286 : decode cL_law 3286 = .ok (.invokestatic 341, 3) := dk_184 1 85 (dk_at dksL_law_129 18 rfl rfl)
theorem dL_law_3289 : decode cL_law 3289 = .ok (.istore 5, 2) := dk_54 5 (dk_at dksL_law_129 21 rfl rfl)
theorem dL_law_3291 : decode cL_law 3291 = .ok (.aload_n 2, 1) := dk_44 (dk_at dksL_law_129 23 rfl rfl)
theorem dL_law_3292 : decode cL_law 3292 = .ok (.aload_n 0, 1) := dk_42 (dk_at dksL_law_130 0 rfl rfl)
theorem dL_law_3293 : decode cL_law 3293 = .ok (.iload 4, 2) := dk_21 4 (dk_at dksL_law_130 1 rfl rfl)
theorem dL_law_3295 : decode cL_law 3295 = .ok (.iconst 1, 1) := dk_4 (dk_at dksL_law_130 3 rfl rfl)
theorem dL_law_3296 : decode cL_law 3296 = .ok (.iadd, 1) := dk_96 (dk_at dksL_law_130 4 rfl rfl)
theorem dL_law_3297 : decode cL_law 3297 = .ok (.iaload, 1) := dk_46 (dk_at dksL_law_130 5 rfl rfl)
theorem dL_law_3298 : decode cL_law 3298 = .ok (.aload_n 0, 1) := dk_42 (dk_at dksL_law_130 6 rfl rfl)
theorem dL_law_3299 : decode cL_law 3299 = .ok (.iload 4, 2) := dk_21 4 (dk_at dksL_law_130 7 rfl rfl)
theorem dL_law_3301 : decode cL_law 3301 = .ok (.iconst 2, 1) := dk_5 (dk_at dksL_law_130 9 rfl rfl)
theorem dL_law_3302 : decode cL_law 3302 = .ok (.iadd, 1) := dk_96 (dk_at dksL_law_130 10 rfl rfl)
theorem dL_law_3303 : decode cL_law 3303 = .ok (.iaload, 1) := dk_46 (dk_at dksL_law_130 11 rfl rfl)
theorem dL_law_3304 : decode cL_law 3304 = .ok (.aload_n 0, 1) := dk_42 (dk_at dksL_law_130 12 rfl rfl)
theorem dL_law_3305 : decode cL_law 3305 = .ok (.iload 4, 2) := dk_21 4 (dk_at dksL_law_130 13 rfl rfl)
theorem dL_law_3307 : decode cL_law 3307 = .ok (.iconst 3, 1) := dk_6 (dk_at dksL_law_130 15 rfl rfl)
theorem dL_law_3308 : decode cL_law 3308 = .ok (.iadd, 1) := dk_96 (dk_at dksL_law_130 16 rfl rfl)
theorem dL_law_3309 : decode cL_law 3309 = .ok (.iaload, 1) := dk_46 (dk_at dksL_law_130 17 rfl rfl)
theorem dL_law_3310 : decode cL_law 3310 = .ok (.ifCond .eq 7, 3) := dk_153 0 7 (dk_at dksL_law_130 18 rfl rfl)
theorem dL_law_3313 : decode cL_law 3313 = .ok (.iconst 1, 1) := dk_4 (dk_at dksL_law_130 21 rfl rfl)
theorem dL_law_3314 : decode cL_law 3314 = .ok (.goto 4, 3) := dk_167 0 4 (dk_at dksL_law_131 0 rfl rfl)
theorem dL_law_3317 : decode cL_law 3317 = .ok (.iconst 0, 1) := dk_3 (dk_at dksL_law_131 3 rfl rfl)
theorem dL_law_3318 : decode cL_law 3318 = .ok (.invokevirtual 344, 3) := dk_182 1 88 (dk_at dksL_law_131 4 rfl rfl)
theorem dL_law_3321 : decode cL_law 3321 = .ok (.istore 6, 2) := dk_54 6 (dk_at dksL_law_131 7 rfl rfl)
theorem dL_law_3323 : decode cL_law 3323 = .ok (.aload_n 2, 1) := dk_44 (dk_at dksL_law_131 9 rfl rfl)
theorem dL_law_3324 : decode cL_law 3324 = .ok (.invokevirtual 194, 3) := dk_182 0 194 (dk_at dksL_law_131 10 rfl rfl)
theorem dL_law_3327 : decode cL_law 3327 = .ok (.iload 5, 2) := dk_21 5 (dk_at dksL_law_131 13 rfl rfl)
theorem dL_law_3329 : decode cL_law 3329 = .ok (.if_icmp .eq 5, 3) := dk_159 0 5 (dk_at dksL_law_131 15 rfl rfl)
theorem dL_law_3332 : decode cL_law 3332 = .ok (.iconst 0, 1) := dk_3 (dk_at dksL_law_131 18 rfl rfl)
theorem dL_law_3333 : decode cL_law 3333 = .ok (.ireturn, 1) := dk_172 (dk_at dksL_law_131 19 rfl rfl)
theorem dL_law_3334 : decode cL_law 3334 = .ok (.iload 5, 2) := dk_21 5 (dk_at dksL_law_131 20 rfl rfl)
theorem dL_law_3336 : decode cL_law 3336 = .ok (.ifCond .ne 15, 3) := dk_154 0 15 (dk_at dksL_law_132 0 rfl rfl)
theorem dL_law_3339 : decode cL_law 3339 = .ok (.aload_n 3, 1) := dk_45 (dk_at dksL_law_132 3 rfl rfl)
theorem dL_law_3340 : decode cL_law 3340 = .ok (.iconst 0, 1) := dk_3 (dk_at dksL_law_132 4 rfl rfl)
theorem dL_law_3341 : decode cL_law 3341 = .ok (.laload, 1) := dk_47 (dk_at dksL_law_132 5 rfl rfl)
theorem dL_law_3342 : decode cL_law 3342 = .ok (.iload 6, 2) := dk_21 6 (dk_at dksL_law_132 6 rfl rfl)
theorem dL_law_3344 : decode cL_law 3344 = .ok (.i2l, 1) := dk_133 (dk_at dksL_law_132 8 rfl rfl)
theorem dL_law_3345 : decode cL_law 3345 = .ok (.lcmp, 1) := dk_148 (dk_at dksL_law_132 9 rfl rfl)
theorem dL_law_3346 : decode cL_law 3346 = .ok (.ifCond .eq 5, 3) := dk_153 0 5 (dk_at dksL_law_132 10 rfl rfl)
theorem dL_law_3349 : decode cL_law 3349 = .ok (.iconst 0, 1) := dk_3 (dk_at dksL_law_132 13 rfl rfl)
theorem dL_law_3350 : decode cL_law 3350 = .ok (.ireturn, 1) := dk_172 (dk_at dksL_law_132 14 rfl rfl)
theorem dL_law_3351 : decode cL_law 3351 = .ok (.goto 907, 3) := dk_167 3 139 (dk_at dksL_law_132 15 rfl rfl)
theorem dL_law_3354 : decode cL_law 3354 = .ok (.aload_n 1, 1) := dk_43 (dk_at dksL_law_132 18 rfl rfl)
theorem dL_law_3355 : decode cL_law 3355 = .ok (.aload_n 0, 1) := dk_42 (dk_at dksL_law_132 19 rfl rfl)
theorem dL_law_3356 : decode cL_law 3356 = .ok (.iload 4, 2) := dk_21 4 (dk_at dksL_law_132 20 rfl rfl)
theorem dL_law_3358 : decode cL_law 3358 = .ok (.iconst 1, 1) := dk_4 (dk_at dksL_law_132 22 rfl rfl)
theorem dL_law_3359 : decode cL_law 3359 = .ok (.iadd, 1) := dk_96 (dk_at dksL_law_132 23 rfl rfl)
theorem dL_law_3360 : decode cL_law 3360 = .ok (.iaload, 1) := dk_46 (dk_at dksL_law_133 0 rfl rfl)
theorem dL_law_3361 : decode cL_law 3361 = .ok (.aload_n 0, 1) := dk_42 (dk_at dksL_law_133 1 rfl rfl)
theorem dL_law_3362 : decode cL_law 3362 = .ok (.iload 4, 2) := dk_21 4 (dk_at dksL_law_133 2 rfl rfl)
theorem dL_law_3364 : decode cL_law 3364 = .ok (.iconst 2, 1) := dk_5 (dk_at dksL_law_133 4 rfl rfl)
theorem dL_law_3365 : decode cL_law 3365 = .ok (.iadd, 1) := dk_96 (dk_at dksL_law_133 5 rfl rfl)
theorem dL_law_3366 : decode cL_law 3366 = .ok (.iaload, 1) := dk_46 (dk_at dksL_law_133 6 rfl rfl)
theorem dL_law_3367 : decode cL_law 3367 = .ok (.aload_n 0, 1) := dk_42 (dk_at dksL_law_133 7 rfl rfl)
theorem dL_law_3368 : decode cL_law 3368 = .ok (.iload 4, 2) := dk_21 4 (dk_at dksL_law_133 8 rfl rfl)
theorem dL_law_3370 : decode cL_law 3370 = .ok (.iconst 3, 1) := dk_6 (dk_at dksL_law_133 10 rfl rfl)
theorem dL_law_3371 : decode cL_law 3371 = .ok (.iadd, 1) := dk_96 (dk_at dksL_law_133 11 rfl rfl)
theorem dL_law_3372 : decode cL_law 3372 = .ok (.iaload, 1) := dk_46 (dk_at dksL_law_133 12 rfl rfl)
theorem dL_law_3373 : decode cL_law 3373 = .ok (.aload_n 3, 1) := dk_45 (dk_at dksL_law_133 13 rfl rfl)
theorem dL_law_3374 : decode cL_law 3374 = .ok (.invokestatic 345, 3) := dk_184 1 89 (dk_at dksL_law_133 14 rfl rfl)
theorem dL_law_3377 : decode cL_law 3377 = .ok (.istore 5, 2) := dk_54 5 (dk_at dksL_law_133 17 rfl rfl)
theorem dL_law_3379 : decode cL_law 3379 = .ok (.aload_n 2, 1) := dk_44 (dk_at dksL_law_133 19 rfl rfl)
theorem dL_law_3380 : decode cL_law 3380 = .ok (.aload_n 0, 1) := dk_42 (dk_at dksL_law_133 20 rfl rfl)
theorem dL_law_3381 : decode cL_law 3381 = .ok (.iload 4, 2) := dk_21 4 (dk_at dksL_law_133 21 rfl rfl)
theorem dL_law_3383 : decode cL_law 3383 = .ok (.iconst 1, 1) := dk_4 (dk_at dksL_law_133 23 rfl rfl)
theorem dL_law_3384 : decode cL_law 3384 = .ok (.iadd, 1) := dk_96 (dk_at dksL_law_134 0 rfl rfl)
theorem dL_law_3385 : decode cL_law 3385 = .ok (.iaload, 1) := dk_46 (dk_at dksL_law_134 1 rfl rfl)
theorem dL_law_3386 : decode cL_law 3386 = .ok (.aload_n 0, 1) := dk_42 (dk_at dksL_law_134 2 rfl rfl)
theorem dL_law_3387 : decode cL_law 3387 = .ok (.iload 4, 2) := dk_21 4 (dk_at dksL_law_134 3 rfl rfl)
theorem dL_law_3389 : decode cL_law 3389 = .ok (.iconst 2, 1) := dk_5 (dk_at dksL_law_134 5 rfl rfl)
theorem dL_law_3390 : decode cL_law 3390 = .ok (.iadd, 1) := dk_96 (dk_at dksL_law_134 6 rfl rfl)
theorem dL_law_3391 : decode cL_law 3391 = .ok (.iaload, 1) := dk_46 (dk_at dksL_law_134 7 rfl rfl)
theorem dL_law_3392 : decode cL_law 3392 = .ok (.aload_n 0, 1) := dk_42 (dk_at dksL_law_134 8 rfl rfl)
theorem dL_law_3393 : decode cL_law 3393 = .ok (.iload 4, 2) := dk_21 4 (dk_at dksL_law_134 9 rfl rfl)
theorem dL_law_3395 : decode cL_law 3395 = .ok (.iconst 3, 1) := dk_6 (dk_at dksL_law_134 11 rfl rfl)
theorem dL_law_3396 : decode cL_law 3396 = .ok (.iadd, 1) := dk_96 (dk_at dksL_law_134 12 rfl rfl)
theorem dL_law_3397 : decode cL_law 3397 = .ok (.iaload, 1) := dk_46 (dk_at dksL_law_134 13 rfl rfl)
theorem dL_law_3398 : decode cL_law 3398 = .ok (.invokevirtual 347, 3) := dk_182 1 91 (dk_at dksL_law_134 14 rfl rfl)
theorem dL_law_3401 : decode cL_law 3401 = .ok (.istore 6, 2) := dk_54 6 (dk_at dksL_law_134 17 rfl rfl)
theorem dL_law_3403 : decode cL_law 3403 = .ok (.aload_n 2, 1) := dk_44 (dk_at dksL_law_134 19 rfl rfl)
theorem dL_law_3404 : decode cL_law 3404 = .ok (.invokevirtual 194, 3) := dk_182 0 194 (dk_at dksL_law_134 20 rfl rfl)
theorem dL_law_3407 : decode cL_law 3407 = .ok (.iload 5, 2) := dk_21 5 (dk_at dksL_law_135 0 rfl rfl)
theorem dL_law_3409 : decode cL_law 3409 = .ok (.if_icmp .eq 5, 3) := dk_159 0 5 (dk_at dksL_law_135 2 rfl rfl)
theorem dL_law_3412 : decode cL_law 3412 = .ok (.iconst 0, 1) := dk_3 (dk_at dksL_law_135 5 rfl rfl)
theorem dL_law_3413 : decode cL_law 3413 = .ok (.ireturn, 1) := dk_172 (dk_at dksL_law_135 6 rfl rfl)
theorem dL_law_3414 : decode cL_law 3414 = .ok (.iload 5, 2) := dk_21 5 (dk_at dksL_law_135 7 rfl rfl)
theorem dL_law_3416 : decode cL_law 3416 = .ok (.ifCond .ne 15, 3) := dk_154 0 15 (dk_at dksL_law_135 9 rfl rfl)
theorem dL_law_3419 : decode cL_law 3419 = .ok (.aload_n 3, 1) := dk_45 (dk_at dksL_law_135 12 rfl rfl)
theorem dL_law_3420 : decode cL_law 3420 = .ok (.iconst 0, 1) := dk_3 (dk_at dksL_law_135 13 rfl rfl)
theorem dL_law_3421 : decode cL_law 3421 = .ok (.laload, 1) := dk_47 (dk_at dksL_law_135 14 rfl rfl)
theorem dL_law_3422 : decode cL_law 3422 = .ok (.iload 6, 2) := dk_21 6 (dk_at dksL_law_135 15 rfl rfl)
theorem dL_law_3424 : decode cL_law 3424 = .ok (.i2l, 1) := dk_133 (dk_at dksL_law_135 17 rfl rfl)
theorem dL_law_3425 : decode cL_law 3425 = .ok (.lcmp, 1) := dk_148 (dk_at dksL_law_135 18 rfl rfl)
theorem dL_law_3426 : decode cL_law 3426 = .ok (.ifCond .eq 5, 3) := dk_153 0 5 (dk_at dksL_law_135 19 rfl rfl)
theorem dL_law_3429 : decode cL_law 3429 = .ok (.iconst 0, 1) := dk_3 (dk_at dksL_law_135 22 rfl rfl)
theorem dL_law_3430 : decode cL_law 3430 = .ok (.ireturn, 1) := dk_172 (dk_at dksL_law_135 23 rfl rfl)
theorem dL_law_3431 : decode cL_law 3431 = .ok (.goto 827, 3) := dk_167 3 59 (dk_at dksL_law_136 0 rfl rfl)
theorem dL_law_3434 : decode cL_law 3434 = .ok (.aload_n 1, 1) := dk_43 (dk_at dksL_law_136 3 rfl rfl)
theorem dL_law_3435 : decode cL_law 3435 = .ok (.aload_n 0, 1) := dk_42 (dk_at dksL_law_136 4 rfl rfl)
theorem dL_law_3436 : decode cL_law 3436 = .ok (.iload 4, 2) := dk_21 4 (dk_at dksL_law_136 5 rfl rfl)
theorem dL_law_3438 : decode cL_law 3438 = .ok (.iconst 1, 1) := dk_4 (dk_at dksL_law_136 7 rfl rfl)
theorem dL_law_3439 : decode cL_law 3439 = .ok (.iadd, 1) := dk_96 (dk_at dksL_law_136 8 rfl rfl)
theorem dL_law_3440 : decode cL_law 3440 = .ok (.iaload, 1) := dk_46 (dk_at dksL_law_136 9 rfl rfl)
theorem dL_law_3441 : decode cL_law 3441 = .ok (.aload_n 3, 1) := dk_45 (dk_at dksL_law_136 10 rfl rfl)
theorem dL_law_3442 : decode cL_law 3442 = .ok (.invokestatic 348, 3) := dk_184 1 92 (dk_at dksL_law_136 11 rfl rfl)
theorem dL_law_3445 : decode cL_law 3445 = .ok (.istore 5, 2) := dk_54 5 (dk_at dksL_law_136 14 rfl rfl)
theorem dL_law_3447 : decode cL_law 3447 = .ok (.aload_n 2, 1) := dk_44 (dk_at dksL_law_136 16 rfl rfl)
theorem dL_law_3448 : decode cL_law 3448 = .ok (.aload_n 0, 1) := dk_42 (dk_at dksL_law_136 17 rfl rfl)
theorem dL_law_3449 : decode cL_law 3449 = .ok (.iload 4, 2) := dk_21 4 (dk_at dksL_law_136 18 rfl rfl)
theorem dL_law_3451 : decode cL_law 3451 = .ok (.iconst 1, 1) := dk_4 (dk_at dksL_law_136 20 rfl rfl)
theorem dL_law_3452 : decode cL_law 3452 = .ok (.iadd, 1) := dk_96 (dk_at dksL_law_136 21 rfl rfl)
theorem dL_law_3453 : decode cL_law 3453 = .ok (.iaload, 1) := dk_46 (dk_at dksL_law_136 22 rfl rfl)
theorem dL_law_3454 : decode cL_law 3454 = .ok (.invokevirtual 350, 3) := dk_182 1 94 (dk_at dksL_law_137 0 rfl rfl)
theorem dL_law_3457 : decode cL_law 3457 = .ok (.istore 6, 2) := dk_54 6 (dk_at dksL_law_137 3 rfl rfl)
theorem dL_law_3459 : decode cL_law 3459 = .ok (.aload_n 2, 1) := dk_44 (dk_at dksL_law_137 5 rfl rfl)
theorem dL_law_3460 : decode cL_law 3460 = .ok (.invokevirtual 194, 3) := dk_182 0 194 (dk_at dksL_law_137 6 rfl rfl)
theorem dL_law_3463 : decode cL_law 3463 = .ok (.iload 5, 2) := dk_21 5 (dk_at dksL_law_137 9 rfl rfl)
theorem dL_law_3465 : decode cL_law 3465 = .ok (.if_icmp .eq 5, 3) := dk_159 0 5 (dk_at dksL_law_137 11 rfl rfl)
theorem dL_law_3468 : decode cL_law 3468 = .ok (.iconst 0, 1) := dk_3 (dk_at dksL_law_137 14 rfl rfl)
theorem dL_law_3469 : decode cL_law 3469 = .ok (.ireturn, 1) := dk_172 (dk_at dksL_law_137 15 rfl rfl)
theorem dL_law_3470 : decode cL_law 3470 = .ok (.iload 5, 2) := dk_21 5 (dk_at dksL_law_137 16 rfl rfl)
theorem dL_law_3472 : decode cL_law 3472 = .ok (.ifCond .ne 15, 3) := dk_154 0 15 (dk_at dksL_law_137 18 rfl rfl)
theorem dL_law_3475 : decode cL_law 3475 = .ok (.aload_n 3, 1) := dk_45 (dk_at dksL_law_137 21 rfl rfl)
theorem dL_law_3476 : decode cL_law 3476 = .ok (.iconst 0, 1) := dk_3 (dk_at dksL_law_137 22 rfl rfl)
theorem dL_law_3477 : decode cL_law 3477 = .ok (.laload, 1) := dk_47 (dk_at dksL_law_137 23 rfl rfl)
theorem dL_law_3478 : decode cL_law 3478 = .ok (.iload 6, 2) := dk_21 6 (dk_at dksL_law_138 0 rfl rfl)
theorem dL_law_3480 : decode cL_law 3480 = .ok (.i2l, 1) := dk_133 (dk_at dksL_law_138 2 rfl rfl)
theorem dL_law_3481 : decode cL_law 3481 = .ok (.lcmp, 1) := dk_148 (dk_at dksL_law_138 3 rfl rfl)
theorem dL_law_3482 : decode cL_law 3482 = .ok (.ifCond .eq 5, 3) := dk_153 0 5 (dk_at dksL_law_138 4 rfl rfl)
theorem dL_law_3485 : decode cL_law 3485 = .ok (.iconst 0, 1) := dk_3 (dk_at dksL_law_138 7 rfl rfl)
theorem dL_law_3486 : decode cL_law 3486 = .ok (.ireturn, 1) := dk_172 (dk_at dksL_law_138 8 rfl rfl)
theorem dL_law_3487 : decode cL_law 3487 = .ok (.goto 771, 3) := dk_167 3 3 (dk_at dksL_law_138 9 rfl rfl)
theorem dL_law_3490 : decode cL_law 3490 = .ok (.aload_n 1, 1) := dk_43 (dk_at dksL_law_138 12 rfl rfl)
theorem dL_law_3491 : decode cL_law 3491 = .ok (.aload_n 0, 1) := dk_42 (dk_at dksL_law_138 13 rfl rfl)
theorem dL_law_3492 : decode cL_law 3492 = .ok (.iload 4, 2) := dk_21 4 (dk_at dksL_law_138 14 rfl rfl)
theorem dL_law_3494 : decode cL_law 3494 = .ok (.iconst 1, 1) := dk_4 (dk_at dksL_law_138 16 rfl rfl)
theorem dL_law_3495 : decode cL_law 3495 = .ok (.iadd, 1) := dk_96 (dk_at dksL_law_138 17 rfl rfl)
theorem dL_law_3496 : decode cL_law 3496 = .ok (.iaload, 1) := dk_46 (dk_at dksL_law_138 18 rfl rfl)
theorem dL_law_3497 : decode cL_law 3497 = .ok (.aload_n 3, 1) := dk_45 (dk_at dksL_law_138 19 rfl rfl)
theorem dL_law_3498 : decode cL_law 3498 = .ok (.invokestatic 351, 3) := dk_184 1 95 (dk_at dksL_law_138 20 rfl rfl)
theorem dL_law_3501 : decode cL_law 3501 = .ok (.istore 5, 2) := dk_54 5 (dk_at dksL_law_139 0 rfl rfl)
theorem dL_law_3503 : decode cL_law 3503 = .ok (.aload_n 2, 1) := dk_44 (dk_at dksL_law_139 2 rfl rfl)
theorem dL_law_3504 : decode cL_law 3504 = .ok (.aload_n 0, 1) := dk_42 (dk_at dksL_law_139 3 rfl rfl)
theorem dL_law_3505 : decode cL_law 3505 = .ok (.iload 4, 2) := dk_21 4 (dk_at dksL_law_139 4 rfl rfl)
theorem dL_law_3507 : decode cL_law 3507 = .ok (.iconst 1, 1) := dk_4 (dk_at dksL_law_139 6 rfl rfl)
theorem dL_law_3508 : decode cL_law 3508 = .ok (.iadd, 1) := dk_96 (dk_at dksL_law_139 7 rfl rfl)
theorem dL_law_3509 : decode cL_law 3509 = .ok (.iaload, 1) := dk_46 (dk_at dksL_law_139 8 rfl rfl)
theorem dL_law_3510 : decode cL_law 3510 = .ok (.invokevirtual 353, 3) := dk_182 1 97 (dk_at dksL_law_139 9 rfl rfl)
theorem dL_law_3513 : decode cL_law 3513 = .ok (.istore 6, 2) := dk_54 6 (dk_at dksL_law_139 12 rfl rfl)
theorem dL_law_3515 : decode cL_law 3515 = .ok (.aload_n 2, 1) := dk_44 (dk_at dksL_law_139 14 rfl rfl)
theorem dL_law_3516 : decode cL_law 3516 = .ok (.invokevirtual 194, 3) := dk_182 0 194 (dk_at dksL_law_139 15 rfl rfl)
theorem dL_law_3519 : decode cL_law 3519 = .ok (.iload 5, 2) := dk_21 5 (dk_at dksL_law_139 18 rfl rfl)
theorem dL_law_3521 : decode cL_law 3521 = .ok (.if_icmp .eq 5, 3) := dk_159 0 5 (dk_at dksL_law_139 20 rfl rfl)
theorem dL_law_3524 : decode cL_law 3524 = .ok (.iconst 0, 1) := dk_3 (dk_at dksL_law_139 23 rfl rfl)
theorem dL_law_3525 : decode cL_law 3525 = .ok (.ireturn, 1) := dk_172 (dk_at dksL_law_140 0 rfl rfl)
theorem dL_law_3526 : decode cL_law 3526 = .ok (.iload 5, 2) := dk_21 5 (dk_at dksL_law_140 1 rfl rfl)
theorem dL_law_3528 : decode cL_law 3528 = .ok (.ifCond .ne 15, 3) := dk_154 0 15 (dk_at dksL_law_140 3 rfl rfl)
theorem dL_law_3531 : decode cL_law 3531 = .ok (.aload_n 3, 1) := dk_45 (dk_at dksL_law_140 6 rfl rfl)
theorem dL_law_3532 : decode cL_law 3532 = .ok (.iconst 0, 1) := dk_3 (dk_at dksL_law_140 7 rfl rfl)
theorem dL_law_3533 : decode cL_law 3533 = .ok (.laload, 1) := dk_47 (dk_at dksL_law_140 8 rfl rfl)
theorem dL_law_3534 : decode cL_law 3534 = .ok (.iload 6, 2) := dk_21 6 (dk_at dksL_law_140 9 rfl rfl)
theorem dL_law_3536 : decode cL_law 3536 = .ok (.i2l, 1) := dk_133 (dk_at dksL_law_140 11 rfl rfl)
theorem dL_law_3537 : decode cL_law 3537 = .ok (.lcmp, 1) := dk_148 (dk_at dksL_law_140 12 rfl rfl)
theorem dL_law_3538 : decode cL_law 3538 = .ok (.ifCond .eq 5, 3) := dk_153 0 5 (dk_at dksL_law_140 13 rfl rfl)
theorem dL_law_3541 : decode cL_law 3541 = .ok (.iconst 0, 1) := dk_3 (dk_at dksL_law_140 16 rfl rfl)
theorem dL_law_3542 : decode cL_law 3542 = .ok (.ireturn, 1) := dk_172 (dk_at dksL_law_140 17 rfl rfl)
theorem dL_law_3543 : decode cL_law 3543 = .ok (.goto 715, 3) := dk_167 2 203 (dk_at dksL_law_140 18 rfl rfl)
theorem dL_law_3546 : decode cL_law 3546 = .ok (.aload_n 1, 1) := dk_43 (dk_at dksL_law_140 21 rfl rfl)
theorem dL_law_3547 : decode cL_law 3547 = .ok (.aload_n 0, 1) := dk_42 (dk_at dksL_law_140 22 rfl rfl)
theorem dL_law_3548 : decode cL_law 3548 = .ok (.iload 4, 2) := dk_21 4 (dk_at dksL_law_141 0 rfl rfl)
theorem dL_law_3550 : decode cL_law 3550 = .ok (.iconst 1, 1) := dk_4 (dk_at dksL_law_141 2 rfl rfl)
theorem dL_law_3551 : decode cL_law 3551 = .ok (.iadd, 1) := dk_96 (dk_at dksL_law_141 3 rfl rfl)
theorem dL_law_3552 : decode cL_law 3552 = .ok (.iaload, 1) := dk_46 (dk_at dksL_law_141 4 rfl rfl)
theorem dL_law_3553 : decode cL_law 3553 = .ok (.aload_n 0, 1) := dk_42 (dk_at dksL_law_141 5 rfl rfl)
theorem dL_law_3554 : decode cL_law 3554 = .ok (.iload 4, 2) := dk_21 4 (dk_at dksL_law_141 6 rfl rfl)
theorem dL_law_3556 : decode cL_law 3556 = .ok (.iconst 2, 1) := dk_5 (dk_at dksL_law_141 8 rfl rfl)
theorem dL_law_3557 : decode cL_law 3557 = .ok (.iadd, 1) := dk_96 (dk_at dksL_law_141 9 rfl rfl)
theorem dL_law_3558 : decode cL_law 3558 = .ok (.iaload, 1) := dk_46 (dk_at dksL_law_141 10 rfl rfl)
theorem dL_law_3559 : decode cL_law 3559 = .ok (.ifCond .eq 7, 3) := dk_153 0 7 (dk_at dksL_law_141 11 rfl rfl)
theorem dL_law_3562 : decode cL_law 3562 = .ok (.iconst 1, 1) := dk_4 (dk_at dksL_law_141 14 rfl rfl)
theorem dL_law_3563 : decode cL_law 3563 = .ok (.goto 4, 3) := dk_167 0 4 (dk_at dksL_law_141 15 rfl rfl)
theorem dL_law_3566 : decode cL_law 3566 = .ok (.iconst 0, 1) := dk_3 (dk_at dksL_law_141 18 rfl rfl)
theorem dL_law_3567 : decode cL_law 3567 = .ok (.aload_n 0, 1) := dk_42 (dk_at dksL_law_141 19 rfl rfl)
theorem dL_law_3568 : decode cL_law 3568 = .ok (.iload 4, 2) := dk_21 4 (dk_at dksL_law_141 20 rfl rfl)
theorem dL_law_3570 : decode cL_law 3570 = .ok (.iconst 3, 1) := dk_6 (dk_at dksL_law_141 22 rfl rfl)
theorem dL_law_3571 : decode cL_law 3571 = .ok (.iadd, 1) := dk_96 (dk_at dksL_law_141 23 rfl rfl)
theorem dL_law_3572 : decode cL_law 3572 = .ok (.iaload, 1) := dk_46 (dk_at dksL_law_142 0 rfl rfl)
theorem dL_law_3573 : decode cL_law 3573 = .ok (.aload_n 3, 1) := dk_45 (dk_at dksL_law_142 1 rfl rfl)
theorem dL_law_3574 : decode cL_law 3574 = .ok (.invokestatic 354, 3) := dk_184 1 98 (dk_at dksL_law_142 2 rfl rfl)
theorem dL_law_3577 : decode cL_law 3577 = .ok (.istore 5, 2) := dk_54 5 (dk_at dksL_law_142 5 rfl rfl)
theorem dL_law_3579 : decode cL_law 3579 = .ok (.aload_n 2, 1) := dk_44 (dk_at dksL_law_142 7 rfl rfl)
theorem dL_law_3580 : decode cL_law 3580 = .ok (.aload_n 0, 1) := dk_42 (dk_at dksL_law_142 8 rfl rfl)
theorem dL_law_3581 : decode cL_law 3581 = .ok (.iload 4, 2) := dk_21 4 (dk_at dksL_law_142 9 rfl rfl)
theorem dL_law_3583 : decode cL_law 3583 = .ok (.iconst 1, 1) := dk_4 (dk_at dksL_law_142 11 rfl rfl)
theorem dL_law_3584 : decode cL_law 3584 = .ok (.iadd, 1) := dk_96 (dk_at dksL_law_142 12 rfl rfl)
theorem dL_law_3585 : decode cL_law 3585 = .ok (.iaload, 1) := dk_46 (dk_at dksL_law_142 13 rfl rfl)
theorem dL_law_3586 : decode cL_law 3586 = .ok (.aload_n 0, 1) := dk_42 (dk_at dksL_law_142 14 rfl rfl)
theorem dL_law_3587 : decode cL_law 3587 = .ok (.iload 4, 2) := dk_21 4 (dk_at dksL_law_142 15 rfl rfl)
theorem dL_law_3589 : decode cL_law 3589 = .ok (.iconst 2, 1) := dk_5 (dk_at dksL_law_142 17 rfl rfl)
theorem dL_law_3590 : decode cL_law 3590 = .ok (.iadd, 1) := dk_96 (dk_at dksL_law_142 18 rfl rfl)
theorem dL_law_3591 : decode cL_law 3591 = .ok (.iaload, 1) := dk_46 (dk_at dksL_law_142 19 rfl rfl)
theorem dL_law_3592 : decode cL_law 3592 = .ok (.ifCond .eq 7, 3) := dk_153 0 7 (dk_at dksL_law_142 20 rfl rfl)
theorem dL_law_3595 : decode cL_law 3595 = .ok (.iconst 1, 1) := dk_4 (dk_at dksL_law_142 23 rfl rfl)
theorem dL_law_3596 : decode cL_law 3596 = .ok (.goto 4, 3) := dk_167 0 4 (dk_at dksL_law_143 0 rfl rfl)
theorem dL_law_3599 : decode cL_law 3599 = .ok (.iconst 0, 1) := dk_3 (dk_at dksL_law_143 3 rfl rfl)
theorem dL_law_3600 : decode cL_law 3600 = .ok (.aload_n 0, 1) := dk_42 (dk_at dksL_law_143 4 rfl rfl)
theorem dL_law_3601 : decode cL_law 3601 = .ok (.iload 4, 2) := dk_21 4 (dk_at dksL_law_143 5 rfl rfl)
theorem dL_law_3603 : decode cL_law 3603 = .ok (.iconst 3, 1) := dk_6 (dk_at dksL_law_143 7 rfl rfl)
theorem dL_law_3604 : decode cL_law 3604 = .ok (.iadd, 1) := dk_96 (dk_at dksL_law_143 8 rfl rfl)
theorem dL_law_3605 : decode cL_law 3605 = .ok (.iaload, 1) := dk_46 (dk_at dksL_law_143 9 rfl rfl)
theorem dL_law_3606 : decode cL_law 3606 = .ok (.invokevirtual 357, 3) := dk_182 1 101 (dk_at dksL_law_143 10 rfl rfl)
theorem dL_law_3609 : decode cL_law 3609 = .ok (.istore 6, 2) := dk_54 6 (dk_at dksL_law_143 13 rfl rfl)
theorem dL_law_3611 : decode cL_law 3611 = .ok (.aload_n 2, 1) := dk_44 (dk_at dksL_law_143 15 rfl rfl)
theorem dL_law_3612 : decode cL_law 3612 = .ok (.invokevirtual 194, 3) := dk_182 0 194 (dk_at dksL_law_143 16 rfl rfl)
theorem dL_law_3615 : decode cL_law 3615 = .ok (.iload 5, 2) := dk_21 5 (dk_at dksL_law_143 19 rfl rfl)
theorem dL_law_3617 : decode cL_law 3617 = .ok (.if_icmp .eq 5, 3) := dk_159 0 5 (dk_at dksL_law_143 21 rfl rfl)
theorem dL_law_3620 : decode cL_law 3620 = .ok (.iconst 0, 1) := dk_3 (dk_at dksL_law_144 0 rfl rfl)
theorem dL_law_3621 : decode cL_law 3621 = .ok (.ireturn, 1) := dk_172 (dk_at dksL_law_144 1 rfl rfl)
theorem dL_law_3622 : decode cL_law 3622 = .ok (.iload 5, 2) := dk_21 5 (dk_at dksL_law_144 2 rfl rfl)
theorem dL_law_3624 : decode cL_law 3624 = .ok (.ifCond .ne 15, 3) := dk_154 0 15 (dk_at dksL_law_144 4 rfl rfl)
theorem dL_law_3627 : decode cL_law 3627 = .ok (.aload_n 3, 1) := dk_45 (dk_at dksL_law_144 7 rfl rfl)
theorem dL_law_3628 : decode cL_law 3628 = .ok (.iconst 0, 1) := dk_3 (dk_at dksL_law_144 8 rfl rfl)
theorem dL_law_3629 : decode cL_law 3629 = .ok (.laload, 1) := dk_47 (dk_at dksL_law_144 9 rfl rfl)
theorem dL_law_3630 : decode cL_law 3630 = .ok (.iload 6, 2) := dk_21 6 (dk_at dksL_law_144 10 rfl rfl)
theorem dL_law_3632 : decode cL_law 3632 = .ok (.i2l, 1) := dk_133 (dk_at dksL_law_144 12 rfl rfl)
theorem dL_law_3633 : decode cL_law 3633 = .ok (.lcmp, 1) := dk_148 (dk_at dksL_law_144 13 rfl rfl)
theorem dL_law_3634 : decode cL_law 3634 = .ok (.ifCond .eq 5, 3) := dk_153 0 5 (dk_at dksL_law_144 14 rfl rfl)
theorem dL_law_3637 : decode cL_law 3637 = .ok (.iconst 0, 1) := dk_3 (dk_at dksL_law_144 17 rfl rfl)
theorem dL_law_3638 : decode cL_law 3638 = .ok (.ireturn, 1) := dk_172 (dk_at dksL_law_144 18 rfl rfl)
theorem dL_law_3639 : decode cL_law 3639 = .ok (.goto 619, 3) := dk_167 2 107 (dk_at dksL_law_144 19 rfl rfl)
theorem dL_law_3642 : decode cL_law 3642 = .ok (.aload_n 1, 1) := dk_43 (dk_at dksL_law_144 22 rfl rfl)
theorem dL_law_3643 : decode cL_law 3643 = .ok (.aload_n 0, 1) := dk_42 (dk_at dksL_law_144 23 rfl rfl)
theorem dL_law_3644 : decode cL_law 3644 = .ok (.iload 4, 2) := dk_21 4 (dk_at dksL_law_145 0 rfl rfl)
theorem dL_law_3646 : decode cL_law 3646 = .ok (.iconst 1, 1) := dk_4 (dk_at dksL_law_145 2 rfl rfl)
theorem dL_law_3647 : decode cL_law 3647 = .ok (.iadd, 1) := dk_96 (dk_at dksL_law_145 3 rfl rfl)
theorem dL_law_3648 : decode cL_law 3648 = .ok (.iaload, 1) := dk_46 (dk_at dksL_law_145 4 rfl rfl)
theorem dL_law_3649 : decode cL_law 3649 = .ok (.aload_n 0, 1) := dk_42 (dk_at dksL_law_145 5 rfl rfl)
theorem dL_law_3650 : decode cL_law 3650 = .ok (.iload 4, 2) := dk_21 4 (dk_at dksL_law_145 6 rfl rfl)
theorem dL_law_3652 : decode cL_law 3652 = .ok (.iconst 2, 1) := dk_5 (dk_at dksL_law_145 8 rfl rfl)
theorem dL_law_3653 : decode cL_law 3653 = .ok (.iadd, 1) := dk_96 (dk_at dksL_law_145 9 rfl rfl)
theorem dL_law_3654 : decode cL_law 3654 = .ok (.iaload, 1) := dk_46 (dk_at dksL_law_145 10 rfl rfl)
theorem dL_law_3655 : decode cL_law 3655 = .ok (.aload_n 0, 1) := dk_42 (dk_at dksL_law_145 11 rfl rfl)
theorem dL_law_3656 : decode cL_law 3656 = .ok (.iload 4, 2) := dk_21 4 (dk_at dksL_law_145 12 rfl rfl)
theorem dL_law_3658 : decode cL_law 3658 = .ok (.iconst 3, 1) := dk_6 (dk_at dksL_law_145 14 rfl rfl)
theorem dL_law_3659 : decode cL_law 3659 = .ok (.iadd, 1) := dk_96 (dk_at dksL_law_145 15 rfl rfl)
theorem dL_law_3660 : decode cL_law 3660 = .ok (.iaload, 1) := dk_46 (dk_at dksL_law_145 16 rfl rfl)
theorem dL_law_3661 : decode cL_law 3661 = .ok (.aload_n 3, 1) := dk_45 (dk_at dksL_law_145 17 rfl rfl)
theorem dL_law_3662 : decode cL_law 3662 = .ok (.invokestatic 358, 3) := dk_184 1 102 (dk_at dksL_law_145 18 rfl rfl)
theorem dL_law_3665 : decode cL_law 3665 = .ok (.istore 5, 2) := dk_54 5 (dk_at dksL_law_145 21 rfl rfl)
theorem dL_law_3667 : decode cL_law 3667 = .ok (.aload_n 2, 1) := dk_44 (dk_at dksL_law_145 23 rfl rfl)
theorem dL_law_3668 : decode cL_law 3668 = .ok (.aload_n 0, 1) := dk_42 (dk_at dksL_law_146 0 rfl rfl)
theorem dL_law_3669 : decode cL_law 3669 = .ok (.iload 4, 2) := dk_21 4 (dk_at dksL_law_146 1 rfl rfl)
theorem dL_law_3671 : decode cL_law 3671 = .ok (.iconst 1, 1) := dk_4 (dk_at dksL_law_146 3 rfl rfl)
theorem dL_law_3672 : decode cL_law 3672 = .ok (.iadd, 1) := dk_96 (dk_at dksL_law_146 4 rfl rfl)
theorem dL_law_3673 : decode cL_law 3673 = .ok (.iaload, 1) := dk_46 (dk_at dksL_law_146 5 rfl rfl)
theorem dL_law_3674 : decode cL_law 3674 = .ok (.aload_n 0, 1) := dk_42 (dk_at dksL_law_146 6 rfl rfl)
theorem dL_law_3675 : decode cL_law 3675 = .ok (.iload 4, 2) := dk_21 4 (dk_at dksL_law_146 7 rfl rfl)
theorem dL_law_3677 : decode cL_law 3677 = .ok (.iconst 2, 1) := dk_5 (dk_at dksL_law_146 9 rfl rfl)
theorem dL_law_3678 : decode cL_law 3678 = .ok (.iadd, 1) := dk_96 (dk_at dksL_law_146 10 rfl rfl)
theorem dL_law_3679 : decode cL_law 3679 = .ok (.iaload, 1) := dk_46 (dk_at dksL_law_146 11 rfl rfl)
theorem dL_law_3680 : decode cL_law 3680 = .ok (.aload_n 0, 1) := dk_42 (dk_at dksL_law_146 12 rfl rfl)
theorem dL_law_3681 : decode cL_law 3681 = .ok (.iload 4, 2) := dk_21 4 (dk_at dksL_law_146 13 rfl rfl)
theorem dL_law_3683 : decode cL_law 3683 = .ok (.iconst 3, 1) := dk_6 (dk_at dksL_law_146 15 rfl rfl)
theorem dL_law_3684 : decode cL_law 3684 = .ok (.iadd, 1) := dk_96 (dk_at dksL_law_146 16 rfl rfl)
theorem dL_law_3685 : decode cL_law 3685 = .ok (.iaload, 1) := dk_46 (dk_at dksL_law_146 17 rfl rfl)
theorem dL_law_3686 : decode cL_law 3686 = .ok (.invokevirtual 360, 3) := dk_182 1 104 (dk_at dksL_law_146 18 rfl rfl)
theorem dL_law_3689 : decode cL_law 3689 = .ok (.istore 6, 2) := dk_54 6 (dk_at dksL_law_146 21 rfl rfl)
theorem dL_law_3691 : decode cL_law 3691 = .ok (.aload_n 2, 1) := dk_44 (dk_at dksL_law_146 23 rfl rfl)
theorem dL_law_3692 : decode cL_law 3692 = .ok (.invokevirtual 194, 3) := dk_182 0 194 (dk_at dksL_law_147 0 rfl rfl)
theorem dL_law_3695 : decode cL_law 3695 = .ok (.iload 5, 2) := dk_21 5 (dk_at dksL_law_147 3 rfl rfl)
theorem dL_law_3697 : decode cL_law 3697 = .ok (.if_icmp .eq 5, 3) := dk_159 0 5 (dk_at dksL_law_147 5 rfl rfl)
theorem dL_law_3700 : decode cL_law 3700 = .ok (.iconst 0, 1) := dk_3 (dk_at dksL_law_147 8 rfl rfl)
theorem dL_law_3701 : decode cL_law 3701 = .ok (.ireturn, 1) := dk_172 (dk_at dksL_law_147 9 rfl rfl)
theorem dL_law_3702 : decode cL_law 3702 = .ok (.iload 5, 2) := dk_21 5 (dk_at dksL_law_147 10 rfl rfl)
theorem dL_law_3704 : decode cL_law 3704 = .ok (.ifCond .ne 15, 3) := dk_154 0 15 (dk_at dksL_law_147 12 rfl rfl)
theorem dL_law_3707 : decode cL_law 3707 = .ok (.aload_n 3, 1) := dk_45 (dk_at dksL_law_147 15 rfl rfl)
theorem dL_law_3708 : decode cL_law 3708 = .ok (.iconst 0, 1) := dk_3 (dk_at dksL_law_147 16 rfl rfl)
theorem dL_law_3709 : decode cL_law 3709 = .ok (.laload, 1) := dk_47 (dk_at dksL_law_147 17 rfl rfl)
theorem dL_law_3710 : decode cL_law 3710 = .ok (.iload 6, 2) := dk_21 6 (dk_at dksL_law_147 18 rfl rfl)
theorem dL_law_3712 : decode cL_law 3712 = .ok (.i2l, 1) := dk_133 (dk_at dksL_law_147 20 rfl rfl)
theorem dL_law_3713 : decode cL_law 3713 = .ok (.lcmp, 1) := dk_148 (dk_at dksL_law_147 21 rfl rfl)
theorem dL_law_3714 : decode cL_law 3714 = .ok (.ifCond .eq 5, 3) := dk_153 0 5 (dk_at dksL_law_148 0 rfl rfl)
theorem dL_law_3717 : decode cL_law 3717 = .ok (.iconst 0, 1) := dk_3 (dk_at dksL_law_148 3 rfl rfl)
theorem dL_law_3718 : decode cL_law 3718 = .ok (.ireturn, 1) := dk_172 (dk_at dksL_law_148 4 rfl rfl)
theorem dL_law_3719 : decode cL_law 3719 = .ok (.goto 539, 3) := dk_167 2 27 (dk_at dksL_law_148 5 rfl rfl)
theorem dL_law_3722 : decode cL_law 3722 = .ok (.aload_n 1, 1) := dk_43 (dk_at dksL_law_148 8 rfl rfl)
theorem dL_law_3723 : decode cL_law 3723 = .ok (.aload_n 0, 1) := dk_42 (dk_at dksL_law_148 9 rfl rfl)
theorem dL_law_3724 : decode cL_law 3724 = .ok (.iload 4, 2) := dk_21 4 (dk_at dksL_law_148 10 rfl rfl)
theorem dL_law_3726 : decode cL_law 3726 = .ok (.iconst 1, 1) := dk_4 (dk_at dksL_law_148 12 rfl rfl)
theorem dL_law_3727 : decode cL_law 3727 = .ok (.iadd, 1) := dk_96 (dk_at dksL_law_148 13 rfl rfl)
theorem dL_law_3728 : decode cL_law 3728 = .ok (.iaload, 1) := dk_46 (dk_at dksL_law_148 14 rfl rfl)
theorem dL_law_3729 : decode cL_law 3729 = .ok (.aload_n 0, 1) := dk_42 (dk_at dksL_law_148 15 rfl rfl)
theorem dL_law_3730 : decode cL_law 3730 = .ok (.iload 4, 2) := dk_21 4 (dk_at dksL_law_148 16 rfl rfl)
theorem dL_law_3732 : decode cL_law 3732 = .ok (.iconst 2, 1) := dk_5 (dk_at dksL_law_148 18 rfl rfl)
theorem dL_law_3733 : decode cL_law 3733 = .ok (.iadd, 1) := dk_96 (dk_at dksL_law_148 19 rfl rfl)
theorem dL_law_3734 : decode cL_law 3734 = .ok (.iaload, 1) := dk_46 (dk_at dksL_law_148 20 rfl rfl)
theorem dL_law_3735 : decode cL_law 3735 = .ok (.aload_n 3, 1) := dk_45 (dk_at dksL_law_148 21 rfl rfl)
theorem dL_law_3736 : decode cL_law 3736 = .ok (.invokestatic 361, 3) := dk_184 1 105 (dk_at dksL_law_149 0 rfl rfl)
theorem dL_law_3739 : decode cL_law 3739 = .ok (.istore 5, 2) := dk_54 5 (dk_at dksL_law_149 3 rfl rfl)
theorem dL_law_3741 : decode cL_law 3741 = .ok (.aload_n 2, 1) := dk_44 (dk_at dksL_law_149 5 rfl rfl)
theorem dL_law_3742 : decode cL_law 3742 = .ok (.aload_n 0, 1) := dk_42 (dk_at dksL_law_149 6 rfl rfl)
theorem dL_law_3743 : decode cL_law 3743 = .ok (.iload 4, 2) := dk_21 4 (dk_at dksL_law_149 7 rfl rfl)
theorem dL_law_3745 : decode cL_law 3745 = .ok (.iconst 1, 1) := dk_4 (dk_at dksL_law_149 9 rfl rfl)
theorem dL_law_3746 : decode cL_law 3746 = .ok (.iadd, 1) := dk_96 (dk_at dksL_law_149 10 rfl rfl)
theorem dL_law_3747 : decode cL_law 3747 = .ok (.iaload, 1) := dk_46 (dk_at dksL_law_149 11 rfl rfl)
theorem dL_law_3748 : decode cL_law 3748 = .ok (.aload_n 0, 1) := dk_42 (dk_at dksL_law_149 12 rfl rfl)
theorem dL_law_3749 : decode cL_law 3749 = .ok (.iload 4, 2) := dk_21 4 (dk_at dksL_law_149 13 rfl rfl)
theorem dL_law_3751 : decode cL_law 3751 = .ok (.iconst 2, 1) := dk_5 (dk_at dksL_law_149 15 rfl rfl)
theorem dL_law_3752 : decode cL_law 3752 = .ok (.iadd, 1) := dk_96 (dk_at dksL_law_149 16 rfl rfl)
theorem dL_law_3753 : decode cL_law 3753 = .ok (.iaload, 1) := dk_46 (dk_at dksL_law_149 17 rfl rfl)
theorem dL_law_3754 : decode cL_law 3754 = .ok (.invokevirtual 363, 3) := dk_182 1 107 (dk_at dksL_law_149 18 rfl rfl)
theorem dL_law_3757 : decode cL_law 3757 = .ok (.istore 6, 2) := dk_54 6 (dk_at dksL_law_149 21 rfl rfl)
theorem dL_law_3759 : decode cL_law 3759 = .ok (.aload_n 2, 1) := dk_44 (dk_at dksL_law_149 23 rfl rfl)
theorem dL_law_3760 : decode cL_law 3760 = .ok (.invokevirtual 194, 3) := dk_182 0 194 (dk_at dksL_law_150 0 rfl rfl)
theorem dL_law_3763 : decode cL_law 3763 = .ok (.iload 5, 2) := dk_21 5 (dk_at dksL_law_150 3 rfl rfl)
theorem dL_law_3765 : decode cL_law 3765 = .ok (.if_icmp .eq 5, 3) := dk_159 0 5 (dk_at dksL_law_150 5 rfl rfl)
theorem dL_law_3768 : decode cL_law 3768 = .ok (.iconst 0, 1) := dk_3 (dk_at dksL_law_150 8 rfl rfl)
theorem dL_law_3769 : decode cL_law 3769 = .ok (.ireturn, 1) := dk_172 (dk_at dksL_law_150 9 rfl rfl)
theorem dL_law_3770 : decode cL_law 3770 = .ok (.iload 5, 2) := dk_21 5 (dk_at dksL_law_150 10 rfl rfl)
theorem dL_law_3772 : decode cL_law 3772 = .ok (.ifCond .ne 15, 3) := dk_154 0 15 (dk_at dksL_law_150 12 rfl rfl)
theorem dL_law_3775 : decode cL_law 3775 = .ok (.aload_n 3, 1) := dk_45 (dk_at dksL_law_150 15 rfl rfl)
theorem dL_law_3776 : decode cL_law 3776 = .ok (.iconst 0, 1) := dk_3 (dk_at dksL_law_150 16 rfl rfl)
theorem dL_law_3777 : decode cL_law 3777 = .ok (.laload, 1) := dk_47 (dk_at dksL_law_150 17 rfl rfl)
theorem dL_law_3778 : decode cL_law 3778 = .ok (.iload 6, 2) := dk_21 6 (dk_at dksL_law_150 18 rfl rfl)
theorem dL_law_3780 : decode cL_law 3780 = .ok (.i2l, 1) := dk_133 (dk_at dksL_law_150 20 rfl rfl)
theorem dL_law_3781 : decode cL_law 3781 = .ok (.lcmp, 1) := dk_148 (dk_at dksL_law_150 21 rfl rfl)
theorem dL_law_3782 : decode cL_law 3782 = .ok (.ifCond .eq 5, 3) := dk_153 0 5 (dk_at dksL_law_151 0 rfl rfl)
theorem dL_law_3785 : decode cL_law 3785 = .ok (.iconst 0, 1) := dk_3 (dk_at dksL_law_151 3 rfl rfl)
theorem dL_law_3786 : decode cL_law 3786 = .ok (.ireturn, 1) := dk_172 (dk_at dksL_law_151 4 rfl rfl)
theorem dL_law_3787 : decode cL_law 3787 = .ok (.goto 471, 3) := dk_167 1 215 (dk_at dksL_law_151 5 rfl rfl)
theorem dL_law_3790 : decode cL_law 3790 = .ok (.aload_n 1, 1) := dk_43 (dk_at dksL_law_151 8 rfl rfl)
theorem dL_law_3791 : decode cL_law 3791 = .ok (.invokevirtual 364, 3) := dk_182 1 108 (dk_at dksL_law_151 9 rfl rfl)
theorem dL_law_3794 : decode cL_law 3794 = .ok (.aload_n 2, 1) := dk_44 (dk_at dksL_law_151 12 rfl rfl)
theorem dL_law_3795 : decode cL_law 3795 = .ok (.invokevirtual 367, 3) := dk_182 1 111 (dk_at dksL_law_151 13 rfl rfl)
theorem dL_law_3798 : decode cL_law 3798 = .ok (.if_icmp .eq 460, 3) := dk_159 1 204 (dk_at dksL_law_151 16 rfl rfl)
theorem dL_law_3801 : decode cL_law 3801 = .ok (.iconst 0, 1) := dk_3 (dk_at dksL_law_151 19 rfl rfl)
theorem dL_law_3802 : decode cL_law 3802 = .ok (.ireturn, 1) := dk_172 (dk_at dksL_law_151 20 rfl rfl)
theorem dL_law_3803 : decode cL_law 3803 = .ok (.aload_n 1, 1) := dk_43 (dk_at dksL_law_151 21 rfl rfl)
theorem dL_law_3804 : decode cL_law 3804 = .ok (.invokevirtual 368, 3) := dk_182 1 112 (dk_at dksL_law_152 0 rfl rfl)
theorem dL_law_3807 : decode cL_law 3807 = .ok (.aload_n 2, 1) := dk_44 (dk_at dksL_law_152 3 rfl rfl)
theorem dL_law_3808 : decode cL_law 3808 = .ok (.invokevirtual 371, 3) := dk_182 1 115 (dk_at dksL_law_152 4 rfl rfl)
theorem dL_law_3811 : decode cL_law 3811 = .ok (.if_icmp .eq 447, 3) := dk_159 1 191 (dk_at dksL_law_152 7 rfl rfl)
theorem dL_law_3814 : decode cL_law 3814 = .ok (.iconst 0, 1) := dk_3 (dk_at dksL_law_152 10 rfl rfl)
theorem dL_law_3815 : decode cL_law 3815 = .ok (.ireturn, 1) := dk_172 (dk_at dksL_law_152 11 rfl rfl)
theorem dL_law_3816 : decode cL_law 3816 = .ok (.aload_n 1, 1) := dk_43 (dk_at dksL_law_152 12 rfl rfl)
theorem dL_law_3817 : decode cL_law 3817 = .ok (.invokevirtual 372, 3) := dk_182 1 116 (dk_at dksL_law_152 13 rfl rfl)
theorem dL_law_3820 : decode cL_law 3820 = .ok (.aload_n 2, 1) := dk_44 (dk_at dksL_law_152 16 rfl rfl)
theorem dL_law_3821 : decode cL_law 3821 = .ok (.invokevirtual 375, 3) := dk_182 1 119 (dk_at dksL_law_152 17 rfl rfl)
theorem dL_law_3824 : decode cL_law 3824 = .ok (.if_icmp .eq 434, 3) := dk_159 1 178 (dk_at dksL_law_152 20 rfl rfl)
theorem dL_law_3827 : decode cL_law 3827 = .ok (.iconst 0, 1) := dk_3 (dk_at dksL_law_152 23 rfl rfl)
theorem dL_law_3828 : decode cL_law 3828 = .ok (.ireturn, 1) := dk_172 (dk_at dksL_law_153 0 rfl rfl)
theorem dL_law_3829 : decode cL_law 3829 = .ok (.aload_n 1, 1) := dk_43 (dk_at dksL_law_153 1 rfl rfl)
theorem dL_law_3830 : decode cL_law 3830 = .ok (.aload_n 0, 1) := dk_42 (dk_at dksL_law_153 2 rfl rfl)
theorem dL_law_3831 : decode cL_law 3831 = .ok (.iload 4, 2) := dk_21 4 (dk_at dksL_law_153 3 rfl rfl)
theorem dL_law_3833 : decode cL_law 3833 = .ok (.iconst 1, 1) := dk_4 (dk_at dksL_law_153 5 rfl rfl)
theorem dL_law_3834 : decode cL_law 3834 = .ok (.iadd, 1) := dk_96 (dk_at dksL_law_153 6 rfl rfl)
theorem dL_law_3835 : decode cL_law 3835 = .ok (.iaload, 1) := dk_46 (dk_at dksL_law_153 7 rfl rfl)
theorem dL_law_3836 : decode cL_law 3836 = .ok (.aload_n 0, 1) := dk_42 (dk_at dksL_law_153 8 rfl rfl)
theorem dL_law_3837 : decode cL_law 3837 = .ok (.iload 4, 2) := dk_21 4 (dk_at dksL_law_153 9 rfl rfl)
theorem dL_law_3839 : decode cL_law 3839 = .ok (.iconst 2, 1) := dk_5 (dk_at dksL_law_153 11 rfl rfl)
theorem dL_law_3840 : decode cL_law 3840 = .ok (.iadd, 1) := dk_96 (dk_at dksL_law_153 12 rfl rfl)
theorem dL_law_3841 : decode cL_law 3841 = .ok (.iaload, 1) := dk_46 (dk_at dksL_law_153 13 rfl rfl)
theorem dL_law_3842 : decode cL_law 3842 = .ok (.aload_n 3, 1) := dk_45 (dk_at dksL_law_153 14 rfl rfl)
theorem dL_law_3843 : decode cL_law 3843 = .ok (.invokestatic 376, 3) := dk_184 1 120 (dk_at dksL_law_153 15 rfl rfl)
theorem dL_law_3846 : decode cL_law 3846 = .ok (.istore 5, 2) := dk_54 5 (dk_at dksL_law_153 18 rfl rfl)
theorem dL_law_3848 : decode cL_law 3848 = .ok (.aload_n 2, 1) := dk_44 (dk_at dksL_law_153 20 rfl rfl)
theorem dL_law_3849 : decode cL_law 3849 = .ok (.aload_n 0, 1) := dk_42 (dk_at dksL_law_153 21 rfl rfl)
theorem dL_law_3850 : decode cL_law 3850 = .ok (.iload 4, 2) := dk_21 4 (dk_at dksL_law_153 22 rfl rfl)
theorem dL_law_3852 : decode cL_law 3852 = .ok (.iconst 1, 1) := dk_4 (dk_at dksL_law_154 0 rfl rfl)
theorem dL_law_3853 : decode cL_law 3853 = .ok (.iadd, 1) := dk_96 (dk_at dksL_law_154 1 rfl rfl)
theorem dL_law_3854 : decode cL_law 3854 = .ok (.iaload, 1) := dk_46 (dk_at dksL_law_154 2 rfl rfl)
theorem dL_law_3855 : decode cL_law 3855 = .ok (.aload_n 0, 1) := dk_42 (dk_at dksL_law_154 3 rfl rfl)
theorem dL_law_3856 : decode cL_law 3856 = .ok (.iload 4, 2) := dk_21 4 (dk_at dksL_law_154 4 rfl rfl)
theorem dL_law_3858 : decode cL_law 3858 = .ok (.iconst 2, 1) := dk_5 (dk_at dksL_law_154 6 rfl rfl)
theorem dL_law_3859 : decode cL_law 3859 = .ok (.iadd, 1) := dk_96 (dk_at dksL_law_154 7 rfl rfl)
theorem dL_law_3860 : decode cL_law 3860 = .ok (.iaload, 1) := dk_46 (dk_at dksL_law_154 8 rfl rfl)
theorem dL_law_3861 : decode cL_law 3861 = .ok (.invokevirtual 378, 3) := dk_182 1 122 (dk_at dksL_law_154 9 rfl rfl)
theorem dL_law_3864 : decode cL_law 3864 = .ok (.istore 6, 2) := dk_54 6 (dk_at dksL_law_154 12 rfl rfl)
theorem dL_law_3866 : decode cL_law 3866 = .ok (.aload_n 2, 1) := dk_44 (dk_at dksL_law_154 14 rfl rfl)
theorem dL_law_3867 : decode cL_law 3867 = .ok (.invokevirtual 194, 3) := dk_182 0 194 (dk_at dksL_law_154 15 rfl rfl)
theorem dL_law_3870 : decode cL_law 3870 = .ok (.iload 5, 2) := dk_21 5 (dk_at dksL_law_154 18 rfl rfl)
theorem dL_law_3872 : decode cL_law 3872 = .ok (.if_icmp .eq 5, 3) := dk_159 0 5 (dk_at dksL_law_154 20 rfl rfl)
theorem dL_law_3875 : decode cL_law 3875 = .ok (.iconst 0, 1) := dk_3 (dk_at dksL_law_154 23 rfl rfl)
theorem dL_law_3876 : decode cL_law 3876 = .ok (.ireturn, 1) := dk_172 (dk_at dksL_law_155 0 rfl rfl)
theorem dL_law_3877 : decode cL_law 3877 = .ok (.iload 5, 2) := dk_21 5 (dk_at dksL_law_155 1 rfl rfl)
theorem dL_law_3879 : decode cL_law 3879 = .ok (.ifCond .ne 15, 3) := dk_154 0 15 (dk_at dksL_law_155 3 rfl rfl)
theorem dL_law_3882 : decode cL_law 3882 = .ok (.aload_n 3, 1) := dk_45 (dk_at dksL_law_155 6 rfl rfl)
theorem dL_law_3883 : decode cL_law 3883 = .ok (.iconst 0, 1) := dk_3 (dk_at dksL_law_155 7 rfl rfl)
theorem dL_law_3884 : decode cL_law 3884 = .ok (.laload, 1) := dk_47 (dk_at dksL_law_155 8 rfl rfl)
theorem dL_law_3885 : decode cL_law 3885 = .ok (.iload 6, 2) := dk_21 6 (dk_at dksL_law_155 9 rfl rfl)
theorem dL_law_3887 : decode cL_law 3887 = .ok (.i2l, 1) := dk_133 (dk_at dksL_law_155 11 rfl rfl)
theorem dL_law_3888 : decode cL_law 3888 = .ok (.lcmp, 1) := dk_148 (dk_at dksL_law_155 12 rfl rfl)
theorem dL_law_3889 : decode cL_law 3889 = .ok (.ifCond .eq 5, 3) := dk_153 0 5 (dk_at dksL_law_155 13 rfl rfl)
theorem dL_law_3892 : decode cL_law 3892 = .ok (.iconst 0, 1) := dk_3 (dk_at dksL_law_155 16 rfl rfl)
theorem dL_law_3893 : decode cL_law 3893 = .ok (.ireturn, 1) := dk_172 (dk_at dksL_law_155 17 rfl rfl)
theorem dL_law_3894 : decode cL_law 3894 = .ok (.goto 364, 3) := dk_167 1 108 (dk_at dksL_law_155 18 rfl rfl)
theorem dL_law_3897 : decode cL_law 3897 = .ok (.aload_n 1, 1) := dk_43 (dk_at dksL_law_155 21 rfl rfl)
theorem dL_law_3898 : decode cL_law 3898 = .ok (.aload_n 0, 1) := dk_42 (dk_at dksL_law_155 22 rfl rfl)
theorem dL_law_3899 : decode cL_law 3899 = .ok (.iload 4, 2) := dk_21 4 (dk_at dksL_law_156 0 rfl rfl)
theorem dL_law_3901 : decode cL_law 3901 = .ok (.iconst 1, 1) := dk_4 (dk_at dksL_law_156 2 rfl rfl)
theorem dL_law_3902 : decode cL_law 3902 = .ok (.iadd, 1) := dk_96 (dk_at dksL_law_156 3 rfl rfl)
theorem dL_law_3903 : decode cL_law 3903 = .ok (.iaload, 1) := dk_46 (dk_at dksL_law_156 4 rfl rfl)
theorem dL_law_3904 : decode cL_law 3904 = .ok (.aload_n 0, 1) := dk_42 (dk_at dksL_law_156 5 rfl rfl)
theorem dL_law_3905 : decode cL_law 3905 = .ok (.iload 4, 2) := dk_21 4 (dk_at dksL_law_156 6 rfl rfl)
theorem dL_law_3907 : decode cL_law 3907 = .ok (.iconst 2, 1) := dk_5 (dk_at dksL_law_156 8 rfl rfl)
theorem dL_law_3908 : decode cL_law 3908 = .ok (.iadd, 1) := dk_96 (dk_at dksL_law_156 9 rfl rfl)
theorem dL_law_3909 : decode cL_law 3909 = .ok (.iaload, 1) := dk_46 (dk_at dksL_law_156 10 rfl rfl)
theorem dL_law_3910 : decode cL_law 3910 = .ok (.aload_n 3, 1) := dk_45 (dk_at dksL_law_156 11 rfl rfl)
theorem dL_law_3911 : decode cL_law 3911 = .ok (.invokestatic 379, 3) := dk_184 1 123 (dk_at dksL_law_156 12 rfl rfl)
theorem dL_law_3914 : decode cL_law 3914 = .ok (.istore 5, 2) := dk_54 5 (dk_at dksL_law_156 15 rfl rfl)
theorem dL_law_3916 : decode cL_law 3916 = .ok (.aload_n 2, 1) := dk_44 (dk_at dksL_law_156 17 rfl rfl)
theorem dL_law_3917 : decode cL_law 3917 = .ok (.aload_n 0, 1) := dk_42 (dk_at dksL_law_156 18 rfl rfl)
theorem dL_law_3918 : decode cL_law 3918 = .ok (.iload 4, 2) := dk_21 4 (dk_at dksL_law_156 19 rfl rfl)
theorem dL_law_3920 : decode cL_law 3920 = .ok (.iconst 1, 1) := dk_4 (dk_at dksL_law_156 21 rfl rfl)
theorem dL_law_3921 : decode cL_law 3921 = .ok (.iadd, 1) := dk_96 (dk_at dksL_law_156 22 rfl rfl)
theorem dL_law_3922 : decode cL_law 3922 = .ok (.iaload, 1) := dk_46 (dk_at dksL_law_156 23 rfl rfl)
theorem dL_law_3923 : decode cL_law 3923 = .ok (.aload_n 0, 1) := dk_42 (dk_at dksL_law_157 0 rfl rfl)
theorem dL_law_3924 : decode cL_law 3924 = .ok (.iload 4, 2) := dk_21 4 (dk_at dksL_law_157 1 rfl rfl)
theorem dL_law_3926 : decode cL_law 3926 = .ok (.iconst 2, 1) := dk_5 (dk_at dksL_law_157 3 rfl rfl)
theorem dL_law_3927 : decode cL_law 3927 = .ok (.iadd, 1) := dk_96 (dk_at dksL_law_157 4 rfl rfl)
theorem dL_law_3928 : decode cL_law 3928 = .ok (.iaload, 1) := dk_46 (dk_at dksL_law_157 5 rfl rfl)
theorem dL_law_3929 : decode cL_law 3929 = .ok (.invokevirtual 381, 3) := dk_182 1 125 (dk_at dksL_law_157 6 rfl rfl)
theorem dL_law_3932 : decode cL_law 3932 = .ok (.istore 6, 2) := dk_54 6 (dk_at dksL_law_157 9 rfl rfl)
theorem dL_law_3934 : decode cL_law 3934 = .ok (.aload_n 2, 1) := dk_44 (dk_at dksL_law_157 11 rfl rfl)
theorem dL_law_3935 : decode cL_law 3935 = .ok (.invokevirtual 194, 3) := dk_182 0 194 (dk_at dksL_law_157 12 rfl rfl)
theorem dL_law_3938 : decode cL_law 3938 = .ok (.iload 5, 2) := dk_21 5 (dk_at dksL_law_157 15 rfl rfl)
theorem dL_law_3940 : decode cL_law 3940 = .ok (.if_icmp .eq 5, 3) := dk_159 0 5 (dk_at dksL_law_157 17 rfl rfl)
theorem dL_law_3943 : decode cL_law 3943 = .ok (.iconst 0, 1) := dk_3 (dk_at dksL_law_157 20 rfl rfl)
theorem dL_law_3944 : decode cL_law 3944 = .ok (.ireturn, 1) := dk_172 (dk_at dksL_law_157 21 rfl rfl)
theorem dL_law_3945 : decode cL_law 3945 = .ok (.iload 5, 2) := dk_21 5 (dk_at dksL_law_157 22 rfl rfl)
theorem dL_law_3947 : decode cL_law 3947 = .ok (.ifCond .ne 15, 3) := dk_154 0 15 (dk_at dksL_law_158 0 rfl rfl)
theorem dL_law_3950 : decode cL_law 3950 = .ok (.aload_n 3, 1) := dk_45 (dk_at dksL_law_158 3 rfl rfl)
theorem dL_law_3951 : decode cL_law 3951 = .ok (.iconst 0, 1) := dk_3 (dk_at dksL_law_158 4 rfl rfl)
theorem dL_law_3952 : decode cL_law 3952 = .ok (.laload, 1) := dk_47 (dk_at dksL_law_158 5 rfl rfl)
theorem dL_law_3953 : decode cL_law 3953 = .ok (.iload 6, 2) := dk_21 6 (dk_at dksL_law_158 6 rfl rfl)
theorem dL_law_3955 : decode cL_law 3955 = .ok (.i2l, 1) := dk_133 (dk_at dksL_law_158 8 rfl rfl)
theorem dL_law_3956 : decode cL_law 3956 = .ok (.lcmp, 1) := dk_148 (dk_at dksL_law_158 9 rfl rfl)
theorem dL_law_3957 : decode cL_law 3957 = .ok (.ifCond .eq 5, 3) := dk_153 0 5 (dk_at dksL_law_158 10 rfl rfl)
theorem dL_law_3960 : decode cL_law 3960 = .ok (.iconst 0, 1) := dk_3 (dk_at dksL_law_158 13 rfl rfl)
theorem dL_law_3961 : decode cL_law 3961 = .ok (.ireturn, 1) := dk_172 (dk_at dksL_law_158 14 rfl rfl)
theorem dL_law_3962 : decode cL_law 3962 = .ok (.goto 296, 3) := dk_167 1 40 (dk_at dksL_law_158 15 rfl rfl)
theorem dL_law_3965 : decode cL_law 3965 = .ok (.aload_n 1, 1) := dk_43 (dk_at dksL_law_158 18 rfl rfl)
theorem dL_law_3966 : decode cL_law 3966 = .ok (.invokevirtual 382, 3) := dk_182 1 126 (dk_at dksL_law_158 19 rfl rfl)
theorem dL_law_3969 : decode cL_law 3969 = .ok (.aload_n 2, 1) := dk_44 (dk_at dksL_law_158 22 rfl rfl)
theorem dL_law_3970 : decode cL_law 3970 = .ok (.invokevirtual 385, 3) := dk_182 1 129 (dk_at dksL_law_159 0 rfl rfl)
theorem dL_law_3973 : decode cL_law 3973 = .ok (.if_icmp .eq 285, 3) := dk_159 1 29 (dk_at dksL_law_159 3 rfl rfl)
theorem dL_law_3976 : decode cL_law 3976 = .ok (.iconst 0, 1) := dk_3 (dk_at dksL_law_159 6 rfl rfl)
theorem dL_law_3977 : decode cL_law 3977 = .ok (.ireturn, 1) := dk_172 (dk_at dksL_law_159 7 rfl rfl)
theorem dL_law_3978 : decode cL_law 3978 = .ok (.aload_n 1, 1) := dk_43 (dk_at dksL_law_159 8 rfl rfl)
theorem dL_law_3979 : decode cL_law 3979 = .ok (.invokevirtual 386, 3) := dk_182 1 130 (dk_at dksL_law_159 9 rfl rfl)
theorem dL_law_3982 : decode cL_law 3982 = .ok (.aload_n 2, 1) := dk_44 (dk_at dksL_law_159 12 rfl rfl)
theorem dL_law_3983 : decode cL_law 3983 = .ok (.invokevirtual 389, 3) := dk_182 1 133 (dk_at dksL_law_159 13 rfl rfl)
theorem dL_law_3986 : decode cL_law 3986 = .ok (.if_icmp .eq 272, 3) := dk_159 1 16 (dk_at dksL_law_159 16 rfl rfl)
theorem dL_law_3989 : decode cL_law 3989 = .ok (.iconst 0, 1) := dk_3 (dk_at dksL_law_159 19 rfl rfl)
theorem dL_law_3990 : decode cL_law 3990 = .ok (.ireturn, 1) := dk_172 (dk_at dksL_law_159 20 rfl rfl)
theorem dL_law_3991 : decode cL_law 3991 = .ok (.aload_n 1, 1) := dk_43 (dk_at dksL_law_159 21 rfl rfl)
theorem dL_law_3992 : decode cL_law 3992 = .ok (.aload_n 0, 1) := dk_42 (dk_at dksL_law_159 22 rfl rfl)
theorem dL_law_3993 : decode cL_law 3993 = .ok (.iload 4, 2) := dk_21 4 (dk_at dksL_law_160 0 rfl rfl)
theorem dL_law_3995 : decode cL_law 3995 = .ok (.iconst 1, 1) := dk_4 (dk_at dksL_law_160 2 rfl rfl)
theorem dL_law_3996 : decode cL_law 3996 = .ok (.iadd, 1) := dk_96 (dk_at dksL_law_160 3 rfl rfl)
theorem dL_law_3997 : decode cL_law 3997 = .ok (.iaload, 1) := dk_46 (dk_at dksL_law_160 4 rfl rfl)
theorem dL_law_3998 : decode cL_law 3998 = .ok (.aload_n 0, 1) := dk_42 (dk_at dksL_law_160 5 rfl rfl)
theorem dL_law_3999 : decode cL_law 3999 = .ok (.iload 4, 2) := dk_21 4 (dk_at dksL_law_160 6 rfl rfl)
theorem dL_law_4001 : decode cL_law 4001 = .ok (.iconst 2, 1) := dk_5 (dk_at dksL_law_160 8 rfl rfl)
theorem dL_law_4002 : decode cL_law 4002 = .ok (.iadd, 1) := dk_96 (dk_at dksL_law_160 9 rfl rfl)
theorem dL_law_4003 : decode cL_law 4003 = .ok (.iaload, 1) := dk_46 (dk_at dksL_law_160 10 rfl rfl)
theorem dL_law_4004 : decode cL_law 4004 = .ok (.aload_n 0, 1) := dk_42 (dk_at dksL_law_160 11 rfl rfl)
theorem dL_law_4005 : decode cL_law 4005 = .ok (.iload 4, 2) := dk_21 4 (dk_at dksL_law_160 12 rfl rfl)
theorem dL_law_4007 : decode cL_law 4007 = .ok (.iconst 3, 1) := dk_6 (dk_at dksL_law_160 14 rfl rfl)
theorem dL_law_4008 : decode cL_law 4008 = .ok (.iadd, 1) := dk_96 (dk_at dksL_law_160 15 rfl rfl)
theorem dL_law_4009 : decode cL_law 4009 = .ok (.iaload, 1) := dk_46 (dk_at dksL_law_160 16 rfl rfl)
theorem dL_law_4010 : decode cL_law 4010 = .ok (.aload_n 3, 1) := dk_45 (dk_at dksL_law_160 17 rfl rfl)
theorem dL_law_4011 : decode cL_law 4011 = .ok (.invokestatic 390, 3) := dk_184 1 134 (dk_at dksL_law_160 18 rfl rfl)
theorem dL_law_4014 : decode cL_law 4014 = .ok (.istore 5, 2) := dk_54 5 (dk_at dksL_law_160 21 rfl rfl)
theorem dL_law_4016 : decode cL_law 4016 = .ok (.aload_n 2, 1) := dk_44 (dk_at dksL_law_160 23 rfl rfl)
theorem dL_law_4017 : decode cL_law 4017 = .ok (.aload_n 0, 1) := dk_42 (dk_at dksL_law_161 0 rfl rfl)
theorem dL_law_4018 : decode cL_law 4018 = .ok (.iload 4, 2) := dk_21 4 (dk_at dksL_law_161 1 rfl rfl)
theorem dL_law_4020 : decode cL_law 4020 = .ok (.iconst 1, 1) := dk_4 (dk_at dksL_law_161 3 rfl rfl)
theorem dL_law_4021 : decode cL_law 4021 = .ok (.iadd, 1) := dk_96 (dk_at dksL_law_161 4 rfl rfl)
theorem dL_law_4022 : decode cL_law 4022 = .ok (.iaload, 1) := dk_46 (dk_at dksL_law_161 5 rfl rfl)
theorem dL_law_4023 : decode cL_law 4023 = .ok (.aload_n 0, 1) := dk_42 (dk_at dksL_law_161 6 rfl rfl)
theorem dL_law_4024 : decode cL_law 4024 = .ok (.iload 4, 2) := dk_21 4 (dk_at dksL_law_161 7 rfl rfl)
theorem dL_law_4026 : decode cL_law 4026 = .ok (.iconst 2, 1) := dk_5 (dk_at dksL_law_161 9 rfl rfl)
theorem dL_law_4027 : decode cL_law 4027 = .ok (.iadd, 1) := dk_96 (dk_at dksL_law_161 10 rfl rfl)
theorem dL_law_4028 : decode cL_law 4028 = .ok (.iaload, 1) := dk_46 (dk_at dksL_law_161 11 rfl rfl)
theorem dL_law_4029 : decode cL_law 4029 = .ok (.aload_n 0, 1) := dk_42 (dk_at dksL_law_161 12 rfl rfl)
theorem dL_law_4030 : decode cL_law 4030 = .ok (.iload 4, 2) := dk_21 4 (dk_at dksL_law_161 13 rfl rfl)
theorem dL_law_4032 : decode cL_law 4032 = .ok (.iconst 3, 1) := dk_6 (dk_at dksL_law_161 15 rfl rfl)
theorem dL_law_4033 : decode cL_law 4033 = .ok (.iadd, 1) := dk_96 (dk_at dksL_law_161 16 rfl rfl)
theorem dL_law_4034 : decode cL_law 4034 = .ok (.iaload, 1) := dk_46 (dk_at dksL_law_161 17 rfl rfl)
theorem dL_law_4035 : decode cL_law 4035 = .ok (.invokevirtual 392, 3) := dk_182 1 136 (dk_at dksL_law_161 18 rfl rfl)
theorem dL_law_4038 : decode cL_law 4038 = .ok (.istore 6, 2) := dk_54 6 (dk_at dksL_law_161 21 rfl rfl)
theorem dL_law_4040 : decode cL_law 4040 = .ok (.aload_n 2, 1) := dk_44 (dk_at dksL_law_161 23 rfl rfl)
theorem dL_law_4041 : decode cL_law 4041 = .ok (.invokevirtual 194, 3) := dk_182 0 194 (dk_at dksL_law_162 0 rfl rfl)
theorem dL_law_4044 : decode cL_law 4044 = .ok (.iload 5, 2) := dk_21 5 (dk_at dksL_law_162 3 rfl rfl)
theorem dL_law_4046 : decode cL_law 4046 = .ok (.if_icmp .eq 5, 3) := dk_159 0 5 (dk_at dksL_law_162 5 rfl rfl)
theorem dL_law_4049 : decode cL_law 4049 = .ok (.iconst 0, 1) := dk_3 (dk_at dksL_law_162 8 rfl rfl)
theorem dL_law_4050 : decode cL_law 4050 = .ok (.ireturn, 1) := dk_172 (dk_at dksL_law_162 9 rfl rfl)
theorem dL_law_4051 : decode cL_law 4051 = .ok (.iload 5, 2) := dk_21 5 (dk_at dksL_law_162 10 rfl rfl)
theorem dL_law_4053 : decode cL_law 4053 = .ok (.ifCond .ne 15, 3) := dk_154 0 15 (dk_at dksL_law_162 12 rfl rfl)
theorem dL_law_4056 : decode cL_law 4056 = .ok (.aload_n 3, 1) := dk_45 (dk_at dksL_law_162 15 rfl rfl)
theorem dL_law_4057 : decode cL_law 4057 = .ok (.iconst 0, 1) := dk_3 (dk_at dksL_law_162 16 rfl rfl)
theorem dL_law_4058 : decode cL_law 4058 = .ok (.laload, 1) := dk_47 (dk_at dksL_law_162 17 rfl rfl)
theorem dL_law_4059 : decode cL_law 4059 = .ok (.iload 6, 2) := dk_21 6 (dk_at dksL_law_162 18 rfl rfl)
theorem dL_law_4061 : decode cL_law 4061 = .ok (.i2l, 1) := dk_133 (dk_at dksL_law_162 20 rfl rfl)
theorem dL_law_4062 : decode cL_law 4062 = .ok (.lcmp, 1) := dk_148 (dk_at dksL_law_162 21 rfl rfl)
theorem dL_law_4063 : decode cL_law 4063 = .ok (.ifCond .eq 5, 3) := dk_153 0 5 (dk_at dksL_law_163 0 rfl rfl)
theorem dL_law_4066 : decode cL_law 4066 = .ok (.iconst 0, 1) := dk_3 (dk_at dksL_law_163 3 rfl rfl)
theorem dL_law_4067 : decode cL_law 4067 = .ok (.ireturn, 1) := dk_172 (dk_at dksL_law_163 4 rfl rfl)
theorem dL_law_4068 : decode cL_law 4068 = .ok (.goto 190, 3) := dk_167 0 190 (dk_at dksL_law_163 5 rfl rfl)
theorem dL_law_4071 : decode cL_law 4071 = .ok (.aload_n 1, 1) := dk_43 (dk_at dksL_law_163 8 rfl rfl)
theorem dL_law_4072 : decode cL_law 4072 = .ok (.aload_n 0, 1) := dk_42 (dk_at dksL_law_163 9 rfl rfl)
theorem dL_law_4073 : decode cL_law 4073 = .ok (.iload 4, 2) := dk_21 4 (dk_at dksL_law_163 10 rfl rfl)
theorem dL_law_4075 : decode cL_law 4075 = .ok (.iconst 1, 1) := dk_4 (dk_at dksL_law_163 12 rfl rfl)
theorem dL_law_4076 : decode cL_law 4076 = .ok (.iadd, 1) := dk_96 (dk_at dksL_law_163 13 rfl rfl)
theorem dL_law_4077 : decode cL_law 4077 = .ok (.iaload, 1) := dk_46 (dk_at dksL_law_163 14 rfl rfl)
theorem dL_law_4078 : decode cL_law 4078 = .ok (.aload_n 0, 1) := dk_42 (dk_at dksL_law_163 15 rfl rfl)
theorem dL_law_4079 : decode cL_law 4079 = .ok (.iload 4, 2) := dk_21 4 (dk_at dksL_law_163 16 rfl rfl)
theorem dL_law_4081 : decode cL_law 4081 = .ok (.iconst 2, 1) := dk_5 (dk_at dksL_law_163 18 rfl rfl)
theorem dL_law_4082 : decode cL_law 4082 = .ok (.iadd, 1) := dk_96 (dk_at dksL_law_163 19 rfl rfl)
theorem dL_law_4083 : decode cL_law 4083 = .ok (.iaload, 1) := dk_46 (dk_at dksL_law_163 20 rfl rfl)
theorem dL_law_4084 : decode cL_law 4084 = .ok (.aload_n 3, 1) := dk_45 (dk_at dksL_law_163 21 rfl rfl)
theorem dL_law_4085 : decode cL_law 4085 = .ok (.invokestatic 393, 3) := dk_184 1 137 (dk_at dksL_law_164 0 rfl rfl)
theorem dL_law_4088 : decode cL_law 4088 = .ok (.istore 5, 2) := dk_54 5 (dk_at dksL_law_164 3 rfl rfl)
theorem dL_law_4090 : decode cL_law 4090 = .ok (.aload_n 2, 1) := dk_44 (dk_at dksL_law_164 5 rfl rfl)
theorem dL_law_4091 : decode cL_law 4091 = .ok (.aload_n 0, 1) := dk_42 (dk_at dksL_law_164 6 rfl rfl)
theorem dL_law_4092 : decode cL_law 4092 = .ok (.iload 4, 2) := dk_21 4 (dk_at dksL_law_164 7 rfl rfl)
theorem dL_law_4094 : decode cL_law 4094 = .ok (.iconst 1, 1) := dk_4 (dk_at dksL_law_164 9 rfl rfl)
theorem dL_law_4095 : decode cL_law 4095 = .ok (.iadd, 1) := dk_96 (dk_at dksL_law_164 10 rfl rfl)
theorem dL_law_4096 : decode cL_law 4096 = .ok (.iaload, 1) := dk_46 (dk_at dksL_law_164 11 rfl rfl)
theorem dL_law_4097 : decode cL_law 4097 = .ok (.aload_n 0, 1) := dk_42 (dk_at dksL_law_164 12 rfl rfl)
theorem dL_law_4098 : decode cL_law 4098 = .ok (.iload 4, 2) := dk_21 4 (dk_at dksL_law_164 13 rfl rfl)
theorem dL_law_4100 : decode cL_law 4100 = .ok (.iconst 2, 1) := dk_5 (dk_at dksL_law_164 15 rfl rfl)
theorem dL_law_4101 : decode cL_law 4101 = .ok (.iadd, 1) := dk_96 (dk_at dksL_law_164 16 rfl rfl)
theorem dL_law_4102 : decode cL_law 4102 = .ok (.iaload, 1) := dk_46 (dk_at dksL_law_164 17 rfl rfl)
theorem dL_law_4103 : decode cL_law 4103 = .ok (.invokevirtual 395, 3) := dk_182 1 139 (dk_at dksL_law_164 18 rfl rfl)
theorem dL_law_4106 : decode cL_law 4106 = .ok (.istore 6, 2) := dk_54 6 (dk_at dksL_law_164 21 rfl rfl)
theorem dL_law_4108 : decode cL_law 4108 = .ok (.aload_n 2, 1) := dk_44 (dk_at dksL_law_164 23 rfl rfl)
theorem dL_law_4109 : decode cL_law 4109 = .ok (.invokevirtual 194, 3) := dk_182 0 194 (dk_at dksL_law_165 0 rfl rfl)
theorem dL_law_4112 : decode cL_law 4112 = .ok (.iload 5, 2) := dk_21 5 (dk_at dksL_law_165 3 rfl rfl)
theorem dL_law_4114 : decode cL_law 4114 = .ok (.if_icmp .eq 5, 3) := dk_159 0 5 (dk_at dksL_law_165 5 rfl rfl)
theorem dL_law_4117 : decode cL_law 4117 = .ok (.iconst 0, 1) := dk_3 (dk_at dksL_law_165 8 rfl rfl)
theorem dL_law_4118 : decode cL_law 4118 = .ok (.ireturn, 1) := dk_172 (dk_at dksL_law_165 9 rfl rfl)
theorem dL_law_4119 : decode cL_law 4119 = .ok (.iload 5, 2) := dk_21 5 (dk_at dksL_law_165 10 rfl rfl)
theorem dL_law_4121 : decode cL_law 4121 = .ok (.ifCond .ne 15, 3) := dk_154 0 15 (dk_at dksL_law_165 12 rfl rfl)
theorem dL_law_4124 : decode cL_law 4124 = .ok (.aload_n 3, 1) := dk_45 (dk_at dksL_law_165 15 rfl rfl)
theorem dL_law_4125 : decode cL_law 4125 = .ok (.iconst 0, 1) := dk_3 (dk_at dksL_law_165 16 rfl rfl)
theorem dL_law_4126 : decode cL_law 4126 = .ok (.laload, 1) := dk_47 (dk_at dksL_law_165 17 rfl rfl)
theorem dL_law_4127 : decode cL_law 4127 = .ok (.iload 6, 2) := dk_21 6 (dk_at dksL_law_165 18 rfl rfl)
theorem dL_law_4129 : decode cL_law 4129 = .ok (.i2l, 1) := dk_133 (dk_at dksL_law_165 20 rfl rfl)
theorem dL_law_4130 : decode cL_law 4130 = .ok (.lcmp, 1) := dk_148 (dk_at dksL_law_165 21 rfl rfl)
theorem dL_law_4131 : decode cL_law 4131 = .ok (.ifCond .eq 5, 3) := dk_153 0 5 (dk_at dksL_law_166 0 rfl rfl)
theorem dL_law_4134 : decode cL_law 4134 = .ok (.iconst 0, 1) := dk_3 (dk_at dksL_law_166 3 rfl rfl)
theorem dL_law_4135 : decode cL_law 4135 = .ok (.ireturn, 1) := dk_172 (dk_at dksL_law_166 4 rfl rfl)
theorem dL_law_4136 : decode cL_law 4136 = .ok (.goto 122, 3) := dk_167 0 122 (dk_at dksL_law_166 5 rfl rfl)
theorem dL_law_4139 : decode cL_law 4139 = .ok (.aload_n 1, 1) := dk_43 (dk_at dksL_law_166 8 rfl rfl)
theorem dL_law_4140 : decode cL_law 4140 = .ok (.aload_n 0, 1) := dk_42 (dk_at dksL_law_166 9 rfl rfl)
theorem dL_law_4141 : decode cL_law 4141 = .ok (.iload 4, 2) := dk_21 4 (dk_at dksL_law_166 10 rfl rfl)
theorem dL_law_4143 : decode cL_law 4143 = .ok (.iconst 1, 1) := dk_4 (dk_at dksL_law_166 12 rfl rfl)
theorem dL_law_4144 : decode cL_law 4144 = .ok (.iadd, 1) := dk_96 (dk_at dksL_law_166 13 rfl rfl)
theorem dL_law_4145 : decode cL_law 4145 = .ok (.iaload, 1) := dk_46 (dk_at dksL_law_166 14 rfl rfl)
theorem dL_law_4146 : decode cL_law 4146 = .ok (.aload_n 0, 1) := dk_42 (dk_at dksL_law_166 15 rfl rfl)
theorem dL_law_4147 : decode cL_law 4147 = .ok (.iload 4, 2) := dk_21 4 (dk_at dksL_law_166 16 rfl rfl)
theorem dL_law_4149 : decode cL_law 4149 = .ok (.iconst 2, 1) := dk_5 (dk_at dksL_law_166 18 rfl rfl)
theorem dL_law_4150 : decode cL_law 4150 = .ok (.iadd, 1) := dk_96 (dk_at dksL_law_166 19 rfl rfl)
theorem dL_law_4151 : decode cL_law 4151 = .ok (.iaload, 1) := dk_46 (dk_at dksL_law_166 20 rfl rfl)
theorem dL_law_4152 : decode cL_law 4152 = .ok (.aload_n 3, 1) := dk_45 (dk_at dksL_law_166 21 rfl rfl)
theorem dL_law_4153 : decode cL_law 4153 = .ok (.invokestatic 396, 3) := dk_184 1 140 (dk_at dksL_law_167 0 rfl rfl)
theorem dL_law_4156 : decode cL_law 4156 = .ok (.istore 5, 2) := dk_54 5 (dk_at dksL_law_167 3 rfl rfl)
theorem dL_law_4158 : decode cL_law 4158 = .ok (.aload_n 2, 1) := dk_44 (dk_at dksL_law_167 5 rfl rfl)
theorem dL_law_4159 : decode cL_law 4159 = .ok (.aload_n 0, 1) := dk_42 (dk_at dksL_law_167 6 rfl rfl)
theorem dL_law_4160 : decode cL_law 4160 = .ok (.iload 4, 2) := dk_21 4 (dk_at dksL_law_167 7 rfl rfl)
theorem dL_law_4162 : decode cL_law 4162 = .ok (.iconst 1, 1) := dk_4 (dk_at dksL_law_167 9 rfl rfl)
theorem dL_law_4163 : decode cL_law 4163 = .ok (.iadd, 1) := dk_96 (dk_at dksL_law_167 10 rfl rfl)
theorem dL_law_4164 : decode cL_law 4164 = .ok (.iaload, 1) := dk_46 (dk_at dksL_law_167 11 rfl rfl)
theorem dL_law_4165 : decode cL_law 4165 = .ok (.aload_n 0, 1) := dk_42 (dk_at dksL_law_167 12 rfl rfl)
theorem dL_law_4166 : decode cL_law 4166 = .ok (.iload 4, 2) := dk_21 4 (dk_at dksL_law_167 13 rfl rfl)
theorem dL_law_4168 : decode cL_law 4168 = .ok (.iconst 2, 1) := dk_5 (dk_at dksL_law_167 15 rfl rfl)
theorem dL_law_4169 : decode cL_law 4169 = .ok (.iadd, 1) := dk_96 (dk_at dksL_law_167 16 rfl rfl)
theorem dL_law_4170 : decode cL_law 4170 = .ok (.iaload, 1) := dk_46 (dk_at dksL_law_167 17 rfl rfl)
theorem dL_law_4171 : decode cL_law 4171 = .ok (.invokevirtual 398, 3) := dk_182 1 142 (dk_at dksL_law_167 18 rfl rfl)
theorem dL_law_4174 : decode cL_law 4174 = .ok (.istore 6, 2) := dk_54 6 (dk_at dksL_law_167 21 rfl rfl)
theorem dL_law_4176 : decode cL_law 4176 = .ok (.aload_n 2, 1) := dk_44 (dk_at dksL_law_167 23 rfl rfl)
theorem dL_law_4177 : decode cL_law 4177 = .ok (.invokevirtual 194, 3) := dk_182 0 194 (dk_at dksL_law_168 0 rfl rfl)
theorem dL_law_4180 : decode cL_law 4180 = .ok (.iload 5, 2) := dk_21 5 (dk_at dksL_law_168 3 rfl rfl)
theorem dL_law_4182 : decode cL_law 4182 = .ok (.if_icmp .eq 5, 3) := dk_159 0 5 (dk_at dksL_law_168 5 rfl rfl)
theorem dL_law_4185 : decode cL_law 4185 = .ok (.iconst 0, 1) := dk_3 (dk_at dksL_law_168 8 rfl rfl)
theorem dL_law_4186 : decode cL_law 4186 = .ok (.ireturn, 1) := dk_172 (dk_at dksL_law_168 9 rfl rfl)
theorem dL_law_4187 : decode cL_law 4187 = .ok (.iload 5, 2) := dk_21 5 (dk_at dksL_law_168 10 rfl rfl)
theorem dL_law_4189 : decode cL_law 4189 = .ok (.ifCond .ne 15, 3) := dk_154 0 15 (dk_at dksL_law_168 12 rfl rfl)
theorem dL_law_4192 : decode cL_law 4192 = .ok (.aload_n 3, 1) := dk_45 (dk_at dksL_law_168 15 rfl rfl)
theorem dL_law_4193 : decode cL_law 4193 = .ok (.iconst 0, 1) := dk_3 (dk_at dksL_law_168 16 rfl rfl)
theorem dL_law_4194 : decode cL_law 4194 = .ok (.laload, 1) := dk_47 (dk_at dksL_law_168 17 rfl rfl)
theorem dL_law_4195 : decode cL_law 4195 = .ok (.iload 6, 2) := dk_21 6 (dk_at dksL_law_168 18 rfl rfl)
theorem dL_law_4197 : decode cL_law 4197 = .ok (.i2l, 1) := dk_133 (dk_at dksL_law_168 20 rfl rfl)
theorem dL_law_4198 : decode cL_law 4198 = .ok (.lcmp, 1) := dk_148 (dk_at dksL_law_168 21 rfl rfl)
theorem dL_law_4199 : decode cL_law 4199 = .ok (.ifCond .eq 5, 3) := dk_153 0 5 (dk_at dksL_law_169 0 rfl rfl)
theorem dL_law_4202 : decode cL_law 4202 = .ok (.iconst 0, 1) := dk_3 (dk_at dksL_law_169 3 rfl rfl)
theorem dL_law_4203 : decode cL_law 4203 = .ok (.ireturn, 1) := dk_172 (dk_at dksL_law_169 4 rfl rfl)
theorem dL_law_4204 : decode cL_law 4204 = .ok (.goto 54, 3) := dk_167 0 54 (dk_at dksL_law_169 5 rfl rfl)
theorem dL_law_4207 : decode cL_law 4207 = .ok (.aload_n 1, 1) := dk_43 (dk_at dksL_law_169 8 rfl rfl)
theorem dL_law_4208 : decode cL_law 4208 = .ok (.invokevirtual 399, 3) := dk_182 1 143 (dk_at dksL_law_169 9 rfl rfl)
theorem dL_law_4211 : decode cL_law 4211 = .ok (.aload_n 2, 1) := dk_44 (dk_at dksL_law_169 12 rfl rfl)
theorem dL_law_4212 : decode cL_law 4212 = .ok (.invokevirtual 402, 3) := dk_182 1 146 (dk_at dksL_law_169 13 rfl rfl)
theorem dL_law_4215 : decode cL_law 4215 = .ok (.if_icmp .eq 43, 3) := dk_159 0 43 (dk_at dksL_law_169 16 rfl rfl)
theorem dL_law_4218 : decode cL_law 4218 = .ok (.iconst 0, 1) := dk_3 (dk_at dksL_law_169 19 rfl rfl)
theorem dL_law_4219 : decode cL_law 4219 = .ok (.ireturn, 1) := dk_172 (dk_at dksL_law_169 20 rfl rfl)
theorem dL_law_4220 : decode cL_law 4220 = .ok (.aload_n 1, 1) := dk_43 (dk_at dksL_law_169 21 rfl rfl)
theorem dL_law_4221 : decode cL_law 4221 = .ok (.invokevirtual 403, 3) := dk_182 1 147 (dk_at dksL_law_170 0 rfl rfl)
theorem dL_law_4224 : decode cL_law 4224 = .ok (.aload_n 2, 1) := dk_44 (dk_at dksL_law_170 3 rfl rfl)
theorem dL_law_4225 : decode cL_law 4225 = .ok (.invokevirtual 406, 3) := dk_182 1 150 (dk_at dksL_law_170 4 rfl rfl)
theorem dL_law_4228 : decode cL_law 4228 = .ok (.if_icmp .eq 30, 3) := dk_159 0 30 (dk_at dksL_law_170 7 rfl rfl)
theorem dL_law_4231 : decode cL_law 4231 = .ok (.iconst 0, 1) := dk_3 (dk_at dksL_law_170 10 rfl rfl)
theorem dL_law_4232 : decode cL_law 4232 = .ok (.ireturn, 1) := dk_172 (dk_at dksL_law_170 11 rfl rfl)
theorem dL_law_4233 : decode cL_law 4233 = .ok (.aload_n 1, 1) := dk_43 (dk_at dksL_law_170 12 rfl rfl)
theorem dL_law_4234 : decode cL_law 4234 = .ok (.aload_n 0, 1) := dk_42 (dk_at dksL_law_170 13 rfl rfl)
theorem dL_law_4235 : decode cL_law 4235 = .ok (.iload 4, 2) := dk_21 4 (dk_at dksL_law_170 14 rfl rfl)
theorem dL_law_4237 : decode cL_law 4237 = .ok (.iconst 1, 1) := dk_4 (dk_at dksL_law_170 16 rfl rfl)
theorem dL_law_4238 : decode cL_law 4238 = .ok (.iadd, 1) := dk_96 (dk_at dksL_law_170 17 rfl rfl)
theorem dL_law_4239 : decode cL_law 4239 = .ok (.iaload, 1) := dk_46 (dk_at dksL_law_170 18 rfl rfl)
theorem dL_law_4240 : decode cL_law 4240 = .ok (.invokevirtual 407, 3) := dk_182 1 151 (dk_at dksL_law_170 19 rfl rfl)
theorem dL_law_4243 : decode cL_law 4243 = .ok (.aload_n 2, 1) := dk_44 (dk_at dksL_law_170 22 rfl rfl)
theorem dL_law_4244 : decode cL_law 4244 = .ok (.aload_n 0, 1) := dk_42 (dk_at dksL_law_170 23 rfl rfl)
theorem dL_law_4245 : decode cL_law 4245 = .ok (.iload 4, 2) := dk_21 4 (dk_at dksL_law_171 0 rfl rfl)
theorem dL_law_4247 : decode cL_law 4247 = .ok (.iconst 1, 1) := dk_4 (dk_at dksL_law_171 2 rfl rfl)
theorem dL_law_4248 : decode cL_law 4248 = .ok (.iadd, 1) := dk_96 (dk_at dksL_law_171 3 rfl rfl)
theorem dL_law_4249 : decode cL_law 4249 = .ok (.iaload, 1) := dk_46 (dk_at dksL_law_171 4 rfl rfl)
theorem dL_law_4250 : decode cL_law 4250 = .ok (.invokevirtual 410, 3) := dk_182 1 154 (dk_at dksL_law_171 5 rfl rfl)
theorem dL_law_4253 : decode cL_law 4253 = .ok (.if_icmp .eq 5, 3) := dk_159 0 5 (dk_at dksL_law_171 8 rfl rfl)
theorem dL_law_4256 : decode cL_law 4256 = .ok (.iconst 0, 1) := dk_3 (dk_at dksL_law_171 11 rfl rfl)
theorem dL_law_4257 : decode cL_law 4257 = .ok (.ireturn, 1) := dk_172 (dk_at dksL_law_171 12 rfl rfl)
theorem dL_law_4258 : decode cL_law 4258 = .ok (.iinc 4 6, 3) := dk_132 4 6 (dk_at dksL_law_171 13 rfl rfl)
theorem dL_law_4261 : decode cL_law 4261 = .ok (.goto (-4238), 3) := dk_167 239 114 (dk_at dksL_law_171 16 rfl rfl)
theorem dL_law_4264 : decode cL_law 4264 = .ok (.iconst 1, 1) := dk_4 (dk_at dksL_law_171 19 rfl rfl)
theorem dL_law_4265 : decode cL_law 4265 = .ok (.ireturn, 1) := dk_172 (dk_at dksL_law_171 20 rfl rfl)

