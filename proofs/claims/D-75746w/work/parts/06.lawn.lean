/-! TranslationBureauLaw -/
set_option maxRecDepth 100000
def RX0 : String := "TranslationBureauLaw"
abbrev cX0_load : ByteArray := method_3_code
def yX0_load : MethodName := ⟨RX0, "load", "(LTranslationBureau;I[J)I"⟩
def dkwX0_load_0 : List UInt8 := [44, 3, 42, 27, 182, 0, 7, 133, 80, 167, 0, 6, 78, 4, 172, 3, 172]
abbrev dktX0_load_0 : List UInt8 := dkwX0_load_0 ++ []
theorem dksX0_load_0 : cX0_load.data.toList.drop 0 = dktX0_load_0 := by decide +kernel
theorem dX0_load_0 : decode cX0_load 0 = .ok (.aload_n 2, 1) := dk_44 (dk_at dksX0_load_0 0 rfl rfl)
theorem dX0_load_1 : decode cX0_load 1 = .ok (.iconst 0, 1) := dk_3 (dk_at dksX0_load_0 1 rfl rfl)
theorem dX0_load_2 : decode cX0_load 2 = .ok (.aload_n 0, 1) := dk_42 (dk_at dksX0_load_0 2 rfl rfl)
theorem dX0_load_3 : decode cX0_load 3 = .ok (.iload_n 1, 1) := dk_27 (dk_at dksX0_load_0 3 rfl rfl)
theorem dX0_load_4 : decode cX0_load 4 = .ok (.invokevirtual 7, 3) := dk_182 0 7 (dk_at dksX0_load_0 4 rfl rfl)
theorem dX0_load_7 : decode cX0_load 7 = .ok (.i2l, 1) := dk_133 (dk_at dksX0_load_0 7 rfl rfl)
theorem dX0_load_8 : decode cX0_load 8 = .ok (.lastore, 1) := dk_80 (dk_at dksX0_load_0 8 rfl rfl)
theorem dX0_load_9 : decode cX0_load 9 = .ok (.goto 6, 3) := dk_167 0 6 (dk_at dksX0_load_0 9 rfl rfl)
theorem dX0_load_12 : decode cX0_load 12 = .ok (.astore_n 3, 1) := dk_78 (dk_at dksX0_load_0 12 rfl rfl)
theorem dX0_load_13 : decode cX0_load 13 = .ok (.iconst 1, 1) := dk_4 (dk_at dksX0_load_0 13 rfl rfl)
theorem dX0_load_14 : decode cX0_load 14 = .ok (.ireturn, 1) := dk_172 (dk_at dksX0_load_0 14 rfl rfl)
theorem dX0_load_15 : decode cX0_load 15 = .ok (.iconst 0, 1) := dk_3 (dk_at dksX0_load_0 15 rfl rfl)
theorem dX0_load_16 : decode cX0_load 16 = .ok (.ireturn, 1) := dk_172 (dk_at dksX0_load_0 16 rfl rfl)
abbrev cX0_extend : ByteArray := method_4_code
def yX0_extend : MethodName := ⟨RX0, "extend", "(LTranslationBureau;I[J)I"⟩
def dkwX0_extend_0 : List UInt8 := [44, 3, 42, 27, 182, 0, 15, 133, 80, 167, 0, 6, 78, 4, 172, 3, 172]
abbrev dktX0_extend_0 : List UInt8 := dkwX0_extend_0 ++ []
theorem dksX0_extend_0 : cX0_extend.data.toList.drop 0 = dktX0_extend_0 := by decide +kernel
theorem dX0_extend_0 : decode cX0_extend 0 = .ok (.aload_n 2, 1) := dk_44 (dk_at dksX0_extend_0 0 rfl rfl)
theorem dX0_extend_1 : decode cX0_extend 1 = .ok (.iconst 0, 1) := dk_3 (dk_at dksX0_extend_0 1 rfl rfl)
theorem dX0_extend_2 : decode cX0_extend 2 = .ok (.aload_n 0, 1) := dk_42 (dk_at dksX0_extend_0 2 rfl rfl)
theorem dX0_extend_3 : decode cX0_extend 3 = .ok (.iload_n 1, 1) := dk_27 (dk_at dksX0_extend_0 3 rfl rfl)
theorem dX0_extend_4 : decode cX0_extend 4 = .ok (.invokevirtual 15, 3) := dk_182 0 15 (dk_at dksX0_extend_0 4 rfl rfl)
theorem dX0_extend_7 : decode cX0_extend 7 = .ok (.i2l, 1) := dk_133 (dk_at dksX0_extend_0 7 rfl rfl)
theorem dX0_extend_8 : decode cX0_extend 8 = .ok (.lastore, 1) := dk_80 (dk_at dksX0_extend_0 8 rfl rfl)
theorem dX0_extend_9 : decode cX0_extend 9 = .ok (.goto 6, 3) := dk_167 0 6 (dk_at dksX0_extend_0 9 rfl rfl)
theorem dX0_extend_12 : decode cX0_extend 12 = .ok (.astore_n 3, 1) := dk_78 (dk_at dksX0_extend_0 12 rfl rfl)
theorem dX0_extend_13 : decode cX0_extend 13 = .ok (.iconst 1, 1) := dk_4 (dk_at dksX0_extend_0 13 rfl rfl)
theorem dX0_extend_14 : decode cX0_extend 14 = .ok (.ireturn, 1) := dk_172 (dk_at dksX0_extend_0 14 rfl rfl)
theorem dX0_extend_15 : decode cX0_extend 15 = .ok (.iconst 0, 1) := dk_3 (dk_at dksX0_extend_0 15 rfl rfl)
theorem dX0_extend_16 : decode cX0_extend 16 = .ok (.ireturn, 1) := dk_172 (dk_at dksX0_extend_0 16 rfl rfl)
abbrev cX0_count : ByteArray := method_5_code
def yX0_count : MethodName := ⟨RX0, "count", "(LTranslationBureau;I[J)I"⟩
def dkwX0_count_0 : List UInt8 := [44, 3, 42, 27, 182, 0, 18, 133, 80, 167, 0, 6, 78, 4, 172, 3, 172]
abbrev dktX0_count_0 : List UInt8 := dkwX0_count_0 ++ []
theorem dksX0_count_0 : cX0_count.data.toList.drop 0 = dktX0_count_0 := by decide +kernel
theorem dX0_count_0 : decode cX0_count 0 = .ok (.aload_n 2, 1) := dk_44 (dk_at dksX0_count_0 0 rfl rfl)
theorem dX0_count_1 : decode cX0_count 1 = .ok (.iconst 0, 1) := dk_3 (dk_at dksX0_count_0 1 rfl rfl)
theorem dX0_count_2 : decode cX0_count 2 = .ok (.aload_n 0, 1) := dk_42 (dk_at dksX0_count_0 2 rfl rfl)
theorem dX0_count_3 : decode cX0_count 3 = .ok (.iload_n 1, 1) := dk_27 (dk_at dksX0_count_0 3 rfl rfl)
theorem dX0_count_4 : decode cX0_count 4 = .ok (.invokevirtual 18, 3) := dk_182 0 18 (dk_at dksX0_count_0 4 rfl rfl)
theorem dX0_count_7 : decode cX0_count 7 = .ok (.i2l, 1) := dk_133 (dk_at dksX0_count_0 7 rfl rfl)
theorem dX0_count_8 : decode cX0_count 8 = .ok (.lastore, 1) := dk_80 (dk_at dksX0_count_0 8 rfl rfl)
theorem dX0_count_9 : decode cX0_count 9 = .ok (.goto 6, 3) := dk_167 0 6 (dk_at dksX0_count_0 9 rfl rfl)
theorem dX0_count_12 : decode cX0_count 12 = .ok (.astore_n 3, 1) := dk_78 (dk_at dksX0_count_0 12 rfl rfl)
theorem dX0_count_13 : decode cX0_count 13 = .ok (.iconst 1, 1) := dk_4 (dk_at dksX0_count_0 13 rfl rfl)
theorem dX0_count_14 : decode cX0_count 14 = .ok (.ireturn, 1) := dk_172 (dk_at dksX0_count_0 14 rfl rfl)
theorem dX0_count_15 : decode cX0_count 15 = .ok (.iconst 0, 1) := dk_3 (dk_at dksX0_count_0 15 rfl rfl)
theorem dX0_count_16 : decode cX0_count 16 = .ok (.ireturn, 1) := dk_172 (dk_at dksX0_count_0 16 rfl rfl)
abbrev cX0_setting : ByteArray := method_6_code
def yX0_setting : MethodName := ⟨RX0, "setting", "(LTranslationBureau;I[J)I"⟩
def dkwX0_setting_0 : List UInt8 := [44, 3, 42, 27, 182, 0, 21, 133, 80, 167, 0, 6, 78, 4, 172, 3, 172]
abbrev dktX0_setting_0 : List UInt8 := dkwX0_setting_0 ++ []
theorem dksX0_setting_0 : cX0_setting.data.toList.drop 0 = dktX0_setting_0 := by decide +kernel
theorem dX0_setting_0 : decode cX0_setting 0 = .ok (.aload_n 2, 1) := dk_44 (dk_at dksX0_setting_0 0 rfl rfl)
theorem dX0_setting_1 : decode cX0_setting 1 = .ok (.iconst 0, 1) := dk_3 (dk_at dksX0_setting_0 1 rfl rfl)
theorem dX0_setting_2 : decode cX0_setting 2 = .ok (.aload_n 0, 1) := dk_42 (dk_at dksX0_setting_0 2 rfl rfl)
theorem dX0_setting_3 : decode cX0_setting 3 = .ok (.iload_n 1, 1) := dk_27 (dk_at dksX0_setting_0 3 rfl rfl)
theorem dX0_setting_4 : decode cX0_setting 4 = .ok (.invokevirtual 21, 3) := dk_182 0 21 (dk_at dksX0_setting_0 4 rfl rfl)
theorem dX0_setting_7 : decode cX0_setting 7 = .ok (.i2l, 1) := dk_133 (dk_at dksX0_setting_0 7 rfl rfl)
theorem dX0_setting_8 : decode cX0_setting 8 = .ok (.lastore, 1) := dk_80 (dk_at dksX0_setting_0 8 rfl rfl)
theorem dX0_setting_9 : decode cX0_setting 9 = .ok (.goto 6, 3) := dk_167 0 6 (dk_at dksX0_setting_0 9 rfl rfl)
theorem dX0_setting_12 : decode cX0_setting 12 = .ok (.astore_n 3, 1) := dk_78 (dk_at dksX0_setting_0 12 rfl rfl)
theorem dX0_setting_13 : decode cX0_setting 13 = .ok (.iconst 1, 1) := dk_4 (dk_at dksX0_setting_0 13 rfl rfl)
theorem dX0_setting_14 : decode cX0_setting 14 = .ok (.ireturn, 1) := dk_172 (dk_at dksX0_setting_0 14 rfl rfl)
theorem dX0_setting_15 : decode cX0_setting 15 = .ok (.iconst 0, 1) := dk_3 (dk_at dksX0_setting_0 15 rfl rfl)
theorem dX0_setting_16 : decode cX0_setting 16 = .ok (.ireturn, 1) := dk_172 (dk_at dksX0_setting_0 16 rfl rfl)
abbrev cX0_percentage : ByteArray := method_7_code
def yX0_percentage : MethodName := ⟨RX0, "percentage", "(LTranslationBureau;I[J)I"⟩
def dkwX0_percentage_0 : List UInt8 := [44, 3, 42, 27, 182, 0, 24, 133, 80, 167, 0, 6, 78, 4, 172, 3, 172]
abbrev dktX0_percentage_0 : List UInt8 := dkwX0_percentage_0 ++ []
theorem dksX0_percentage_0 : cX0_percentage.data.toList.drop 0 = dktX0_percentage_0 := by decide +kernel
theorem dX0_percentage_0 : decode cX0_percentage 0 = .ok (.aload_n 2, 1) := dk_44 (dk_at dksX0_percentage_0 0 rfl rfl)
theorem dX0_percentage_1 : decode cX0_percentage 1 = .ok (.iconst 0, 1) := dk_3 (dk_at dksX0_percentage_0 1 rfl rfl)
theorem dX0_percentage_2 : decode cX0_percentage 2 = .ok (.aload_n 0, 1) := dk_42 (dk_at dksX0_percentage_0 2 rfl rfl)
theorem dX0_percentage_3 : decode cX0_percentage 3 = .ok (.iload_n 1, 1) := dk_27 (dk_at dksX0_percentage_0 3 rfl rfl)
theorem dX0_percentage_4 : decode cX0_percentage 4 = .ok (.invokevirtual 24, 3) := dk_182 0 24 (dk_at dksX0_percentage_0 4 rfl rfl)
theorem dX0_percentage_7 : decode cX0_percentage 7 = .ok (.i2l, 1) := dk_133 (dk_at dksX0_percentage_0 7 rfl rfl)
theorem dX0_percentage_8 : decode cX0_percentage 8 = .ok (.lastore, 1) := dk_80 (dk_at dksX0_percentage_0 8 rfl rfl)
theorem dX0_percentage_9 : decode cX0_percentage 9 = .ok (.goto 6, 3) := dk_167 0 6 (dk_at dksX0_percentage_0 9 rfl rfl)
theorem dX0_percentage_12 : decode cX0_percentage 12 = .ok (.astore_n 3, 1) := dk_78 (dk_at dksX0_percentage_0 12 rfl rfl)
theorem dX0_percentage_13 : decode cX0_percentage 13 = .ok (.iconst 1, 1) := dk_4 (dk_at dksX0_percentage_0 13 rfl rfl)
theorem dX0_percentage_14 : decode cX0_percentage 14 = .ok (.ireturn, 1) := dk_172 (dk_at dksX0_percentage_0 14 rfl rfl)
theorem dX0_percentage_15 : decode cX0_percentage 15 = .ok (.iconst 0, 1) := dk_3 (dk_at dksX0_percentage_0 15 rfl rfl)
theorem dX0_percentage_16 : decode cX0_percentage 16 = .ok (.ireturn, 1) := dk_172 (dk_at dksX0_percentage_0 16 rfl rfl)
abbrev cX0_find : ByteArray := method_8_code
def yX0_find : MethodName := ⟨RX0, "find", "(LTranslationBureau;I[J)I"⟩
def dkwX0_find_0 : List UInt8 := [44, 3, 42, 27, 182, 0, 29, 133, 80, 167, 0, 6, 78, 4, 172, 3, 172]
abbrev dktX0_find_0 : List UInt8 := dkwX0_find_0 ++ []
theorem dksX0_find_0 : cX0_find.data.toList.drop 0 = dktX0_find_0 := by decide +kernel
theorem dX0_find_0 : decode cX0_find 0 = .ok (.aload_n 2, 1) := dk_44 (dk_at dksX0_find_0 0 rfl rfl)
theorem dX0_find_1 : decode cX0_find 1 = .ok (.iconst 0, 1) := dk_3 (dk_at dksX0_find_0 1 rfl rfl)
theorem dX0_find_2 : decode cX0_find 2 = .ok (.aload_n 0, 1) := dk_42 (dk_at dksX0_find_0 2 rfl rfl)
theorem dX0_find_3 : decode cX0_find 3 = .ok (.iload_n 1, 1) := dk_27 (dk_at dksX0_find_0 3 rfl rfl)
theorem dX0_find_4 : decode cX0_find 4 = .ok (.invokevirtual 29, 3) := dk_182 0 29 (dk_at dksX0_find_0 4 rfl rfl)
theorem dX0_find_7 : decode cX0_find 7 = .ok (.i2l, 1) := dk_133 (dk_at dksX0_find_0 7 rfl rfl)
theorem dX0_find_8 : decode cX0_find 8 = .ok (.lastore, 1) := dk_80 (dk_at dksX0_find_0 8 rfl rfl)
theorem dX0_find_9 : decode cX0_find 9 = .ok (.goto 6, 3) := dk_167 0 6 (dk_at dksX0_find_0 9 rfl rfl)
theorem dX0_find_12 : decode cX0_find 12 = .ok (.astore_n 3, 1) := dk_78 (dk_at dksX0_find_0 12 rfl rfl)
theorem dX0_find_13 : decode cX0_find 13 = .ok (.iconst 1, 1) := dk_4 (dk_at dksX0_find_0 13 rfl rfl)
theorem dX0_find_14 : decode cX0_find 14 = .ok (.ireturn, 1) := dk_172 (dk_at dksX0_find_0 14 rfl rfl)
theorem dX0_find_15 : decode cX0_find 15 = .ok (.iconst 0, 1) := dk_3 (dk_at dksX0_find_0 15 rfl rfl)
theorem dX0_find_16 : decode cX0_find 16 = .ok (.ireturn, 1) := dk_172 (dk_at dksX0_find_0 16 rfl rfl)
abbrev cX0_capacity : ByteArray := method_9_code
def yX0_capacity : MethodName := ⟨RX0, "capacity", "(LTranslationBureau;I[J)I"⟩
def dkwX0_capacity_0 : List UInt8 := [44, 3, 42, 27, 182, 0, 32, 133, 80, 167, 0, 6, 78, 4, 172, 3, 172]
abbrev dktX0_capacity_0 : List UInt8 := dkwX0_capacity_0 ++ []
theorem dksX0_capacity_0 : cX0_capacity.data.toList.drop 0 = dktX0_capacity_0 := by decide +kernel
theorem dX0_capacity_0 : decode cX0_capacity 0 = .ok (.aload_n 2, 1) := dk_44 (dk_at dksX0_capacity_0 0 rfl rfl)
theorem dX0_capacity_1 : decode cX0_capacity 1 = .ok (.iconst 0, 1) := dk_3 (dk_at dksX0_capacity_0 1 rfl rfl)
theorem dX0_capacity_2 : decode cX0_capacity 2 = .ok (.aload_n 0, 1) := dk_42 (dk_at dksX0_capacity_0 2 rfl rfl)
theorem dX0_capacity_3 : decode cX0_capacity 3 = .ok (.iload_n 1, 1) := dk_27 (dk_at dksX0_capacity_0 3 rfl rfl)
theorem dX0_capacity_4 : decode cX0_capacity 4 = .ok (.invokevirtual 32, 3) := dk_182 0 32 (dk_at dksX0_capacity_0 4 rfl rfl)
theorem dX0_capacity_7 : decode cX0_capacity 7 = .ok (.i2l, 1) := dk_133 (dk_at dksX0_capacity_0 7 rfl rfl)
theorem dX0_capacity_8 : decode cX0_capacity 8 = .ok (.lastore, 1) := dk_80 (dk_at dksX0_capacity_0 8 rfl rfl)
theorem dX0_capacity_9 : decode cX0_capacity 9 = .ok (.goto 6, 3) := dk_167 0 6 (dk_at dksX0_capacity_0 9 rfl rfl)
theorem dX0_capacity_12 : decode cX0_capacity 12 = .ok (.astore_n 3, 1) := dk_78 (dk_at dksX0_capacity_0 12 rfl rfl)
theorem dX0_capacity_13 : decode cX0_capacity 13 = .ok (.iconst 1, 1) := dk_4 (dk_at dksX0_capacity_0 13 rfl rfl)
theorem dX0_capacity_14 : decode cX0_capacity 14 = .ok (.ireturn, 1) := dk_172 (dk_at dksX0_capacity_0 14 rfl rfl)
theorem dX0_capacity_15 : decode cX0_capacity 15 = .ok (.iconst 0, 1) := dk_3 (dk_at dksX0_capacity_0 15 rfl rfl)
theorem dX0_capacity_16 : decode cX0_capacity 16 = .ok (.ireturn, 1) := dk_172 (dk_at dksX0_capacity_0 16 rfl rfl)
abbrev cX0_job : ByteArray := method_10_code
def yX0_job : MethodName := ⟨RX0, "job", "(LTranslationBureau;II[J)I"⟩
def dkwX0_job_0 : List UInt8 := [45, 3, 42, 27, 28, 182, 0, 35, 133, 80, 167, 0, 11, 58, 4, 4, 172, 58, 4, 5, 172, 3, 172]
abbrev dktX0_job_0 : List UInt8 := dkwX0_job_0 ++ []
theorem dksX0_job_0 : cX0_job.data.toList.drop 0 = dktX0_job_0 := by decide +kernel
theorem dX0_job_0 : decode cX0_job 0 = .ok (.aload_n 3, 1) := dk_45 (dk_at dksX0_job_0 0 rfl rfl)
theorem dX0_job_1 : decode cX0_job 1 = .ok (.iconst 0, 1) := dk_3 (dk_at dksX0_job_0 1 rfl rfl)
theorem dX0_job_2 : decode cX0_job 2 = .ok (.aload_n 0, 1) := dk_42 (dk_at dksX0_job_0 2 rfl rfl)
theorem dX0_job_3 : decode cX0_job 3 = .ok (.iload_n 1, 1) := dk_27 (dk_at dksX0_job_0 3 rfl rfl)
theorem dX0_job_4 : decode cX0_job 4 = .ok (.iload_n 2, 1) := dk_28 (dk_at dksX0_job_0 4 rfl rfl)
theorem dX0_job_5 : decode cX0_job 5 = .ok (.invokevirtual 35, 3) := dk_182 0 35 (dk_at dksX0_job_0 5 rfl rfl)
theorem dX0_job_8 : decode cX0_job 8 = .ok (.i2l, 1) := dk_133 (dk_at dksX0_job_0 8 rfl rfl)
theorem dX0_job_9 : decode cX0_job 9 = .ok (.lastore, 1) := dk_80 (dk_at dksX0_job_0 9 rfl rfl)
theorem dX0_job_10 : decode cX0_job 10 = .ok (.goto 11, 3) := dk_167 0 11 (dk_at dksX0_job_0 10 rfl rfl)
theorem dX0_job_13 : decode cX0_job 13 = .ok (.astore 4, 2) := dk_58 4 (dk_at dksX0_job_0 13 rfl rfl)
theorem dX0_job_15 : decode cX0_job 15 = .ok (.iconst 1, 1) := dk_4 (dk_at dksX0_job_0 15 rfl rfl)
theorem dX0_job_16 : decode cX0_job 16 = .ok (.ireturn, 1) := dk_172 (dk_at dksX0_job_0 16 rfl rfl)
theorem dX0_job_17 : decode cX0_job 17 = .ok (.astore 4, 2) := dk_58 4 (dk_at dksX0_job_0 17 rfl rfl)
theorem dX0_job_19 : decode cX0_job 19 = .ok (.iconst 2, 1) := dk_5 (dk_at dksX0_job_0 19 rfl rfl)
theorem dX0_job_20 : decode cX0_job 20 = .ok (.ireturn, 1) := dk_172 (dk_at dksX0_job_0 20 rfl rfl)
theorem dX0_job_21 : decode cX0_job 21 = .ok (.iconst 0, 1) := dk_3 (dk_at dksX0_job_0 21 rfl rfl)
theorem dX0_job_22 : decode cX0_job 22 = .ok (.ireturn, 1) := dk_172 (dk_at dksX0_job_0 22 rfl rfl)
abbrev cX0_jobOf : ByteArray := method_11_code
def yX0_jobOf : MethodName := ⟨RX0, "jobOf", "(LTranslationBureau;I[J)I"⟩
def dkwX0_jobOf_0 : List UInt8 := [44, 3, 42, 27, 182, 0, 39, 133, 80, 167, 0, 6, 78, 4, 172, 3, 172]
abbrev dktX0_jobOf_0 : List UInt8 := dkwX0_jobOf_0 ++ []
theorem dksX0_jobOf_0 : cX0_jobOf.data.toList.drop 0 = dktX0_jobOf_0 := by decide +kernel
theorem dX0_jobOf_0 : decode cX0_jobOf 0 = .ok (.aload_n 2, 1) := dk_44 (dk_at dksX0_jobOf_0 0 rfl rfl)
theorem dX0_jobOf_1 : decode cX0_jobOf 1 = .ok (.iconst 0, 1) := dk_3 (dk_at dksX0_jobOf_0 1 rfl rfl)
theorem dX0_jobOf_2 : decode cX0_jobOf 2 = .ok (.aload_n 0, 1) := dk_42 (dk_at dksX0_jobOf_0 2 rfl rfl)
theorem dX0_jobOf_3 : decode cX0_jobOf 3 = .ok (.iload_n 1, 1) := dk_27 (dk_at dksX0_jobOf_0 3 rfl rfl)
theorem dX0_jobOf_4 : decode cX0_jobOf 4 = .ok (.invokevirtual 39, 3) := dk_182 0 39 (dk_at dksX0_jobOf_0 4 rfl rfl)
theorem dX0_jobOf_7 : decode cX0_jobOf 7 = .ok (.i2l, 1) := dk_133 (dk_at dksX0_jobOf_0 7 rfl rfl)
theorem dX0_jobOf_8 : decode cX0_jobOf 8 = .ok (.lastore, 1) := dk_80 (dk_at dksX0_jobOf_0 8 rfl rfl)
theorem dX0_jobOf_9 : decode cX0_jobOf 9 = .ok (.goto 6, 3) := dk_167 0 6 (dk_at dksX0_jobOf_0 9 rfl rfl)
theorem dX0_jobOf_12 : decode cX0_jobOf 12 = .ok (.astore_n 3, 1) := dk_78 (dk_at dksX0_jobOf_0 12 rfl rfl)
theorem dX0_jobOf_13 : decode cX0_jobOf 13 = .ok (.iconst 1, 1) := dk_4 (dk_at dksX0_jobOf_0 13 rfl rfl)
theorem dX0_jobOf_14 : decode cX0_jobOf 14 = .ok (.ireturn, 1) := dk_172 (dk_at dksX0_jobOf_0 14 rfl rfl)
theorem dX0_jobOf_15 : decode cX0_jobOf 15 = .ok (.iconst 0, 1) := dk_3 (dk_at dksX0_jobOf_0 15 rfl rfl)
theorem dX0_jobOf_16 : decode cX0_jobOf 16 = .ok (.ireturn, 1) := dk_172 (dk_at dksX0_jobOf_0 16 rfl rfl)
abbrev cX0_words : ByteArray := method_12_code
def yX0_words : MethodName := ⟨RX0, "words", "(LTranslationBureau;IZ[J)I"⟩
def dkwX0_words_0 : List UInt8 := [45, 3, 42, 27, 28, 182, 0, 42, 133, 80, 167, 0, 7, 58, 4, 4, 172, 3, 172]
abbrev dktX0_words_0 : List UInt8 := dkwX0_words_0 ++ []
theorem dksX0_words_0 : cX0_words.data.toList.drop 0 = dktX0_words_0 := by decide +kernel
theorem dX0_words_0 : decode cX0_words 0 = .ok (.aload_n 3, 1) := dk_45 (dk_at dksX0_words_0 0 rfl rfl)
theorem dX0_words_1 : decode cX0_words 1 = .ok (.iconst 0, 1) := dk_3 (dk_at dksX0_words_0 1 rfl rfl)
theorem dX0_words_2 : decode cX0_words 2 = .ok (.aload_n 0, 1) := dk_42 (dk_at dksX0_words_0 2 rfl rfl)
theorem dX0_words_3 : decode cX0_words 3 = .ok (.iload_n 1, 1) := dk_27 (dk_at dksX0_words_0 3 rfl rfl)
theorem dX0_words_4 : decode cX0_words 4 = .ok (.iload_n 2, 1) := dk_28 (dk_at dksX0_words_0 4 rfl rfl)
theorem dX0_words_5 : decode cX0_words 5 = .ok (.invokevirtual 42, 3) := dk_182 0 42 (dk_at dksX0_words_0 5 rfl rfl)
theorem dX0_words_8 : decode cX0_words 8 = .ok (.i2l, 1) := dk_133 (dk_at dksX0_words_0 8 rfl rfl)
theorem dX0_words_9 : decode cX0_words 9 = .ok (.lastore, 1) := dk_80 (dk_at dksX0_words_0 9 rfl rfl)
theorem dX0_words_10 : decode cX0_words 10 = .ok (.goto 7, 3) := dk_167 0 7 (dk_at dksX0_words_0 10 rfl rfl)
theorem dX0_words_13 : decode cX0_words 13 = .ok (.astore 4, 2) := dk_58 4 (dk_at dksX0_words_0 13 rfl rfl)
theorem dX0_words_15 : decode cX0_words 15 = .ok (.iconst 1, 1) := dk_4 (dk_at dksX0_words_0 15 rfl rfl)
theorem dX0_words_16 : decode cX0_words 16 = .ok (.ireturn, 1) := dk_172 (dk_at dksX0_words_0 16 rfl rfl)
theorem dX0_words_17 : decode cX0_words 17 = .ok (.iconst 0, 1) := dk_3 (dk_at dksX0_words_0 17 rfl rfl)
theorem dX0_words_18 : decode cX0_words 18 = .ok (.ireturn, 1) := dk_172 (dk_at dksX0_words_0 18 rfl rfl)
abbrev cX0_isSameWord : ByteArray := method_13_code
def yX0_isSameWord : MethodName := ⟨RX0, "isSameWord", "(LTranslationBureau;IIZIIZ[J)I"⟩
def dkwX0_isSameWord_1 : List UInt8 := [80, 167, 0, 7, 58, 8, 4, 172, 3, 172]
abbrev dktX0_isSameWord_1 : List UInt8 := dkwX0_isSameWord_1 ++ []
def dkwX0_isSameWord_0 : List UInt8 := [25, 7, 3, 42, 27, 28, 29, 21, 4, 21, 5, 21, 6, 182, 0, 46, 153, 0, 7, 10, 167, 0, 4, 9]
abbrev dktX0_isSameWord_0 : List UInt8 := dkwX0_isSameWord_0 ++ dktX0_isSameWord_1
theorem dksX0_isSameWord_0 : cX0_isSameWord.data.toList.drop 0 = dktX0_isSameWord_0 := by decide +kernel
theorem dksX0_isSameWord_1 : cX0_isSameWord.data.toList.drop 24 = dktX0_isSameWord_1 := dk_seg dksX0_isSameWord_0 24 rfl rfl
theorem dX0_isSameWord_0 : decode cX0_isSameWord 0 = .ok (.aload 7, 2) := dk_25 7 (dk_at dksX0_isSameWord_0 0 rfl rfl)
theorem dX0_isSameWord_2 : decode cX0_isSameWord 2 = .ok (.iconst 0, 1) := dk_3 (dk_at dksX0_isSameWord_0 2 rfl rfl)
theorem dX0_isSameWord_3 : decode cX0_isSameWord 3 = .ok (.aload_n 0, 1) := dk_42 (dk_at dksX0_isSameWord_0 3 rfl rfl)
theorem dX0_isSameWord_4 : decode cX0_isSameWord 4 = .ok (.iload_n 1, 1) := dk_27 (dk_at dksX0_isSameWord_0 4 rfl rfl)
theorem dX0_isSameWord_5 : decode cX0_isSameWord 5 = .ok (.iload_n 2, 1) := dk_28 (dk_at dksX0_isSameWord_0 5 rfl rfl)
theorem dX0_isSameWord_6 : decode cX0_isSameWord 6 = .ok (.iload_n 3, 1) := dk_29 (dk_at dksX0_isSameWord_0 6 rfl rfl)
theorem dX0_isSameWord_7 : decode cX0_isSameWord 7 = .ok (.iload 4, 2) := dk_21 4 (dk_at dksX0_isSameWord_0 7 rfl rfl)
theorem dX0_isSameWord_9 : decode cX0_isSameWord 9 = .ok (.iload 5, 2) := dk_21 5 (dk_at dksX0_isSameWord_0 9 rfl rfl)
theorem dX0_isSameWord_11 : decode cX0_isSameWord 11 = .ok (.iload 6, 2) := dk_21 6 (dk_at dksX0_isSameWord_0 11 rfl rfl)
theorem dX0_isSameWord_13 : decode cX0_isSameWord 13 = .ok (.invokevirtual 46, 3) := dk_182 0 46 (dk_at dksX0_isSameWord_0 13 rfl rfl)
theorem dX0_isSameWord_16 : decode cX0_isSameWord 16 = .ok (.ifCond .eq 7, 3) := dk_153 0 7 (dk_at dksX0_isSameWord_0 16 rfl rfl)
theorem dX0_isSameWord_19 : decode cX0_isSameWord 19 = .ok (.lconst 1, 1) := dk_10 (dk_at dksX0_isSameWord_0 19 rfl rfl)
theorem dX0_isSameWord_20 : decode cX0_isSameWord 20 = .ok (.goto 4, 3) := dk_167 0 4 (dk_at dksX0_isSameWord_0 20 rfl rfl)
theorem dX0_isSameWord_23 : decode cX0_isSameWord 23 = .ok (.lconst 0, 1) := dk_9 (dk_at dksX0_isSameWord_0 23 rfl rfl)
theorem dX0_isSameWord_24 : decode cX0_isSameWord 24 = .ok (.lastore, 1) := dk_80 (dk_at dksX0_isSameWord_1 0 rfl rfl)
theorem dX0_isSameWord_25 : decode cX0_isSameWord 25 = .ok (.goto 7, 3) := dk_167 0 7 (dk_at dksX0_isSameWord_1 1 rfl rfl)
theorem dX0_isSameWord_28 : decode cX0_isSameWord 28 = .ok (.astore 8, 2) := dk_58 8 (dk_at dksX0_isSameWord_1 4 rfl rfl)
theorem dX0_isSameWord_30 : decode cX0_isSameWord 30 = .ok (.iconst 1, 1) := dk_4 (dk_at dksX0_isSameWord_1 6 rfl rfl)
theorem dX0_isSameWord_31 : decode cX0_isSameWord 31 = .ok (.ireturn, 1) := dk_172 (dk_at dksX0_isSameWord_1 7 rfl rfl)
theorem dX0_isSameWord_32 : decode cX0_isSameWord 32 = .ok (.iconst 0, 1) := dk_3 (dk_at dksX0_isSameWord_1 8 rfl rfl)
theorem dX0_isSameWord_33 : decode cX0_isSameWord 33 = .ok (.ireturn, 1) := dk_172 (dk_at dksX0_isSameWord_1 9 rfl rfl)
abbrev cX0_distance : ByteArray := method_14_code
def yX0_distance : MethodName := ⟨RX0, "distance", "(LTranslationBureau;II[J)I"⟩
def dkwX0_distance_0 : List UInt8 := [45, 3, 42, 27, 28, 182, 0, 50, 133, 80, 167, 0, 7, 58, 4, 4, 172, 3, 172]
abbrev dktX0_distance_0 : List UInt8 := dkwX0_distance_0 ++ []
theorem dksX0_distance_0 : cX0_distance.data.toList.drop 0 = dktX0_distance_0 := by decide +kernel
theorem dX0_distance_0 : decode cX0_distance 0 = .ok (.aload_n 3, 1) := dk_45 (dk_at dksX0_distance_0 0 rfl rfl)
theorem dX0_distance_1 : decode cX0_distance 1 = .ok (.iconst 0, 1) := dk_3 (dk_at dksX0_distance_0 1 rfl rfl)
theorem dX0_distance_2 : decode cX0_distance 2 = .ok (.aload_n 0, 1) := dk_42 (dk_at dksX0_distance_0 2 rfl rfl)
theorem dX0_distance_3 : decode cX0_distance 3 = .ok (.iload_n 1, 1) := dk_27 (dk_at dksX0_distance_0 3 rfl rfl)
theorem dX0_distance_4 : decode cX0_distance 4 = .ok (.iload_n 2, 1) := dk_28 (dk_at dksX0_distance_0 4 rfl rfl)
theorem dX0_distance_5 : decode cX0_distance 5 = .ok (.invokevirtual 50, 3) := dk_182 0 50 (dk_at dksX0_distance_0 5 rfl rfl)
theorem dX0_distance_8 : decode cX0_distance 8 = .ok (.i2l, 1) := dk_133 (dk_at dksX0_distance_0 8 rfl rfl)
theorem dX0_distance_9 : decode cX0_distance 9 = .ok (.lastore, 1) := dk_80 (dk_at dksX0_distance_0 9 rfl rfl)
theorem dX0_distance_10 : decode cX0_distance 10 = .ok (.goto 7, 3) := dk_167 0 7 (dk_at dksX0_distance_0 10 rfl rfl)
theorem dX0_distance_13 : decode cX0_distance 13 = .ok (.astore 4, 2) := dk_58 4 (dk_at dksX0_distance_0 13 rfl rfl)
theorem dX0_distance_15 : decode cX0_distance 15 = .ok (.iconst 1, 1) := dk_4 (dk_at dksX0_distance_0 15 rfl rfl)
theorem dX0_distance_16 : decode cX0_distance 16 = .ok (.ireturn, 1) := dk_172 (dk_at dksX0_distance_0 16 rfl rfl)
theorem dX0_distance_17 : decode cX0_distance 17 = .ok (.iconst 0, 1) := dk_3 (dk_at dksX0_distance_0 17 rfl rfl)
theorem dX0_distance_18 : decode cX0_distance 18 = .ok (.ireturn, 1) := dk_172 (dk_at dksX0_distance_0 18 rfl rfl)
abbrev cX0_similarity : ByteArray := method_15_code
def yX0_similarity : MethodName := ⟨RX0, "similarity", "(LTranslationBureau;II[J)I"⟩
def dkwX0_similarity_0 : List UInt8 := [45, 3, 42, 27, 28, 182, 0, 53, 133, 80, 167, 0, 7, 58, 4, 4, 172, 3, 172]
abbrev dktX0_similarity_0 : List UInt8 := dkwX0_similarity_0 ++ []
theorem dksX0_similarity_0 : cX0_similarity.data.toList.drop 0 = dktX0_similarity_0 := by decide +kernel
theorem dX0_similarity_0 : decode cX0_similarity 0 = .ok (.aload_n 3, 1) := dk_45 (dk_at dksX0_similarity_0 0 rfl rfl)
theorem dX0_similarity_1 : decode cX0_similarity 1 = .ok (.iconst 0, 1) := dk_3 (dk_at dksX0_similarity_0 1 rfl rfl)
theorem dX0_similarity_2 : decode cX0_similarity 2 = .ok (.aload_n 0, 1) := dk_42 (dk_at dksX0_similarity_0 2 rfl rfl)
theorem dX0_similarity_3 : decode cX0_similarity 3 = .ok (.iload_n 1, 1) := dk_27 (dk_at dksX0_similarity_0 3 rfl rfl)
theorem dX0_similarity_4 : decode cX0_similarity 4 = .ok (.iload_n 2, 1) := dk_28 (dk_at dksX0_similarity_0 4 rfl rfl)
theorem dX0_similarity_5 : decode cX0_similarity 5 = .ok (.invokevirtual 53, 3) := dk_182 0 53 (dk_at dksX0_similarity_0 5 rfl rfl)
theorem dX0_similarity_8 : decode cX0_similarity 8 = .ok (.i2l, 1) := dk_133 (dk_at dksX0_similarity_0 8 rfl rfl)
theorem dX0_similarity_9 : decode cX0_similarity 9 = .ok (.lastore, 1) := dk_80 (dk_at dksX0_similarity_0 9 rfl rfl)
theorem dX0_similarity_10 : decode cX0_similarity 10 = .ok (.goto 7, 3) := dk_167 0 7 (dk_at dksX0_similarity_0 10 rfl rfl)
theorem dX0_similarity_13 : decode cX0_similarity 13 = .ok (.astore 4, 2) := dk_58 4 (dk_at dksX0_similarity_0 13 rfl rfl)
theorem dX0_similarity_15 : decode cX0_similarity 15 = .ok (.iconst 1, 1) := dk_4 (dk_at dksX0_similarity_0 15 rfl rfl)
theorem dX0_similarity_16 : decode cX0_similarity 16 = .ok (.ireturn, 1) := dk_172 (dk_at dksX0_similarity_0 16 rfl rfl)
theorem dX0_similarity_17 : decode cX0_similarity 17 = .ok (.iconst 0, 1) := dk_3 (dk_at dksX0_similarity_0 17 rfl rfl)
theorem dX0_similarity_18 : decode cX0_similarity 18 = .ok (.ireturn, 1) := dk_172 (dk_at dksX0_similarity_0 18 rfl rfl)
abbrev cX0_match : ByteArray := method_16_code
def yX0_match : MethodName := ⟨RX0, "match", "(LTranslationBureau;I[J)I"⟩
def dkwX0_match_0 : List UInt8 := [44, 3, 42, 27, 182, 0, 56, 133, 80, 167, 0, 6, 78, 4, 172, 3, 172]
abbrev dktX0_match_0 : List UInt8 := dkwX0_match_0 ++ []
theorem dksX0_match_0 : cX0_match.data.toList.drop 0 = dktX0_match_0 := by decide +kernel
theorem dX0_match_0 : decode cX0_match 0 = .ok (.aload_n 2, 1) := dk_44 (dk_at dksX0_match_0 0 rfl rfl)
theorem dX0_match_1 : decode cX0_match 1 = .ok (.iconst 0, 1) := dk_3 (dk_at dksX0_match_0 1 rfl rfl)
theorem dX0_match_2 : decode cX0_match 2 = .ok (.aload_n 0, 1) := dk_42 (dk_at dksX0_match_0 2 rfl rfl)
theorem dX0_match_3 : decode cX0_match 3 = .ok (.iload_n 1, 1) := dk_27 (dk_at dksX0_match_0 3 rfl rfl)
theorem dX0_match_4 : decode cX0_match 4 = .ok (.invokevirtual 56, 3) := dk_182 0 56 (dk_at dksX0_match_0 4 rfl rfl)
theorem dX0_match_7 : decode cX0_match 7 = .ok (.i2l, 1) := dk_133 (dk_at dksX0_match_0 7 rfl rfl)
theorem dX0_match_8 : decode cX0_match 8 = .ok (.lastore, 1) := dk_80 (dk_at dksX0_match_0 8 rfl rfl)
theorem dX0_match_9 : decode cX0_match 9 = .ok (.goto 6, 3) := dk_167 0 6 (dk_at dksX0_match_0 9 rfl rfl)
theorem dX0_match_12 : decode cX0_match 12 = .ok (.astore_n 3, 1) := dk_78 (dk_at dksX0_match_0 12 rfl rfl)
theorem dX0_match_13 : decode cX0_match 13 = .ok (.iconst 1, 1) := dk_4 (dk_at dksX0_match_0 13 rfl rfl)
theorem dX0_match_14 : decode cX0_match 14 = .ok (.ireturn, 1) := dk_172 (dk_at dksX0_match_0 14 rfl rfl)
theorem dX0_match_15 : decode cX0_match 15 = .ok (.iconst 0, 1) := dk_3 (dk_at dksX0_match_0 15 rfl rfl)
theorem dX0_match_16 : decode cX0_match 16 = .ok (.ireturn, 1) := dk_172 (dk_at dksX0_match_0 16 rfl rfl)
abbrev cX0_model : ByteArray := method_17_code
def yX0_model : MethodName := ⟨RX0, "model", "(LTranslationBureau;I[J)I"⟩
def dkwX0_model_0 : List UInt8 := [44, 3, 42, 27, 182, 0, 59, 133, 80, 167, 0, 9, 78, 4, 172, 78, 5, 172, 3, 172]
abbrev dktX0_model_0 : List UInt8 := dkwX0_model_0 ++ []
theorem dksX0_model_0 : cX0_model.data.toList.drop 0 = dktX0_model_0 := by decide +kernel
theorem dX0_model_0 : decode cX0_model 0 = .ok (.aload_n 2, 1) := dk_44 (dk_at dksX0_model_0 0 rfl rfl)
theorem dX0_model_1 : decode cX0_model 1 = .ok (.iconst 0, 1) := dk_3 (dk_at dksX0_model_0 1 rfl rfl)
theorem dX0_model_2 : decode cX0_model 2 = .ok (.aload_n 0, 1) := dk_42 (dk_at dksX0_model_0 2 rfl rfl)
theorem dX0_model_3 : decode cX0_model 3 = .ok (.iload_n 1, 1) := dk_27 (dk_at dksX0_model_0 3 rfl rfl)
theorem dX0_model_4 : decode cX0_model 4 = .ok (.invokevirtual 59, 3) := dk_182 0 59 (dk_at dksX0_model_0 4 rfl rfl)
theorem dX0_model_7 : decode cX0_model 7 = .ok (.i2l, 1) := dk_133 (dk_at dksX0_model_0 7 rfl rfl)
theorem dX0_model_8 : decode cX0_model 8 = .ok (.lastore, 1) := dk_80 (dk_at dksX0_model_0 8 rfl rfl)
theorem dX0_model_9 : decode cX0_model 9 = .ok (.goto 9, 3) := dk_167 0 9 (dk_at dksX0_model_0 9 rfl rfl)
theorem dX0_model_12 : decode cX0_model 12 = .ok (.astore_n 3, 1) := dk_78 (dk_at dksX0_model_0 12 rfl rfl)
theorem dX0_model_13 : decode cX0_model 13 = .ok (.iconst 1, 1) := dk_4 (dk_at dksX0_model_0 13 rfl rfl)
theorem dX0_model_14 : decode cX0_model 14 = .ok (.ireturn, 1) := dk_172 (dk_at dksX0_model_0 14 rfl rfl)
theorem dX0_model_15 : decode cX0_model 15 = .ok (.astore_n 3, 1) := dk_78 (dk_at dksX0_model_0 15 rfl rfl)
theorem dX0_model_16 : decode cX0_model 16 = .ok (.iconst 2, 1) := dk_5 (dk_at dksX0_model_0 16 rfl rfl)
theorem dX0_model_17 : decode cX0_model 17 = .ok (.ireturn, 1) := dk_172 (dk_at dksX0_model_0 17 rfl rfl)
theorem dX0_model_18 : decode cX0_model 18 = .ok (.iconst 0, 1) := dk_3 (dk_at dksX0_model_0 18 rfl rfl)
theorem dX0_model_19 : decode cX0_model 19 = .ok (.ireturn, 1) := dk_172 (dk_at dksX0_model_0 19 rfl rfl)
abbrev cX0_band : ByteArray := method_18_code
def yX0_band : MethodName := ⟨RX0, "band", "(LTranslationBureau;I[J)I"⟩
def dkwX0_band_0 : List UInt8 := [44, 3, 42, 27, 182, 0, 64, 133, 80, 167, 0, 6, 78, 4, 172, 3, 172]
abbrev dktX0_band_0 : List UInt8 := dkwX0_band_0 ++ []
theorem dksX0_band_0 : cX0_band.data.toList.drop 0 = dktX0_band_0 := by decide +kernel
theorem dX0_band_0 : decode cX0_band 0 = .ok (.aload_n 2, 1) := dk_44 (dk_at dksX0_band_0 0 rfl rfl)
theorem dX0_band_1 : decode cX0_band 1 = .ok (.iconst 0, 1) := dk_3 (dk_at dksX0_band_0 1 rfl rfl)
theorem dX0_band_2 : decode cX0_band 2 = .ok (.aload_n 0, 1) := dk_42 (dk_at dksX0_band_0 2 rfl rfl)
theorem dX0_band_3 : decode cX0_band 3 = .ok (.iload_n 1, 1) := dk_27 (dk_at dksX0_band_0 3 rfl rfl)
theorem dX0_band_4 : decode cX0_band 4 = .ok (.invokevirtual 64, 3) := dk_182 0 64 (dk_at dksX0_band_0 4 rfl rfl)
theorem dX0_band_7 : decode cX0_band 7 = .ok (.i2l, 1) := dk_133 (dk_at dksX0_band_0 7 rfl rfl)
theorem dX0_band_8 : decode cX0_band 8 = .ok (.lastore, 1) := dk_80 (dk_at dksX0_band_0 8 rfl rfl)
theorem dX0_band_9 : decode cX0_band 9 = .ok (.goto 6, 3) := dk_167 0 6 (dk_at dksX0_band_0 9 rfl rfl)
theorem dX0_band_12 : decode cX0_band 12 = .ok (.astore_n 3, 1) := dk_78 (dk_at dksX0_band_0 12 rfl rfl)
theorem dX0_band_13 : decode cX0_band 13 = .ok (.iconst 1, 1) := dk_4 (dk_at dksX0_band_0 13 rfl rfl)
theorem dX0_band_14 : decode cX0_band 14 = .ok (.ireturn, 1) := dk_172 (dk_at dksX0_band_0 14 rfl rfl)
theorem dX0_band_15 : decode cX0_band 15 = .ok (.iconst 0, 1) := dk_3 (dk_at dksX0_band_0 15 rfl rfl)
theorem dX0_band_16 : decode cX0_band 16 = .ok (.ireturn, 1) := dk_172 (dk_at dksX0_band_0 16 rfl rfl)
abbrev cX0_bandWords : ByteArray := method_19_code
def yX0_bandWords : MethodName := ⟨RX0, "bandWords", "(LTranslationBureau;II[J)I"⟩
def dkwX0_bandWords_0 : List UInt8 := [45, 3, 42, 27, 28, 182, 0, 67, 133, 80, 167, 0, 7, 58, 4, 4, 172, 3, 172]
abbrev dktX0_bandWords_0 : List UInt8 := dkwX0_bandWords_0 ++ []
theorem dksX0_bandWords_0 : cX0_bandWords.data.toList.drop 0 = dktX0_bandWords_0 := by decide +kernel
theorem dX0_bandWords_0 : decode cX0_bandWords 0 = .ok (.aload_n 3, 1) := dk_45 (dk_at dksX0_bandWords_0 0 rfl rfl)
theorem dX0_bandWords_1 : decode cX0_bandWords 1 = .ok (.iconst 0, 1) := dk_3 (dk_at dksX0_bandWords_0 1 rfl rfl)
theorem dX0_bandWords_2 : decode cX0_bandWords 2 = .ok (.aload_n 0, 1) := dk_42 (dk_at dksX0_bandWords_0 2 rfl rfl)
theorem dX0_bandWords_3 : decode cX0_bandWords 3 = .ok (.iload_n 1, 1) := dk_27 (dk_at dksX0_bandWords_0 3 rfl rfl)
theorem dX0_bandWords_4 : decode cX0_bandWords 4 = .ok (.iload_n 2, 1) := dk_28 (dk_at dksX0_bandWords_0 4 rfl rfl)
theorem dX0_bandWords_5 : decode cX0_bandWords 5 = .ok (.invokevirtual 67, 3) := dk_182 0 67 (dk_at dksX0_bandWords_0 5 rfl rfl)
theorem dX0_bandWords_8 : decode cX0_bandWords 8 = .ok (.i2l, 1) := dk_133 (dk_at dksX0_bandWords_0 8 rfl rfl)
theorem dX0_bandWords_9 : decode cX0_bandWords 9 = .ok (.lastore, 1) := dk_80 (dk_at dksX0_bandWords_0 9 rfl rfl)
theorem dX0_bandWords_10 : decode cX0_bandWords 10 = .ok (.goto 7, 3) := dk_167 0 7 (dk_at dksX0_bandWords_0 10 rfl rfl)
theorem dX0_bandWords_13 : decode cX0_bandWords 13 = .ok (.astore 4, 2) := dk_58 4 (dk_at dksX0_bandWords_0 13 rfl rfl)
theorem dX0_bandWords_15 : decode cX0_bandWords 15 = .ok (.iconst 1, 1) := dk_4 (dk_at dksX0_bandWords_0 15 rfl rfl)
theorem dX0_bandWords_16 : decode cX0_bandWords 16 = .ok (.ireturn, 1) := dk_172 (dk_at dksX0_bandWords_0 16 rfl rfl)
theorem dX0_bandWords_17 : decode cX0_bandWords 17 = .ok (.iconst 0, 1) := dk_3 (dk_at dksX0_bandWords_0 17 rfl rfl)
theorem dX0_bandWords_18 : decode cX0_bandWords 18 = .ok (.ireturn, 1) := dk_172 (dk_at dksX0_bandWords_0 18 rfl rfl)
abbrev cX0_repetitions : ByteArray := method_20_code
def yX0_repetitions : MethodName := ⟨RX0, "repetitions", "(LTranslationBureau;I[J)I"⟩
def dkwX0_repetitions_0 : List UInt8 := [44, 3, 42, 27, 182, 0, 70, 133, 80, 167, 0, 6, 78, 4, 172, 3, 172]
abbrev dktX0_repetitions_0 : List UInt8 := dkwX0_repetitions_0 ++ []
theorem dksX0_repetitions_0 : cX0_repetitions.data.toList.drop 0 = dktX0_repetitions_0 := by decide +kernel
theorem dX0_repetitions_0 : decode cX0_repetitions 0 = .ok (.aload_n 2, 1) := dk_44 (dk_at dksX0_repetitions_0 0 rfl rfl)
theorem dX0_repetitions_1 : decode cX0_repetitions 1 = .ok (.iconst 0, 1) := dk_3 (dk_at dksX0_repetitions_0 1 rfl rfl)
theorem dX0_repetitions_2 : decode cX0_repetitions 2 = .ok (.aload_n 0, 1) := dk_42 (dk_at dksX0_repetitions_0 2 rfl rfl)
theorem dX0_repetitions_3 : decode cX0_repetitions 3 = .ok (.iload_n 1, 1) := dk_27 (dk_at dksX0_repetitions_0 3 rfl rfl)
theorem dX0_repetitions_4 : decode cX0_repetitions 4 = .ok (.invokevirtual 70, 3) := dk_182 0 70 (dk_at dksX0_repetitions_0 4 rfl rfl)
theorem dX0_repetitions_7 : decode cX0_repetitions 7 = .ok (.i2l, 1) := dk_133 (dk_at dksX0_repetitions_0 7 rfl rfl)
theorem dX0_repetitions_8 : decode cX0_repetitions 8 = .ok (.lastore, 1) := dk_80 (dk_at dksX0_repetitions_0 8 rfl rfl)
theorem dX0_repetitions_9 : decode cX0_repetitions 9 = .ok (.goto 6, 3) := dk_167 0 6 (dk_at dksX0_repetitions_0 9 rfl rfl)
theorem dX0_repetitions_12 : decode cX0_repetitions 12 = .ok (.astore_n 3, 1) := dk_78 (dk_at dksX0_repetitions_0 12 rfl rfl)
theorem dX0_repetitions_13 : decode cX0_repetitions 13 = .ok (.iconst 1, 1) := dk_4 (dk_at dksX0_repetitions_0 13 rfl rfl)
theorem dX0_repetitions_14 : decode cX0_repetitions 14 = .ok (.ireturn, 1) := dk_172 (dk_at dksX0_repetitions_0 14 rfl rfl)
theorem dX0_repetitions_15 : decode cX0_repetitions 15 = .ok (.iconst 0, 1) := dk_3 (dk_at dksX0_repetitions_0 15 rfl rfl)
theorem dX0_repetitions_16 : decode cX0_repetitions 16 = .ok (.ireturn, 1) := dk_172 (dk_at dksX0_repetitions_0 16 rfl rfl)
abbrev cX0_account : ByteArray := method_21_code
def yX0_account : MethodName := ⟨RX0, "account", "(LTranslationBureau;II[J)I"⟩
def dkwX0_account_0 : List UInt8 := [45, 3, 42, 27, 28, 182, 0, 73, 133, 80, 167, 0, 11, 58, 4, 4, 172, 58, 4, 5, 172, 3, 172]
abbrev dktX0_account_0 : List UInt8 := dkwX0_account_0 ++ []
theorem dksX0_account_0 : cX0_account.data.toList.drop 0 = dktX0_account_0 := by decide +kernel
theorem dX0_account_0 : decode cX0_account 0 = .ok (.aload_n 3, 1) := dk_45 (dk_at dksX0_account_0 0 rfl rfl)
theorem dX0_account_1 : decode cX0_account 1 = .ok (.iconst 0, 1) := dk_3 (dk_at dksX0_account_0 1 rfl rfl)
theorem dX0_account_2 : decode cX0_account 2 = .ok (.aload_n 0, 1) := dk_42 (dk_at dksX0_account_0 2 rfl rfl)
theorem dX0_account_3 : decode cX0_account 3 = .ok (.iload_n 1, 1) := dk_27 (dk_at dksX0_account_0 3 rfl rfl)
theorem dX0_account_4 : decode cX0_account 4 = .ok (.iload_n 2, 1) := dk_28 (dk_at dksX0_account_0 4 rfl rfl)
theorem dX0_account_5 : decode cX0_account 5 = .ok (.invokevirtual 73, 3) := dk_182 0 73 (dk_at dksX0_account_0 5 rfl rfl)
theorem dX0_account_8 : decode cX0_account 8 = .ok (.i2l, 1) := dk_133 (dk_at dksX0_account_0 8 rfl rfl)
theorem dX0_account_9 : decode cX0_account 9 = .ok (.lastore, 1) := dk_80 (dk_at dksX0_account_0 9 rfl rfl)
theorem dX0_account_10 : decode cX0_account 10 = .ok (.goto 11, 3) := dk_167 0 11 (dk_at dksX0_account_0 10 rfl rfl)
theorem dX0_account_13 : decode cX0_account 13 = .ok (.astore 4, 2) := dk_58 4 (dk_at dksX0_account_0 13 rfl rfl)
theorem dX0_account_15 : decode cX0_account 15 = .ok (.iconst 1, 1) := dk_4 (dk_at dksX0_account_0 15 rfl rfl)
theorem dX0_account_16 : decode cX0_account 16 = .ok (.ireturn, 1) := dk_172 (dk_at dksX0_account_0 16 rfl rfl)
theorem dX0_account_17 : decode cX0_account 17 = .ok (.astore 4, 2) := dk_58 4 (dk_at dksX0_account_0 17 rfl rfl)
theorem dX0_account_19 : decode cX0_account 19 = .ok (.iconst 2, 1) := dk_5 (dk_at dksX0_account_0 19 rfl rfl)
theorem dX0_account_20 : decode cX0_account 20 = .ok (.ireturn, 1) := dk_172 (dk_at dksX0_account_0 20 rfl rfl)
theorem dX0_account_21 : decode cX0_account 21 = .ok (.iconst 0, 1) := dk_3 (dk_at dksX0_account_0 21 rfl rfl)
theorem dX0_account_22 : decode cX0_account 22 = .ok (.ireturn, 1) := dk_172 (dk_at dksX0_account_0 22 rfl rfl)
abbrev cX0_earned : ByteArray := method_22_code
def yX0_earned : MethodName := ⟨RX0, "earned", "(LTranslationBureau;I[J)I"⟩
def dkwX0_earned_0 : List UInt8 := [44, 3, 42, 27, 182, 0, 76, 133, 80, 167, 0, 6, 78, 4, 172, 3, 172]
abbrev dktX0_earned_0 : List UInt8 := dkwX0_earned_0 ++ []
theorem dksX0_earned_0 : cX0_earned.data.toList.drop 0 = dktX0_earned_0 := by decide +kernel
theorem dX0_earned_0 : decode cX0_earned 0 = .ok (.aload_n 2, 1) := dk_44 (dk_at dksX0_earned_0 0 rfl rfl)
theorem dX0_earned_1 : decode cX0_earned 1 = .ok (.iconst 0, 1) := dk_3 (dk_at dksX0_earned_0 1 rfl rfl)
theorem dX0_earned_2 : decode cX0_earned 2 = .ok (.aload_n 0, 1) := dk_42 (dk_at dksX0_earned_0 2 rfl rfl)
theorem dX0_earned_3 : decode cX0_earned 3 = .ok (.iload_n 1, 1) := dk_27 (dk_at dksX0_earned_0 3 rfl rfl)
theorem dX0_earned_4 : decode cX0_earned 4 = .ok (.invokevirtual 76, 3) := dk_182 0 76 (dk_at dksX0_earned_0 4 rfl rfl)
theorem dX0_earned_7 : decode cX0_earned 7 = .ok (.i2l, 1) := dk_133 (dk_at dksX0_earned_0 7 rfl rfl)
theorem dX0_earned_8 : decode cX0_earned 8 = .ok (.lastore, 1) := dk_80 (dk_at dksX0_earned_0 8 rfl rfl)
theorem dX0_earned_9 : decode cX0_earned 9 = .ok (.goto 6, 3) := dk_167 0 6 (dk_at dksX0_earned_0 9 rfl rfl)
theorem dX0_earned_12 : decode cX0_earned 12 = .ok (.astore_n 3, 1) := dk_78 (dk_at dksX0_earned_0 12 rfl rfl)
theorem dX0_earned_13 : decode cX0_earned 13 = .ok (.iconst 1, 1) := dk_4 (dk_at dksX0_earned_0 13 rfl rfl)
theorem dX0_earned_14 : decode cX0_earned 14 = .ok (.ireturn, 1) := dk_172 (dk_at dksX0_earned_0 14 rfl rfl)
theorem dX0_earned_15 : decode cX0_earned 15 = .ok (.iconst 0, 1) := dk_3 (dk_at dksX0_earned_0 15 rfl rfl)
theorem dX0_earned_16 : decode cX0_earned 16 = .ok (.ireturn, 1) := dk_172 (dk_at dksX0_earned_0 16 rfl rfl)
abbrev cX0_perWord : ByteArray := method_23_code
def yX0_perWord : MethodName := ⟨RX0, "perWord", "(LTranslationBureau;I[D)I"⟩
def dkwX0_perWord_0 : List UInt8 := [44, 3, 42, 27, 182, 0, 79, 82, 167, 0, 6, 78, 4, 172, 3, 172]
abbrev dktX0_perWord_0 : List UInt8 := dkwX0_perWord_0 ++ []
theorem dksX0_perWord_0 : cX0_perWord.data.toList.drop 0 = dktX0_perWord_0 := by decide +kernel
theorem dX0_perWord_0 : decode cX0_perWord 0 = .ok (.aload_n 2, 1) := dk_44 (dk_at dksX0_perWord_0 0 rfl rfl)
theorem dX0_perWord_1 : decode cX0_perWord 1 = .ok (.iconst 0, 1) := dk_3 (dk_at dksX0_perWord_0 1 rfl rfl)
theorem dX0_perWord_2 : decode cX0_perWord 2 = .ok (.aload_n 0, 1) := dk_42 (dk_at dksX0_perWord_0 2 rfl rfl)
theorem dX0_perWord_3 : decode cX0_perWord 3 = .ok (.iload_n 1, 1) := dk_27 (dk_at dksX0_perWord_0 3 rfl rfl)
theorem dX0_perWord_4 : decode cX0_perWord 4 = .ok (.invokevirtual 79, 3) := dk_182 0 79 (dk_at dksX0_perWord_0 4 rfl rfl)
theorem dX0_perWord_7 : decode cX0_perWord 7 = .ok (.dastore, 1) := dk_82 (dk_at dksX0_perWord_0 7 rfl rfl)
theorem dX0_perWord_8 : decode cX0_perWord 8 = .ok (.goto 6, 3) := dk_167 0 6 (dk_at dksX0_perWord_0 8 rfl rfl)
theorem dX0_perWord_11 : decode cX0_perWord 11 = .ok (.astore_n 3, 1) := dk_78 (dk_at dksX0_perWord_0 11 rfl rfl)
theorem dX0_perWord_12 : decode cX0_perWord 12 = .ok (.iconst 1, 1) := dk_4 (dk_at dksX0_perWord_0 12 rfl rfl)
theorem dX0_perWord_13 : decode cX0_perWord 13 = .ok (.ireturn, 1) := dk_172 (dk_at dksX0_perWord_0 13 rfl rfl)
theorem dX0_perWord_14 : decode cX0_perWord 14 = .ok (.iconst 0, 1) := dk_3 (dk_at dksX0_perWord_0 14 rfl rfl)
theorem dX0_perWord_15 : decode cX0_perWord 15 = .ok (.ireturn, 1) := dk_172 (dk_at dksX0_perWord_0 15 rfl rfl)
abbrev cX0_loadOf : ByteArray := method_24_code
def yX0_loadOf : MethodName := ⟨RX0, "loadOf", "(LTranslationBureau;I[J)I"⟩
def dkwX0_loadOf_0 : List UInt8 := [44, 3, 42, 27, 182, 0, 83, 133, 80, 167, 0, 6, 78, 4, 172, 3, 172]
abbrev dktX0_loadOf_0 : List UInt8 := dkwX0_loadOf_0 ++ []
theorem dksX0_loadOf_0 : cX0_loadOf.data.toList.drop 0 = dktX0_loadOf_0 := by decide +kernel
theorem dX0_loadOf_0 : decode cX0_loadOf 0 = .ok (.aload_n 2, 1) := dk_44 (dk_at dksX0_loadOf_0 0 rfl rfl)
theorem dX0_loadOf_1 : decode cX0_loadOf 1 = .ok (.iconst 0, 1) := dk_3 (dk_at dksX0_loadOf_0 1 rfl rfl)
theorem dX0_loadOf_2 : decode cX0_loadOf 2 = .ok (.aload_n 0, 1) := dk_42 (dk_at dksX0_loadOf_0 2 rfl rfl)
theorem dX0_loadOf_3 : decode cX0_loadOf 3 = .ok (.iload_n 1, 1) := dk_27 (dk_at dksX0_loadOf_0 3 rfl rfl)
theorem dX0_loadOf_4 : decode cX0_loadOf 4 = .ok (.invokevirtual 83, 3) := dk_182 0 83 (dk_at dksX0_loadOf_0 4 rfl rfl)
theorem dX0_loadOf_7 : decode cX0_loadOf 7 = .ok (.i2l, 1) := dk_133 (dk_at dksX0_loadOf_0 7 rfl rfl)
theorem dX0_loadOf_8 : decode cX0_loadOf 8 = .ok (.lastore, 1) := dk_80 (dk_at dksX0_loadOf_0 8 rfl rfl)
theorem dX0_loadOf_9 : decode cX0_loadOf 9 = .ok (.goto 6, 3) := dk_167 0 6 (dk_at dksX0_loadOf_0 9 rfl rfl)
theorem dX0_loadOf_12 : decode cX0_loadOf 12 = .ok (.astore_n 3, 1) := dk_78 (dk_at dksX0_loadOf_0 12 rfl rfl)
theorem dX0_loadOf_13 : decode cX0_loadOf 13 = .ok (.iconst 1, 1) := dk_4 (dk_at dksX0_loadOf_0 13 rfl rfl)
theorem dX0_loadOf_14 : decode cX0_loadOf 14 = .ok (.ireturn, 1) := dk_172 (dk_at dksX0_loadOf_0 14 rfl rfl)
theorem dX0_loadOf_15 : decode cX0_loadOf 15 = .ok (.iconst 0, 1) := dk_3 (dk_at dksX0_loadOf_0 15 rfl rfl)
theorem dX0_loadOf_16 : decode cX0_loadOf 16 = .ok (.ireturn, 1) := dk_172 (dk_at dksX0_loadOf_0 16 rfl rfl)
abbrev cX0_isOverloaded : ByteArray := method_25_code
def yX0_isOverloaded : MethodName := ⟨RX0, "isOverloaded", "(LTranslationBureau;I[J)I"⟩
def dkwX0_isOverloaded_0 : List UInt8 := [44, 3, 42, 27, 182, 0, 86, 153, 0, 7, 10, 167, 0, 4, 9, 80, 167, 0, 6, 78, 4, 172, 3, 172]
abbrev dktX0_isOverloaded_0 : List UInt8 := dkwX0_isOverloaded_0 ++ []
theorem dksX0_isOverloaded_0 : cX0_isOverloaded.data.toList.drop 0 = dktX0_isOverloaded_0 := by decide +kernel
theorem dX0_isOverloaded_0 : decode cX0_isOverloaded 0 = .ok (.aload_n 2, 1) := dk_44 (dk_at dksX0_isOverloaded_0 0 rfl rfl)
theorem dX0_isOverloaded_1 : decode cX0_isOverloaded 1 = .ok (.iconst 0, 1) := dk_3 (dk_at dksX0_isOverloaded_0 1 rfl rfl)
theorem dX0_isOverloaded_2 : decode cX0_isOverloaded 2 = .ok (.aload_n 0, 1) := dk_42 (dk_at dksX0_isOverloaded_0 2 rfl rfl)
theorem dX0_isOverloaded_3 : decode cX0_isOverloaded 3 = .ok (.iload_n 1, 1) := dk_27 (dk_at dksX0_isOverloaded_0 3 rfl rfl)
theorem dX0_isOverloaded_4 : decode cX0_isOverloaded 4 = .ok (.invokevirtual 86, 3) := dk_182 0 86 (dk_at dksX0_isOverloaded_0 4 rfl rfl)
theorem dX0_isOverloaded_7 : decode cX0_isOverloaded 7 = .ok (.ifCond .eq 7, 3) := dk_153 0 7 (dk_at dksX0_isOverloaded_0 7 rfl rfl)
theorem dX0_isOverloaded_10 : decode cX0_isOverloaded 10 = .ok (.lconst 1, 1) := dk_10 (dk_at dksX0_isOverloaded_0 10 rfl rfl)
theorem dX0_isOverloaded_11 : decode cX0_isOverloaded 11 = .ok (.goto 4, 3) := dk_167 0 4 (dk_at dksX0_isOverloaded_0 11 rfl rfl)
theorem dX0_isOverloaded_14 : decode cX0_isOverloaded 14 = .ok (.lconst 0, 1) := dk_9 (dk_at dksX0_isOverloaded_0 14 rfl rfl)
theorem dX0_isOverloaded_15 : decode cX0_isOverloaded 15 = .ok (.lastore, 1) := dk_80 (dk_at dksX0_isOverloaded_0 15 rfl rfl)
theorem dX0_isOverloaded_16 : decode cX0_isOverloaded 16 = .ok (.goto 6, 3) := dk_167 0 6 (dk_at dksX0_isOverloaded_0 16 rfl rfl)
theorem dX0_isOverloaded_19 : decode cX0_isOverloaded 19 = .ok (.astore_n 3, 1) := dk_78 (dk_at dksX0_isOverloaded_0 19 rfl rfl)
theorem dX0_isOverloaded_20 : decode cX0_isOverloaded 20 = .ok (.iconst 1, 1) := dk_4 (dk_at dksX0_isOverloaded_0 20 rfl rfl)
theorem dX0_isOverloaded_21 : decode cX0_isOverloaded 21 = .ok (.ireturn, 1) := dk_172 (dk_at dksX0_isOverloaded_0 21 rfl rfl)
theorem dX0_isOverloaded_22 : decode cX0_isOverloaded 22 = .ok (.iconst 0, 1) := dk_3 (dk_at dksX0_isOverloaded_0 22 rfl rfl)
theorem dX0_isOverloaded_23 : decode cX0_isOverloaded 23 = .ok (.ireturn, 1) := dk_172 (dk_at dksX0_isOverloaded_0 23 rfl rfl)
abbrev cX0_pairs : ByteArray := method_26_code
def yX0_pairs : MethodName := ⟨RX0, "pairs", "(LTranslationBureau;II[J)I"⟩
def dkwX0_pairs_0 : List UInt8 := [45, 3, 42, 27, 28, 182, 0, 90, 133, 80, 167, 0, 7, 58, 4, 4, 172, 3, 172]
abbrev dktX0_pairs_0 : List UInt8 := dkwX0_pairs_0 ++ []
theorem dksX0_pairs_0 : cX0_pairs.data.toList.drop 0 = dktX0_pairs_0 := by decide +kernel
theorem dX0_pairs_0 : decode cX0_pairs 0 = .ok (.aload_n 3, 1) := dk_45 (dk_at dksX0_pairs_0 0 rfl rfl)
theorem dX0_pairs_1 : decode cX0_pairs 1 = .ok (.iconst 0, 1) := dk_3 (dk_at dksX0_pairs_0 1 rfl rfl)
theorem dX0_pairs_2 : decode cX0_pairs 2 = .ok (.aload_n 0, 1) := dk_42 (dk_at dksX0_pairs_0 2 rfl rfl)
theorem dX0_pairs_3 : decode cX0_pairs 3 = .ok (.iload_n 1, 1) := dk_27 (dk_at dksX0_pairs_0 3 rfl rfl)
theorem dX0_pairs_4 : decode cX0_pairs 4 = .ok (.iload_n 2, 1) := dk_28 (dk_at dksX0_pairs_0 4 rfl rfl)
theorem dX0_pairs_5 : decode cX0_pairs 5 = .ok (.invokevirtual 90, 3) := dk_182 0 90 (dk_at dksX0_pairs_0 5 rfl rfl)
theorem dX0_pairs_8 : decode cX0_pairs 8 = .ok (.i2l, 1) := dk_133 (dk_at dksX0_pairs_0 8 rfl rfl)
theorem dX0_pairs_9 : decode cX0_pairs 9 = .ok (.lastore, 1) := dk_80 (dk_at dksX0_pairs_0 9 rfl rfl)
theorem dX0_pairs_10 : decode cX0_pairs 10 = .ok (.goto 7, 3) := dk_167 0 7 (dk_at dksX0_pairs_0 10 rfl rfl)
theorem dX0_pairs_13 : decode cX0_pairs 13 = .ok (.astore 4, 2) := dk_58 4 (dk_at dksX0_pairs_0 13 rfl rfl)
theorem dX0_pairs_15 : decode cX0_pairs 15 = .ok (.iconst 1, 1) := dk_4 (dk_at dksX0_pairs_0 15 rfl rfl)
theorem dX0_pairs_16 : decode cX0_pairs 16 = .ok (.ireturn, 1) := dk_172 (dk_at dksX0_pairs_0 16 rfl rfl)
theorem dX0_pairs_17 : decode cX0_pairs 17 = .ok (.iconst 0, 1) := dk_3 (dk_at dksX0_pairs_0 17 rfl rfl)
theorem dX0_pairs_18 : decode cX0_pairs 18 = .ok (.ireturn, 1) := dk_172 (dk_at dksX0_pairs_0 18 rfl rfl)
abbrev cX0_suggested : ByteArray := method_27_code
def yX0_suggested : MethodName := ⟨RX0, "suggested", "(LTranslationBureau;I[J)I"⟩
def dkwX0_suggested_0 : List UInt8 := [44, 3, 42, 27, 182, 0, 93, 133, 80, 167, 0, 6, 78, 4, 172, 3, 172]
abbrev dktX0_suggested_0 : List UInt8 := dkwX0_suggested_0 ++ []
theorem dksX0_suggested_0 : cX0_suggested.data.toList.drop 0 = dktX0_suggested_0 := by decide +kernel
theorem dX0_suggested_0 : decode cX0_suggested 0 = .ok (.aload_n 2, 1) := dk_44 (dk_at dksX0_suggested_0 0 rfl rfl)
theorem dX0_suggested_1 : decode cX0_suggested 1 = .ok (.iconst 0, 1) := dk_3 (dk_at dksX0_suggested_0 1 rfl rfl)
theorem dX0_suggested_2 : decode cX0_suggested 2 = .ok (.aload_n 0, 1) := dk_42 (dk_at dksX0_suggested_0 2 rfl rfl)
theorem dX0_suggested_3 : decode cX0_suggested 3 = .ok (.iload_n 1, 1) := dk_27 (dk_at dksX0_suggested_0 3 rfl rfl)
theorem dX0_suggested_4 : decode cX0_suggested 4 = .ok (.invokevirtual 93, 3) := dk_182 0 93 (dk_at dksX0_suggested_0 4 rfl rfl)
theorem dX0_suggested_7 : decode cX0_suggested 7 = .ok (.i2l, 1) := dk_133 (dk_at dksX0_suggested_0 7 rfl rfl)
theorem dX0_suggested_8 : decode cX0_suggested 8 = .ok (.lastore, 1) := dk_80 (dk_at dksX0_suggested_0 8 rfl rfl)
theorem dX0_suggested_9 : decode cX0_suggested 9 = .ok (.goto 6, 3) := dk_167 0 6 (dk_at dksX0_suggested_0 9 rfl rfl)
theorem dX0_suggested_12 : decode cX0_suggested 12 = .ok (.astore_n 3, 1) := dk_78 (dk_at dksX0_suggested_0 12 rfl rfl)
theorem dX0_suggested_13 : decode cX0_suggested 13 = .ok (.iconst 1, 1) := dk_4 (dk_at dksX0_suggested_0 13 rfl rfl)
theorem dX0_suggested_14 : decode cX0_suggested 14 = .ok (.ireturn, 1) := dk_172 (dk_at dksX0_suggested_0 14 rfl rfl)
theorem dX0_suggested_15 : decode cX0_suggested 15 = .ok (.iconst 0, 1) := dk_3 (dk_at dksX0_suggested_0 15 rfl rfl)
theorem dX0_suggested_16 : decode cX0_suggested 16 = .ok (.ireturn, 1) := dk_172 (dk_at dksX0_suggested_0 16 rfl rfl)
abbrev cX0_version : ByteArray := method_28_code
def yX0_version : MethodName := ⟨RX0, "version", "(LTranslationBureau;I[J)I"⟩
def dkwX0_version_0 : List UInt8 := [44, 3, 42, 27, 182, 0, 96, 133, 80, 167, 0, 6, 78, 4, 172, 3, 172]
abbrev dktX0_version_0 : List UInt8 := dkwX0_version_0 ++ []
theorem dksX0_version_0 : cX0_version.data.toList.drop 0 = dktX0_version_0 := by decide +kernel
theorem dX0_version_0 : decode cX0_version 0 = .ok (.aload_n 2, 1) := dk_44 (dk_at dksX0_version_0 0 rfl rfl)
theorem dX0_version_1 : decode cX0_version 1 = .ok (.iconst 0, 1) := dk_3 (dk_at dksX0_version_0 1 rfl rfl)
theorem dX0_version_2 : decode cX0_version 2 = .ok (.aload_n 0, 1) := dk_42 (dk_at dksX0_version_0 2 rfl rfl)
theorem dX0_version_3 : decode cX0_version 3 = .ok (.iload_n 1, 1) := dk_27 (dk_at dksX0_version_0 3 rfl rfl)
theorem dX0_version_4 : decode cX0_version 4 = .ok (.invokevirtual 96, 3) := dk_182 0 96 (dk_at dksX0_version_0 4 rfl rfl)
theorem dX0_version_7 : decode cX0_version 7 = .ok (.i2l, 1) := dk_133 (dk_at dksX0_version_0 7 rfl rfl)
theorem dX0_version_8 : decode cX0_version 8 = .ok (.lastore, 1) := dk_80 (dk_at dksX0_version_0 8 rfl rfl)
theorem dX0_version_9 : decode cX0_version 9 = .ok (.goto 6, 3) := dk_167 0 6 (dk_at dksX0_version_0 9 rfl rfl)
theorem dX0_version_12 : decode cX0_version 12 = .ok (.astore_n 3, 1) := dk_78 (dk_at dksX0_version_0 12 rfl rfl)
theorem dX0_version_13 : decode cX0_version 13 = .ok (.iconst 1, 1) := dk_4 (dk_at dksX0_version_0 13 rfl rfl)
theorem dX0_version_14 : decode cX0_version 14 = .ok (.ireturn, 1) := dk_172 (dk_at dksX0_version_0 14 rfl rfl)
theorem dX0_version_15 : decode cX0_version 15 = .ok (.iconst 0, 1) := dk_3 (dk_at dksX0_version_0 15 rfl rfl)
theorem dX0_version_16 : decode cX0_version 16 = .ok (.ireturn, 1) := dk_172 (dk_at dksX0_version_0 16 rfl rfl)
abbrev cX0_rule : ByteArray := method_29_code
def yX0_rule : MethodName := ⟨RX0, "rule", "(LTranslationBureau;II[J)I"⟩
def dkwX0_rule_0 : List UInt8 := [45, 3, 42, 27, 28, 182, 0, 99, 133, 80, 167, 0, 7, 58, 4, 4, 172, 3, 172]
abbrev dktX0_rule_0 : List UInt8 := dkwX0_rule_0 ++ []
theorem dksX0_rule_0 : cX0_rule.data.toList.drop 0 = dktX0_rule_0 := by decide +kernel
theorem dX0_rule_0 : decode cX0_rule 0 = .ok (.aload_n 3, 1) := dk_45 (dk_at dksX0_rule_0 0 rfl rfl)
theorem dX0_rule_1 : decode cX0_rule 1 = .ok (.iconst 0, 1) := dk_3 (dk_at dksX0_rule_0 1 rfl rfl)
theorem dX0_rule_2 : decode cX0_rule 2 = .ok (.aload_n 0, 1) := dk_42 (dk_at dksX0_rule_0 2 rfl rfl)
theorem dX0_rule_3 : decode cX0_rule 3 = .ok (.iload_n 1, 1) := dk_27 (dk_at dksX0_rule_0 3 rfl rfl)
theorem dX0_rule_4 : decode cX0_rule 4 = .ok (.iload_n 2, 1) := dk_28 (dk_at dksX0_rule_0 4 rfl rfl)
theorem dX0_rule_5 : decode cX0_rule 5 = .ok (.invokevirtual 99, 3) := dk_182 0 99 (dk_at dksX0_rule_0 5 rfl rfl)
theorem dX0_rule_8 : decode cX0_rule 8 = .ok (.i2l, 1) := dk_133 (dk_at dksX0_rule_0 8 rfl rfl)
theorem dX0_rule_9 : decode cX0_rule 9 = .ok (.lastore, 1) := dk_80 (dk_at dksX0_rule_0 9 rfl rfl)
theorem dX0_rule_10 : decode cX0_rule 10 = .ok (.goto 7, 3) := dk_167 0 7 (dk_at dksX0_rule_0 10 rfl rfl)
theorem dX0_rule_13 : decode cX0_rule 13 = .ok (.astore 4, 2) := dk_58 4 (dk_at dksX0_rule_0 13 rfl rfl)
theorem dX0_rule_15 : decode cX0_rule 15 = .ok (.iconst 1, 1) := dk_4 (dk_at dksX0_rule_0 15 rfl rfl)
theorem dX0_rule_16 : decode cX0_rule 16 = .ok (.ireturn, 1) := dk_172 (dk_at dksX0_rule_0 16 rfl rfl)
theorem dX0_rule_17 : decode cX0_rule 17 = .ok (.iconst 0, 1) := dk_3 (dk_at dksX0_rule_0 17 rfl rfl)
theorem dX0_rule_18 : decode cX0_rule 18 = .ok (.ireturn, 1) := dk_172 (dk_at dksX0_rule_0 18 rfl rfl)
abbrev cX0_uses : ByteArray := method_30_code
def yX0_uses : MethodName := ⟨RX0, "uses", "(LTranslationBureau;I[J)I"⟩
def dkwX0_uses_0 : List UInt8 := [44, 3, 42, 27, 182, 0, 102, 133, 80, 167, 0, 6, 78, 4, 172, 3, 172]
abbrev dktX0_uses_0 : List UInt8 := dkwX0_uses_0 ++ []
theorem dksX0_uses_0 : cX0_uses.data.toList.drop 0 = dktX0_uses_0 := by decide +kernel
theorem dX0_uses_0 : decode cX0_uses 0 = .ok (.aload_n 2, 1) := dk_44 (dk_at dksX0_uses_0 0 rfl rfl)
theorem dX0_uses_1 : decode cX0_uses 1 = .ok (.iconst 0, 1) := dk_3 (dk_at dksX0_uses_0 1 rfl rfl)
theorem dX0_uses_2 : decode cX0_uses 2 = .ok (.aload_n 0, 1) := dk_42 (dk_at dksX0_uses_0 2 rfl rfl)
theorem dX0_uses_3 : decode cX0_uses 3 = .ok (.iload_n 1, 1) := dk_27 (dk_at dksX0_uses_0 3 rfl rfl)
theorem dX0_uses_4 : decode cX0_uses 4 = .ok (.invokevirtual 102, 3) := dk_182 0 102 (dk_at dksX0_uses_0 4 rfl rfl)
theorem dX0_uses_7 : decode cX0_uses 7 = .ok (.i2l, 1) := dk_133 (dk_at dksX0_uses_0 7 rfl rfl)
theorem dX0_uses_8 : decode cX0_uses 8 = .ok (.lastore, 1) := dk_80 (dk_at dksX0_uses_0 8 rfl rfl)
theorem dX0_uses_9 : decode cX0_uses 9 = .ok (.goto 6, 3) := dk_167 0 6 (dk_at dksX0_uses_0 9 rfl rfl)
theorem dX0_uses_12 : decode cX0_uses 12 = .ok (.astore_n 3, 1) := dk_78 (dk_at dksX0_uses_0 12 rfl rfl)
theorem dX0_uses_13 : decode cX0_uses 13 = .ok (.iconst 1, 1) := dk_4 (dk_at dksX0_uses_0 13 rfl rfl)
theorem dX0_uses_14 : decode cX0_uses 14 = .ok (.ireturn, 1) := dk_172 (dk_at dksX0_uses_0 14 rfl rfl)
theorem dX0_uses_15 : decode cX0_uses 15 = .ok (.iconst 0, 1) := dk_3 (dk_at dksX0_uses_0 15 rfl rfl)
theorem dX0_uses_16 : decode cX0_uses 16 = .ok (.ireturn, 1) := dk_172 (dk_at dksX0_uses_0 16 rfl rfl)
abbrev cX0_finding : ByteArray := method_31_code
def yX0_finding : MethodName := ⟨RX0, "finding", "(LTranslationBureau;II[J)I"⟩
def dkwX0_finding_0 : List UInt8 := [45, 3, 42, 27, 28, 182, 0, 105, 133, 80, 167, 0, 11, 58, 4, 4, 172, 58, 4, 5, 172, 3, 172]
abbrev dktX0_finding_0 : List UInt8 := dkwX0_finding_0 ++ []
theorem dksX0_finding_0 : cX0_finding.data.toList.drop 0 = dktX0_finding_0 := by decide +kernel
theorem dX0_finding_0 : decode cX0_finding 0 = .ok (.aload_n 3, 1) := dk_45 (dk_at dksX0_finding_0 0 rfl rfl)
theorem dX0_finding_1 : decode cX0_finding 1 = .ok (.iconst 0, 1) := dk_3 (dk_at dksX0_finding_0 1 rfl rfl)
theorem dX0_finding_2 : decode cX0_finding 2 = .ok (.aload_n 0, 1) := dk_42 (dk_at dksX0_finding_0 2 rfl rfl)
theorem dX0_finding_3 : decode cX0_finding 3 = .ok (.iload_n 1, 1) := dk_27 (dk_at dksX0_finding_0 3 rfl rfl)
theorem dX0_finding_4 : decode cX0_finding 4 = .ok (.iload_n 2, 1) := dk_28 (dk_at dksX0_finding_0 4 rfl rfl)
theorem dX0_finding_5 : decode cX0_finding 5 = .ok (.invokevirtual 105, 3) := dk_182 0 105 (dk_at dksX0_finding_0 5 rfl rfl)
theorem dX0_finding_8 : decode cX0_finding 8 = .ok (.i2l, 1) := dk_133 (dk_at dksX0_finding_0 8 rfl rfl)
theorem dX0_finding_9 : decode cX0_finding 9 = .ok (.lastore, 1) := dk_80 (dk_at dksX0_finding_0 9 rfl rfl)
theorem dX0_finding_10 : decode cX0_finding 10 = .ok (.goto 11, 3) := dk_167 0 11 (dk_at dksX0_finding_0 10 rfl rfl)
theorem dX0_finding_13 : decode cX0_finding 13 = .ok (.astore 4, 2) := dk_58 4 (dk_at dksX0_finding_0 13 rfl rfl)
theorem dX0_finding_15 : decode cX0_finding 15 = .ok (.iconst 1, 1) := dk_4 (dk_at dksX0_finding_0 15 rfl rfl)
theorem dX0_finding_16 : decode cX0_finding 16 = .ok (.ireturn, 1) := dk_172 (dk_at dksX0_finding_0 16 rfl rfl)
theorem dX0_finding_17 : decode cX0_finding 17 = .ok (.astore 4, 2) := dk_58 4 (dk_at dksX0_finding_0 17 rfl rfl)
theorem dX0_finding_19 : decode cX0_finding 19 = .ok (.iconst 2, 1) := dk_5 (dk_at dksX0_finding_0 19 rfl rfl)
theorem dX0_finding_20 : decode cX0_finding 20 = .ok (.ireturn, 1) := dk_172 (dk_at dksX0_finding_0 20 rfl rfl)
theorem dX0_finding_21 : decode cX0_finding 21 = .ok (.iconst 0, 1) := dk_3 (dk_at dksX0_finding_0 21 rfl rfl)
theorem dX0_finding_22 : decode cX0_finding 22 = .ok (.ireturn, 1) := dk_172 (dk_at dksX0_finding_0 22 rfl rfl)
abbrev cX0_findings : ByteArray := method_32_code
def yX0_findings : MethodName := ⟨RX0, "findings", "(LTranslationBureau;II[J)I"⟩
def dkwX0_findings_0 : List UInt8 := [45, 3, 42, 27, 28, 182, 0, 108, 133, 80, 167, 0, 11, 58, 4, 4, 172, 58, 4, 5, 172, 3, 172]
abbrev dktX0_findings_0 : List UInt8 := dkwX0_findings_0 ++ []
theorem dksX0_findings_0 : cX0_findings.data.toList.drop 0 = dktX0_findings_0 := by decide +kernel
theorem dX0_findings_0 : decode cX0_findings 0 = .ok (.aload_n 3, 1) := dk_45 (dk_at dksX0_findings_0 0 rfl rfl)
theorem dX0_findings_1 : decode cX0_findings 1 = .ok (.iconst 0, 1) := dk_3 (dk_at dksX0_findings_0 1 rfl rfl)
theorem dX0_findings_2 : decode cX0_findings 2 = .ok (.aload_n 0, 1) := dk_42 (dk_at dksX0_findings_0 2 rfl rfl)
theorem dX0_findings_3 : decode cX0_findings 3 = .ok (.iload_n 1, 1) := dk_27 (dk_at dksX0_findings_0 3 rfl rfl)
theorem dX0_findings_4 : decode cX0_findings 4 = .ok (.iload_n 2, 1) := dk_28 (dk_at dksX0_findings_0 4 rfl rfl)
theorem dX0_findings_5 : decode cX0_findings 5 = .ok (.invokevirtual 108, 3) := dk_182 0 108 (dk_at dksX0_findings_0 5 rfl rfl)
theorem dX0_findings_8 : decode cX0_findings 8 = .ok (.i2l, 1) := dk_133 (dk_at dksX0_findings_0 8 rfl rfl)
theorem dX0_findings_9 : decode cX0_findings 9 = .ok (.lastore, 1) := dk_80 (dk_at dksX0_findings_0 9 rfl rfl)
theorem dX0_findings_10 : decode cX0_findings 10 = .ok (.goto 11, 3) := dk_167 0 11 (dk_at dksX0_findings_0 10 rfl rfl)
theorem dX0_findings_13 : decode cX0_findings 13 = .ok (.astore 4, 2) := dk_58 4 (dk_at dksX0_findings_0 13 rfl rfl)
theorem dX0_findings_15 : decode cX0_findings 15 = .ok (.iconst 1, 1) := dk_4 (dk_at dksX0_findings_0 15 rfl rfl)
theorem dX0_findings_16 : decode cX0_findings 16 = .ok (.ireturn, 1) := dk_172 (dk_at dksX0_findings_0 16 rfl rfl)
theorem dX0_findings_17 : decode cX0_findings 17 = .ok (.astore 4, 2) := dk_58 4 (dk_at dksX0_findings_0 17 rfl rfl)
theorem dX0_findings_19 : decode cX0_findings 19 = .ok (.iconst 2, 1) := dk_5 (dk_at dksX0_findings_0 19 rfl rfl)
theorem dX0_findings_20 : decode cX0_findings 20 = .ok (.ireturn, 1) := dk_172 (dk_at dksX0_findings_0 20 rfl rfl)
theorem dX0_findings_21 : decode cX0_findings 21 = .ok (.iconst 0, 1) := dk_3 (dk_at dksX0_findings_0 21 rfl rfl)
theorem dX0_findings_22 : decode cX0_findings 22 = .ok (.ireturn, 1) := dk_172 (dk_at dksX0_findings_0 22 rfl rfl)
abbrev cX0_clean : ByteArray := method_33_code
def yX0_clean : MethodName := ⟨RX0, "clean", "(LTranslationBureau;I[J)I"⟩
def dkwX0_clean_0 : List UInt8 := [44, 3, 42, 27, 182, 0, 111, 133, 80, 167, 0, 6, 78, 4, 172, 3, 172]
abbrev dktX0_clean_0 : List UInt8 := dkwX0_clean_0 ++ []
theorem dksX0_clean_0 : cX0_clean.data.toList.drop 0 = dktX0_clean_0 := by decide +kernel
theorem dX0_clean_0 : decode cX0_clean 0 = .ok (.aload_n 2, 1) := dk_44 (dk_at dksX0_clean_0 0 rfl rfl)
theorem dX0_clean_1 : decode cX0_clean 1 = .ok (.iconst 0, 1) := dk_3 (dk_at dksX0_clean_0 1 rfl rfl)
theorem dX0_clean_2 : decode cX0_clean 2 = .ok (.aload_n 0, 1) := dk_42 (dk_at dksX0_clean_0 2 rfl rfl)
theorem dX0_clean_3 : decode cX0_clean 3 = .ok (.iload_n 1, 1) := dk_27 (dk_at dksX0_clean_0 3 rfl rfl)
theorem dX0_clean_4 : decode cX0_clean 4 = .ok (.invokevirtual 111, 3) := dk_182 0 111 (dk_at dksX0_clean_0 4 rfl rfl)
theorem dX0_clean_7 : decode cX0_clean 7 = .ok (.i2l, 1) := dk_133 (dk_at dksX0_clean_0 7 rfl rfl)
theorem dX0_clean_8 : decode cX0_clean 8 = .ok (.lastore, 1) := dk_80 (dk_at dksX0_clean_0 8 rfl rfl)
theorem dX0_clean_9 : decode cX0_clean 9 = .ok (.goto 6, 3) := dk_167 0 6 (dk_at dksX0_clean_0 9 rfl rfl)
theorem dX0_clean_12 : decode cX0_clean 12 = .ok (.astore_n 3, 1) := dk_78 (dk_at dksX0_clean_0 12 rfl rfl)
theorem dX0_clean_13 : decode cX0_clean 13 = .ok (.iconst 1, 1) := dk_4 (dk_at dksX0_clean_0 13 rfl rfl)
theorem dX0_clean_14 : decode cX0_clean 14 = .ok (.ireturn, 1) := dk_172 (dk_at dksX0_clean_0 14 rfl rfl)
theorem dX0_clean_15 : decode cX0_clean 15 = .ok (.iconst 0, 1) := dk_3 (dk_at dksX0_clean_0 15 rfl rfl)
theorem dX0_clean_16 : decode cX0_clean 16 = .ok (.ireturn, 1) := dk_172 (dk_at dksX0_clean_0 16 rfl rfl)
abbrev cX0_without : ByteArray := method_34_code
def yX0_without : MethodName := ⟨RX0, "without", "(LTranslationBureau;I[J)I"⟩
def dkwX0_without_0 : List UInt8 := [44, 3, 42, 27, 182, 0, 114, 133, 80, 167, 0, 6, 78, 4, 172, 3, 172]
abbrev dktX0_without_0 : List UInt8 := dkwX0_without_0 ++ []
theorem dksX0_without_0 : cX0_without.data.toList.drop 0 = dktX0_without_0 := by decide +kernel
theorem dX0_without_0 : decode cX0_without 0 = .ok (.aload_n 2, 1) := dk_44 (dk_at dksX0_without_0 0 rfl rfl)
theorem dX0_without_1 : decode cX0_without 1 = .ok (.iconst 0, 1) := dk_3 (dk_at dksX0_without_0 1 rfl rfl)
theorem dX0_without_2 : decode cX0_without 2 = .ok (.aload_n 0, 1) := dk_42 (dk_at dksX0_without_0 2 rfl rfl)
theorem dX0_without_3 : decode cX0_without 3 = .ok (.iload_n 1, 1) := dk_27 (dk_at dksX0_without_0 3 rfl rfl)
theorem dX0_without_4 : decode cX0_without 4 = .ok (.invokevirtual 114, 3) := dk_182 0 114 (dk_at dksX0_without_0 4 rfl rfl)
theorem dX0_without_7 : decode cX0_without 7 = .ok (.i2l, 1) := dk_133 (dk_at dksX0_without_0 7 rfl rfl)
theorem dX0_without_8 : decode cX0_without 8 = .ok (.lastore, 1) := dk_80 (dk_at dksX0_without_0 8 rfl rfl)
theorem dX0_without_9 : decode cX0_without 9 = .ok (.goto 6, 3) := dk_167 0 6 (dk_at dksX0_without_0 9 rfl rfl)
theorem dX0_without_12 : decode cX0_without 12 = .ok (.astore_n 3, 1) := dk_78 (dk_at dksX0_without_0 12 rfl rfl)
theorem dX0_without_13 : decode cX0_without 13 = .ok (.iconst 1, 1) := dk_4 (dk_at dksX0_without_0 13 rfl rfl)
theorem dX0_without_14 : decode cX0_without 14 = .ok (.ireturn, 1) := dk_172 (dk_at dksX0_without_0 14 rfl rfl)
theorem dX0_without_15 : decode cX0_without 15 = .ok (.iconst 0, 1) := dk_3 (dk_at dksX0_without_0 15 rfl rfl)
theorem dX0_without_16 : decode cX0_without 16 = .ok (.ireturn, 1) := dk_172 (dk_at dksX0_without_0 16 rfl rfl)
abbrev cX0_alone : ByteArray := method_35_code
def yX0_alone : MethodName := ⟨RX0, "alone", "(LTranslationBureau;I[J)I"⟩
def dkwX0_alone_0 : List UInt8 := [44, 3, 42, 27, 182, 0, 117, 133, 80, 167, 0, 6, 78, 4, 172, 3, 172]
abbrev dktX0_alone_0 : List UInt8 := dkwX0_alone_0 ++ []
theorem dksX0_alone_0 : cX0_alone.data.toList.drop 0 = dktX0_alone_0 := by decide +kernel
theorem dX0_alone_0 : decode cX0_alone 0 = .ok (.aload_n 2, 1) := dk_44 (dk_at dksX0_alone_0 0 rfl rfl)
theorem dX0_alone_1 : decode cX0_alone 1 = .ok (.iconst 0, 1) := dk_3 (dk_at dksX0_alone_0 1 rfl rfl)
theorem dX0_alone_2 : decode cX0_alone 2 = .ok (.aload_n 0, 1) := dk_42 (dk_at dksX0_alone_0 2 rfl rfl)
theorem dX0_alone_3 : decode cX0_alone 3 = .ok (.iload_n 1, 1) := dk_27 (dk_at dksX0_alone_0 3 rfl rfl)
theorem dX0_alone_4 : decode cX0_alone 4 = .ok (.invokevirtual 117, 3) := dk_182 0 117 (dk_at dksX0_alone_0 4 rfl rfl)
theorem dX0_alone_7 : decode cX0_alone 7 = .ok (.i2l, 1) := dk_133 (dk_at dksX0_alone_0 7 rfl rfl)
theorem dX0_alone_8 : decode cX0_alone 8 = .ok (.lastore, 1) := dk_80 (dk_at dksX0_alone_0 8 rfl rfl)
theorem dX0_alone_9 : decode cX0_alone 9 = .ok (.goto 6, 3) := dk_167 0 6 (dk_at dksX0_alone_0 9 rfl rfl)
theorem dX0_alone_12 : decode cX0_alone 12 = .ok (.astore_n 3, 1) := dk_78 (dk_at dksX0_alone_0 12 rfl rfl)
theorem dX0_alone_13 : decode cX0_alone 13 = .ok (.iconst 1, 1) := dk_4 (dk_at dksX0_alone_0 13 rfl rfl)
theorem dX0_alone_14 : decode cX0_alone 14 = .ok (.ireturn, 1) := dk_172 (dk_at dksX0_alone_0 14 rfl rfl)
theorem dX0_alone_15 : decode cX0_alone 15 = .ok (.iconst 0, 1) := dk_3 (dk_at dksX0_alone_0 15 rfl rfl)
theorem dX0_alone_16 : decode cX0_alone 16 = .ok (.ireturn, 1) := dk_172 (dk_at dksX0_alone_0 16 rfl rfl)
abbrev cX0_tightest : ByteArray := method_36_code
def yX0_tightest : MethodName := ⟨RX0, "tightest", "(LTranslationBureau;I[J)I"⟩
def dkwX0_tightest_0 : List UInt8 := [44, 3, 42, 27, 182, 0, 120, 133, 80, 167, 0, 6, 78, 4, 172, 3, 172]
abbrev dktX0_tightest_0 : List UInt8 := dkwX0_tightest_0 ++ []
theorem dksX0_tightest_0 : cX0_tightest.data.toList.drop 0 = dktX0_tightest_0 := by decide +kernel
theorem dX0_tightest_0 : decode cX0_tightest 0 = .ok (.aload_n 2, 1) := dk_44 (dk_at dksX0_tightest_0 0 rfl rfl)
theorem dX0_tightest_1 : decode cX0_tightest 1 = .ok (.iconst 0, 1) := dk_3 (dk_at dksX0_tightest_0 1 rfl rfl)
theorem dX0_tightest_2 : decode cX0_tightest 2 = .ok (.aload_n 0, 1) := dk_42 (dk_at dksX0_tightest_0 2 rfl rfl)
theorem dX0_tightest_3 : decode cX0_tightest 3 = .ok (.iload_n 1, 1) := dk_27 (dk_at dksX0_tightest_0 3 rfl rfl)
theorem dX0_tightest_4 : decode cX0_tightest 4 = .ok (.invokevirtual 120, 3) := dk_182 0 120 (dk_at dksX0_tightest_0 4 rfl rfl)
theorem dX0_tightest_7 : decode cX0_tightest 7 = .ok (.i2l, 1) := dk_133 (dk_at dksX0_tightest_0 7 rfl rfl)
theorem dX0_tightest_8 : decode cX0_tightest 8 = .ok (.lastore, 1) := dk_80 (dk_at dksX0_tightest_0 8 rfl rfl)
theorem dX0_tightest_9 : decode cX0_tightest 9 = .ok (.goto 6, 3) := dk_167 0 6 (dk_at dksX0_tightest_0 9 rfl rfl)
theorem dX0_tightest_12 : decode cX0_tightest 12 = .ok (.astore_n 3, 1) := dk_78 (dk_at dksX0_tightest_0 12 rfl rfl)
theorem dX0_tightest_13 : decode cX0_tightest 13 = .ok (.iconst 1, 1) := dk_4 (dk_at dksX0_tightest_0 13 rfl rfl)
theorem dX0_tightest_14 : decode cX0_tightest 14 = .ok (.ireturn, 1) := dk_172 (dk_at dksX0_tightest_0 14 rfl rfl)
theorem dX0_tightest_15 : decode cX0_tightest 15 = .ok (.iconst 0, 1) := dk_3 (dk_at dksX0_tightest_0 15 rfl rfl)
theorem dX0_tightest_16 : decode cX0_tightest 16 = .ok (.ireturn, 1) := dk_172 (dk_at dksX0_tightest_0 16 rfl rfl)
abbrev cX0_bestFollowed : ByteArray := method_37_code
def yX0_bestFollowed : MethodName := ⟨RX0, "bestFollowed", "(LTranslationBureau;I[J)I"⟩
def dkwX0_bestFollowed_0 : List UInt8 := [44, 3, 42, 27, 182, 0, 123, 133, 80, 167, 0, 6, 78, 4, 172, 3, 172]
abbrev dktX0_bestFollowed_0 : List UInt8 := dkwX0_bestFollowed_0 ++ []
theorem dksX0_bestFollowed_0 : cX0_bestFollowed.data.toList.drop 0 = dktX0_bestFollowed_0 := by decide +kernel
theorem dX0_bestFollowed_0 : decode cX0_bestFollowed 0 = .ok (.aload_n 2, 1) := dk_44 (dk_at dksX0_bestFollowed_0 0 rfl rfl)
theorem dX0_bestFollowed_1 : decode cX0_bestFollowed 1 = .ok (.iconst 0, 1) := dk_3 (dk_at dksX0_bestFollowed_0 1 rfl rfl)
theorem dX0_bestFollowed_2 : decode cX0_bestFollowed 2 = .ok (.aload_n 0, 1) := dk_42 (dk_at dksX0_bestFollowed_0 2 rfl rfl)
theorem dX0_bestFollowed_3 : decode cX0_bestFollowed 3 = .ok (.iload_n 1, 1) := dk_27 (dk_at dksX0_bestFollowed_0 3 rfl rfl)
theorem dX0_bestFollowed_4 : decode cX0_bestFollowed 4 = .ok (.invokevirtual 123, 3) := dk_182 0 123 (dk_at dksX0_bestFollowed_0 4 rfl rfl)
theorem dX0_bestFollowed_7 : decode cX0_bestFollowed 7 = .ok (.i2l, 1) := dk_133 (dk_at dksX0_bestFollowed_0 7 rfl rfl)
theorem dX0_bestFollowed_8 : decode cX0_bestFollowed 8 = .ok (.lastore, 1) := dk_80 (dk_at dksX0_bestFollowed_0 8 rfl rfl)
theorem dX0_bestFollowed_9 : decode cX0_bestFollowed 9 = .ok (.goto 6, 3) := dk_167 0 6 (dk_at dksX0_bestFollowed_0 9 rfl rfl)
theorem dX0_bestFollowed_12 : decode cX0_bestFollowed 12 = .ok (.astore_n 3, 1) := dk_78 (dk_at dksX0_bestFollowed_0 12 rfl rfl)
theorem dX0_bestFollowed_13 : decode cX0_bestFollowed 13 = .ok (.iconst 1, 1) := dk_4 (dk_at dksX0_bestFollowed_0 13 rfl rfl)
theorem dX0_bestFollowed_14 : decode cX0_bestFollowed 14 = .ok (.ireturn, 1) := dk_172 (dk_at dksX0_bestFollowed_0 14 rfl rfl)
theorem dX0_bestFollowed_15 : decode cX0_bestFollowed 15 = .ok (.iconst 0, 1) := dk_3 (dk_at dksX0_bestFollowed_0 15 rfl rfl)
theorem dX0_bestFollowed_16 : decode cX0_bestFollowed 16 = .ok (.ireturn, 1) := dk_172 (dk_at dksX0_bestFollowed_0 16 rfl rfl)
abbrev cX0_removeSegment : ByteArray := method_38_code
def yX0_removeSegment : MethodName := ⟨RX0, "removeSegment", "(LTranslationBureau;I[J)I"⟩
def dkwX0_removeSegment_0 : List UInt8 := [44, 3, 42, 27, 182, 0, 126, 133, 80, 167, 0, 6, 78, 4, 172, 3, 172]
abbrev dktX0_removeSegment_0 : List UInt8 := dkwX0_removeSegment_0 ++ []
theorem dksX0_removeSegment_0 : cX0_removeSegment.data.toList.drop 0 = dktX0_removeSegment_0 := by decide +kernel
theorem dX0_removeSegment_0 : decode cX0_removeSegment 0 = .ok (.aload_n 2, 1) := dk_44 (dk_at dksX0_removeSegment_0 0 rfl rfl)
theorem dX0_removeSegment_1 : decode cX0_removeSegment 1 = .ok (.iconst 0, 1) := dk_3 (dk_at dksX0_removeSegment_0 1 rfl rfl)
theorem dX0_removeSegment_2 : decode cX0_removeSegment 2 = .ok (.aload_n 0, 1) := dk_42 (dk_at dksX0_removeSegment_0 2 rfl rfl)
theorem dX0_removeSegment_3 : decode cX0_removeSegment 3 = .ok (.iload_n 1, 1) := dk_27 (dk_at dksX0_removeSegment_0 3 rfl rfl)
theorem dX0_removeSegment_4 : decode cX0_removeSegment 4 = .ok (.invokevirtual 126, 3) := dk_182 0 126 (dk_at dksX0_removeSegment_0 4 rfl rfl)
theorem dX0_removeSegment_7 : decode cX0_removeSegment 7 = .ok (.i2l, 1) := dk_133 (dk_at dksX0_removeSegment_0 7 rfl rfl)
theorem dX0_removeSegment_8 : decode cX0_removeSegment 8 = .ok (.lastore, 1) := dk_80 (dk_at dksX0_removeSegment_0 8 rfl rfl)
theorem dX0_removeSegment_9 : decode cX0_removeSegment 9 = .ok (.goto 6, 3) := dk_167 0 6 (dk_at dksX0_removeSegment_0 9 rfl rfl)
theorem dX0_removeSegment_12 : decode cX0_removeSegment 12 = .ok (.astore_n 3, 1) := dk_78 (dk_at dksX0_removeSegment_0 12 rfl rfl)
theorem dX0_removeSegment_13 : decode cX0_removeSegment 13 = .ok (.iconst 1, 1) := dk_4 (dk_at dksX0_removeSegment_0 13 rfl rfl)
theorem dX0_removeSegment_14 : decode cX0_removeSegment 14 = .ok (.ireturn, 1) := dk_172 (dk_at dksX0_removeSegment_0 14 rfl rfl)
theorem dX0_removeSegment_15 : decode cX0_removeSegment 15 = .ok (.iconst 0, 1) := dk_3 (dk_at dksX0_removeSegment_0 15 rfl rfl)
theorem dX0_removeSegment_16 : decode cX0_removeSegment 16 = .ok (.ireturn, 1) := dk_172 (dk_at dksX0_removeSegment_0 16 rfl rfl)
abbrev cX0_moveSegment : ByteArray := method_39_code
def yX0_moveSegment : MethodName := ⟨RX0, "moveSegment", "(LTranslationBureau;II[J)I"⟩
def dkwX0_moveSegment_0 : List UInt8 := [45, 3, 42, 27, 28, 182, 0, 129, 133, 80, 167, 0, 7, 58, 4, 4, 172, 3, 172]
abbrev dktX0_moveSegment_0 : List UInt8 := dkwX0_moveSegment_0 ++ []
theorem dksX0_moveSegment_0 : cX0_moveSegment.data.toList.drop 0 = dktX0_moveSegment_0 := by decide +kernel
theorem dX0_moveSegment_0 : decode cX0_moveSegment 0 = .ok (.aload_n 3, 1) := dk_45 (dk_at dksX0_moveSegment_0 0 rfl rfl)
theorem dX0_moveSegment_1 : decode cX0_moveSegment 1 = .ok (.iconst 0, 1) := dk_3 (dk_at dksX0_moveSegment_0 1 rfl rfl)
theorem dX0_moveSegment_2 : decode cX0_moveSegment 2 = .ok (.aload_n 0, 1) := dk_42 (dk_at dksX0_moveSegment_0 2 rfl rfl)
theorem dX0_moveSegment_3 : decode cX0_moveSegment 3 = .ok (.iload_n 1, 1) := dk_27 (dk_at dksX0_moveSegment_0 3 rfl rfl)
theorem dX0_moveSegment_4 : decode cX0_moveSegment 4 = .ok (.iload_n 2, 1) := dk_28 (dk_at dksX0_moveSegment_0 4 rfl rfl)
theorem dX0_moveSegment_5 : decode cX0_moveSegment 5 = .ok (.invokevirtual 129, 3) := dk_182 0 129 (dk_at dksX0_moveSegment_0 5 rfl rfl)
theorem dX0_moveSegment_8 : decode cX0_moveSegment 8 = .ok (.i2l, 1) := dk_133 (dk_at dksX0_moveSegment_0 8 rfl rfl)
theorem dX0_moveSegment_9 : decode cX0_moveSegment 9 = .ok (.lastore, 1) := dk_80 (dk_at dksX0_moveSegment_0 9 rfl rfl)
theorem dX0_moveSegment_10 : decode cX0_moveSegment 10 = .ok (.goto 7, 3) := dk_167 0 7 (dk_at dksX0_moveSegment_0 10 rfl rfl)
theorem dX0_moveSegment_13 : decode cX0_moveSegment 13 = .ok (.astore 4, 2) := dk_58 4 (dk_at dksX0_moveSegment_0 13 rfl rfl)
theorem dX0_moveSegment_15 : decode cX0_moveSegment 15 = .ok (.iconst 1, 1) := dk_4 (dk_at dksX0_moveSegment_0 15 rfl rfl)
theorem dX0_moveSegment_16 : decode cX0_moveSegment 16 = .ok (.ireturn, 1) := dk_172 (dk_at dksX0_moveSegment_0 16 rfl rfl)
theorem dX0_moveSegment_17 : decode cX0_moveSegment 17 = .ok (.iconst 0, 1) := dk_3 (dk_at dksX0_moveSegment_0 17 rfl rfl)
theorem dX0_moveSegment_18 : decode cX0_moveSegment 18 = .ok (.ireturn, 1) := dk_172 (dk_at dksX0_moveSegment_0 18 rfl rfl)
abbrev cX0_setJob : ByteArray := method_40_code
def yX0_setJob : MethodName := ⟨RX0, "setJob", "(LTranslationBureau;IIII[J)I"⟩
def dkwX0_setJob_1 : List UInt8 := [172, 58, 6, 6, 172, 3, 172]
abbrev dktX0_setJob_1 : List UInt8 := dkwX0_setJob_1 ++ []
def dkwX0_setJob_0 : List UInt8 := [25, 5, 3, 42, 27, 28, 29, 21, 4, 182, 0, 132, 133, 80, 167, 0, 15, 58, 6, 4, 172, 58, 6, 5]
abbrev dktX0_setJob_0 : List UInt8 := dkwX0_setJob_0 ++ dktX0_setJob_1
theorem dksX0_setJob_0 : cX0_setJob.data.toList.drop 0 = dktX0_setJob_0 := by decide +kernel
theorem dksX0_setJob_1 : cX0_setJob.data.toList.drop 24 = dktX0_setJob_1 := dk_seg dksX0_setJob_0 24 rfl rfl
theorem dX0_setJob_0 : decode cX0_setJob 0 = .ok (.aload 5, 2) := dk_25 5 (dk_at dksX0_setJob_0 0 rfl rfl)
theorem dX0_setJob_2 : decode cX0_setJob 2 = .ok (.iconst 0, 1) := dk_3 (dk_at dksX0_setJob_0 2 rfl rfl)
theorem dX0_setJob_3 : decode cX0_setJob 3 = .ok (.aload_n 0, 1) := dk_42 (dk_at dksX0_setJob_0 3 rfl rfl)
theorem dX0_setJob_4 : decode cX0_setJob 4 = .ok (.iload_n 1, 1) := dk_27 (dk_at dksX0_setJob_0 4 rfl rfl)
theorem dX0_setJob_5 : decode cX0_setJob 5 = .ok (.iload_n 2, 1) := dk_28 (dk_at dksX0_setJob_0 5 rfl rfl)
theorem dX0_setJob_6 : decode cX0_setJob 6 = .ok (.iload_n 3, 1) := dk_29 (dk_at dksX0_setJob_0 6 rfl rfl)
theorem dX0_setJob_7 : decode cX0_setJob 7 = .ok (.iload 4, 2) := dk_21 4 (dk_at dksX0_setJob_0 7 rfl rfl)
theorem dX0_setJob_9 : decode cX0_setJob 9 = .ok (.invokevirtual 132, 3) := dk_182 0 132 (dk_at dksX0_setJob_0 9 rfl rfl)
theorem dX0_setJob_12 : decode cX0_setJob 12 = .ok (.i2l, 1) := dk_133 (dk_at dksX0_setJob_0 12 rfl rfl)
theorem dX0_setJob_13 : decode cX0_setJob 13 = .ok (.lastore, 1) := dk_80 (dk_at dksX0_setJob_0 13 rfl rfl)
theorem dX0_setJob_14 : decode cX0_setJob 14 = .ok (.goto 15, 3) := dk_167 0 15 (dk_at dksX0_setJob_0 14 rfl rfl)
theorem dX0_setJob_17 : decode cX0_setJob 17 = .ok (.astore 6, 2) := dk_58 6 (dk_at dksX0_setJob_0 17 rfl rfl)
theorem dX0_setJob_19 : decode cX0_setJob 19 = .ok (.iconst 1, 1) := dk_4 (dk_at dksX0_setJob_0 19 rfl rfl)
theorem dX0_setJob_20 : decode cX0_setJob 20 = .ok (.ireturn, 1) := dk_172 (dk_at dksX0_setJob_0 20 rfl rfl)
theorem dX0_setJob_21 : decode cX0_setJob 21 = .ok (.astore 6, 2) := dk_58 6 (dk_at dksX0_setJob_0 21 rfl rfl)
theorem dX0_setJob_23 : decode cX0_setJob 23 = .ok (.iconst 2, 1) := dk_5 (dk_at dksX0_setJob_0 23 rfl rfl)
theorem dX0_setJob_24 : decode cX0_setJob 24 = .ok (.ireturn, 1) := dk_172 (dk_at dksX0_setJob_1 0 rfl rfl)
theorem dX0_setJob_25 : decode cX0_setJob 25 = .ok (.astore 6, 2) := dk_58 6 (dk_at dksX0_setJob_1 1 rfl rfl)
theorem dX0_setJob_27 : decode cX0_setJob 27 = .ok (.iconst 3, 1) := dk_6 (dk_at dksX0_setJob_1 3 rfl rfl)
theorem dX0_setJob_28 : decode cX0_setJob 28 = .ok (.ireturn, 1) := dk_172 (dk_at dksX0_setJob_1 4 rfl rfl)
theorem dX0_setJob_29 : decode cX0_setJob 29 = .ok (.iconst 0, 1) := dk_3 (dk_at dksX0_setJob_1 5 rfl rfl)
theorem dX0_setJob_30 : decode cX0_setJob 30 = .ok (.ireturn, 1) := dk_172 (dk_at dksX0_setJob_1 6 rfl rfl)
abbrev cX0_setFollowed : ByteArray := method_41_code
def yX0_setFollowed : MethodName := ⟨RX0, "setFollowed", "(LTranslationBureau;II[J)I"⟩
def dkwX0_setFollowed_0 : List UInt8 := [45, 3, 42, 27, 28, 182, 0, 138, 133, 80, 167, 0, 11, 58, 4, 4, 172, 58, 4, 5, 172, 3, 172]
abbrev dktX0_setFollowed_0 : List UInt8 := dkwX0_setFollowed_0 ++ []
theorem dksX0_setFollowed_0 : cX0_setFollowed.data.toList.drop 0 = dktX0_setFollowed_0 := by decide +kernel
theorem dX0_setFollowed_0 : decode cX0_setFollowed 0 = .ok (.aload_n 3, 1) := dk_45 (dk_at dksX0_setFollowed_0 0 rfl rfl)
theorem dX0_setFollowed_1 : decode cX0_setFollowed 1 = .ok (.iconst 0, 1) := dk_3 (dk_at dksX0_setFollowed_0 1 rfl rfl)
theorem dX0_setFollowed_2 : decode cX0_setFollowed 2 = .ok (.aload_n 0, 1) := dk_42 (dk_at dksX0_setFollowed_0 2 rfl rfl)
theorem dX0_setFollowed_3 : decode cX0_setFollowed 3 = .ok (.iload_n 1, 1) := dk_27 (dk_at dksX0_setFollowed_0 3 rfl rfl)
theorem dX0_setFollowed_4 : decode cX0_setFollowed 4 = .ok (.iload_n 2, 1) := dk_28 (dk_at dksX0_setFollowed_0 4 rfl rfl)
theorem dX0_setFollowed_5 : decode cX0_setFollowed 5 = .ok (.invokevirtual 138, 3) := dk_182 0 138 (dk_at dksX0_setFollowed_0 5 rfl rfl)
theorem dX0_setFollowed_8 : decode cX0_setFollowed 8 = .ok (.i2l, 1) := dk_133 (dk_at dksX0_setFollowed_0 8 rfl rfl)
theorem dX0_setFollowed_9 : decode cX0_setFollowed 9 = .ok (.lastore, 1) := dk_80 (dk_at dksX0_setFollowed_0 9 rfl rfl)
theorem dX0_setFollowed_10 : decode cX0_setFollowed 10 = .ok (.goto 11, 3) := dk_167 0 11 (dk_at dksX0_setFollowed_0 10 rfl rfl)
theorem dX0_setFollowed_13 : decode cX0_setFollowed 13 = .ok (.astore 4, 2) := dk_58 4 (dk_at dksX0_setFollowed_0 13 rfl rfl)
theorem dX0_setFollowed_15 : decode cX0_setFollowed 15 = .ok (.iconst 1, 1) := dk_4 (dk_at dksX0_setFollowed_0 15 rfl rfl)
theorem dX0_setFollowed_16 : decode cX0_setFollowed 16 = .ok (.ireturn, 1) := dk_172 (dk_at dksX0_setFollowed_0 16 rfl rfl)
theorem dX0_setFollowed_17 : decode cX0_setFollowed 17 = .ok (.astore 4, 2) := dk_58 4 (dk_at dksX0_setFollowed_0 17 rfl rfl)
theorem dX0_setFollowed_19 : decode cX0_setFollowed 19 = .ok (.iconst 2, 1) := dk_5 (dk_at dksX0_setFollowed_0 19 rfl rfl)
theorem dX0_setFollowed_20 : decode cX0_setFollowed 20 = .ok (.ireturn, 1) := dk_172 (dk_at dksX0_setFollowed_0 20 rfl rfl)
theorem dX0_setFollowed_21 : decode cX0_setFollowed 21 = .ok (.iconst 0, 1) := dk_3 (dk_at dksX0_setFollowed_0 21 rfl rfl)
theorem dX0_setFollowed_22 : decode cX0_setFollowed 22 = .ok (.ireturn, 1) := dk_172 (dk_at dksX0_setFollowed_0 22 rfl rfl)
abbrev cX0_setBand : ByteArray := method_42_code
def yX0_setBand : MethodName := ⟨RX0, "setBand", "(LTranslationBureau;II[J)I"⟩
def dkwX0_setBand_0 : List UInt8 := [45, 3, 42, 27, 28, 182, 0, 141, 133, 80, 167, 0, 11, 58, 4, 4, 172, 58, 4, 5, 172, 3, 172]
abbrev dktX0_setBand_0 : List UInt8 := dkwX0_setBand_0 ++ []
theorem dksX0_setBand_0 : cX0_setBand.data.toList.drop 0 = dktX0_setBand_0 := by decide +kernel
theorem dX0_setBand_0 : decode cX0_setBand 0 = .ok (.aload_n 3, 1) := dk_45 (dk_at dksX0_setBand_0 0 rfl rfl)
theorem dX0_setBand_1 : decode cX0_setBand 1 = .ok (.iconst 0, 1) := dk_3 (dk_at dksX0_setBand_0 1 rfl rfl)
theorem dX0_setBand_2 : decode cX0_setBand 2 = .ok (.aload_n 0, 1) := dk_42 (dk_at dksX0_setBand_0 2 rfl rfl)
theorem dX0_setBand_3 : decode cX0_setBand 3 = .ok (.iload_n 1, 1) := dk_27 (dk_at dksX0_setBand_0 3 rfl rfl)
theorem dX0_setBand_4 : decode cX0_setBand 4 = .ok (.iload_n 2, 1) := dk_28 (dk_at dksX0_setBand_0 4 rfl rfl)
theorem dX0_setBand_5 : decode cX0_setBand 5 = .ok (.invokevirtual 141, 3) := dk_182 0 141 (dk_at dksX0_setBand_0 5 rfl rfl)
theorem dX0_setBand_8 : decode cX0_setBand 8 = .ok (.i2l, 1) := dk_133 (dk_at dksX0_setBand_0 8 rfl rfl)
theorem dX0_setBand_9 : decode cX0_setBand 9 = .ok (.lastore, 1) := dk_80 (dk_at dksX0_setBand_0 9 rfl rfl)
theorem dX0_setBand_10 : decode cX0_setBand 10 = .ok (.goto 11, 3) := dk_167 0 11 (dk_at dksX0_setBand_0 10 rfl rfl)
theorem dX0_setBand_13 : decode cX0_setBand 13 = .ok (.astore 4, 2) := dk_58 4 (dk_at dksX0_setBand_0 13 rfl rfl)
theorem dX0_setBand_15 : decode cX0_setBand 15 = .ok (.iconst 1, 1) := dk_4 (dk_at dksX0_setBand_0 15 rfl rfl)
theorem dX0_setBand_16 : decode cX0_setBand 16 = .ok (.ireturn, 1) := dk_172 (dk_at dksX0_setBand_0 16 rfl rfl)
theorem dX0_setBand_17 : decode cX0_setBand 17 = .ok (.astore 4, 2) := dk_58 4 (dk_at dksX0_setBand_0 17 rfl rfl)
theorem dX0_setBand_19 : decode cX0_setBand 19 = .ok (.iconst 2, 1) := dk_5 (dk_at dksX0_setBand_0 19 rfl rfl)
theorem dX0_setBand_20 : decode cX0_setBand 20 = .ok (.ireturn, 1) := dk_172 (dk_at dksX0_setBand_0 20 rfl rfl)
theorem dX0_setBand_21 : decode cX0_setBand 21 = .ok (.iconst 0, 1) := dk_3 (dk_at dksX0_setBand_0 21 rfl rfl)
theorem dX0_setBand_22 : decode cX0_setBand 22 = .ok (.ireturn, 1) := dk_172 (dk_at dksX0_setBand_0 22 rfl rfl)
abbrev cX0_setSetting : ByteArray := method_43_code
def yX0_setSetting : MethodName := ⟨RX0, "setSetting", "(LTranslationBureau;II[J)I"⟩
def dkwX0_setSetting_0 : List UInt8 := [45, 3, 42, 27, 28, 182, 0, 144, 133, 80, 167, 0, 7, 58, 4, 4, 172, 3, 172]
abbrev dktX0_setSetting_0 : List UInt8 := dkwX0_setSetting_0 ++ []
theorem dksX0_setSetting_0 : cX0_setSetting.data.toList.drop 0 = dktX0_setSetting_0 := by decide +kernel
theorem dX0_setSetting_0 : decode cX0_setSetting 0 = .ok (.aload_n 3, 1) := dk_45 (dk_at dksX0_setSetting_0 0 rfl rfl)
theorem dX0_setSetting_1 : decode cX0_setSetting 1 = .ok (.iconst 0, 1) := dk_3 (dk_at dksX0_setSetting_0 1 rfl rfl)
theorem dX0_setSetting_2 : decode cX0_setSetting 2 = .ok (.aload_n 0, 1) := dk_42 (dk_at dksX0_setSetting_0 2 rfl rfl)
theorem dX0_setSetting_3 : decode cX0_setSetting 3 = .ok (.iload_n 1, 1) := dk_27 (dk_at dksX0_setSetting_0 3 rfl rfl)
theorem dX0_setSetting_4 : decode cX0_setSetting 4 = .ok (.iload_n 2, 1) := dk_28 (dk_at dksX0_setSetting_0 4 rfl rfl)
theorem dX0_setSetting_5 : decode cX0_setSetting 5 = .ok (.invokevirtual 144, 3) := dk_182 0 144 (dk_at dksX0_setSetting_0 5 rfl rfl)
theorem dX0_setSetting_8 : decode cX0_setSetting 8 = .ok (.i2l, 1) := dk_133 (dk_at dksX0_setSetting_0 8 rfl rfl)
theorem dX0_setSetting_9 : decode cX0_setSetting 9 = .ok (.lastore, 1) := dk_80 (dk_at dksX0_setSetting_0 9 rfl rfl)
theorem dX0_setSetting_10 : decode cX0_setSetting 10 = .ok (.goto 7, 3) := dk_167 0 7 (dk_at dksX0_setSetting_0 10 rfl rfl)
theorem dX0_setSetting_13 : decode cX0_setSetting 13 = .ok (.astore 4, 2) := dk_58 4 (dk_at dksX0_setSetting_0 13 rfl rfl)
theorem dX0_setSetting_15 : decode cX0_setSetting 15 = .ok (.iconst 1, 1) := dk_4 (dk_at dksX0_setSetting_0 15 rfl rfl)
theorem dX0_setSetting_16 : decode cX0_setSetting 16 = .ok (.ireturn, 1) := dk_172 (dk_at dksX0_setSetting_0 16 rfl rfl)
theorem dX0_setSetting_17 : decode cX0_setSetting 17 = .ok (.iconst 0, 1) := dk_3 (dk_at dksX0_setSetting_0 17 rfl rfl)
theorem dX0_setSetting_18 : decode cX0_setSetting 18 = .ok (.ireturn, 1) := dk_172 (dk_at dksX0_setSetting_0 18 rfl rfl)
abbrev cX0_swapTargets : ByteArray := method_44_code
def yX0_swapTargets : MethodName := ⟨RX0, "swapTargets", "(LTranslationBureau;II[J)I"⟩
def dkwX0_swapTargets_0 : List UInt8 := [45, 3, 42, 27, 28, 182, 0, 147, 133, 80, 167, 0, 7, 58, 4, 4, 172, 3, 172]
abbrev dktX0_swapTargets_0 : List UInt8 := dkwX0_swapTargets_0 ++ []
theorem dksX0_swapTargets_0 : cX0_swapTargets.data.toList.drop 0 = dktX0_swapTargets_0 := by decide +kernel
theorem dX0_swapTargets_0 : decode cX0_swapTargets 0 = .ok (.aload_n 3, 1) := dk_45 (dk_at dksX0_swapTargets_0 0 rfl rfl)
theorem dX0_swapTargets_1 : decode cX0_swapTargets 1 = .ok (.iconst 0, 1) := dk_3 (dk_at dksX0_swapTargets_0 1 rfl rfl)
theorem dX0_swapTargets_2 : decode cX0_swapTargets 2 = .ok (.aload_n 0, 1) := dk_42 (dk_at dksX0_swapTargets_0 2 rfl rfl)
theorem dX0_swapTargets_3 : decode cX0_swapTargets 3 = .ok (.iload_n 1, 1) := dk_27 (dk_at dksX0_swapTargets_0 3 rfl rfl)
theorem dX0_swapTargets_4 : decode cX0_swapTargets 4 = .ok (.iload_n 2, 1) := dk_28 (dk_at dksX0_swapTargets_0 4 rfl rfl)
theorem dX0_swapTargets_5 : decode cX0_swapTargets 5 = .ok (.invokevirtual 147, 3) := dk_182 0 147 (dk_at dksX0_swapTargets_0 5 rfl rfl)
theorem dX0_swapTargets_8 : decode cX0_swapTargets 8 = .ok (.i2l, 1) := dk_133 (dk_at dksX0_swapTargets_0 8 rfl rfl)
theorem dX0_swapTargets_9 : decode cX0_swapTargets 9 = .ok (.lastore, 1) := dk_80 (dk_at dksX0_swapTargets_0 9 rfl rfl)
theorem dX0_swapTargets_10 : decode cX0_swapTargets 10 = .ok (.goto 7, 3) := dk_167 0 7 (dk_at dksX0_swapTargets_0 10 rfl rfl)
theorem dX0_swapTargets_13 : decode cX0_swapTargets 13 = .ok (.astore 4, 2) := dk_58 4 (dk_at dksX0_swapTargets_0 13 rfl rfl)
theorem dX0_swapTargets_15 : decode cX0_swapTargets 15 = .ok (.iconst 1, 1) := dk_4 (dk_at dksX0_swapTargets_0 15 rfl rfl)
theorem dX0_swapTargets_16 : decode cX0_swapTargets 16 = .ok (.ireturn, 1) := dk_172 (dk_at dksX0_swapTargets_0 16 rfl rfl)
theorem dX0_swapTargets_17 : decode cX0_swapTargets 17 = .ok (.iconst 0, 1) := dk_3 (dk_at dksX0_swapTargets_0 17 rfl rfl)
theorem dX0_swapTargets_18 : decode cX0_swapTargets 18 = .ok (.ireturn, 1) := dk_172 (dk_at dksX0_swapTargets_0 18 rfl rfl)
abbrev cX0_write : ByteArray := method_45_code
def yX0_write : MethodName := ⟨RX0, "write", "(LTranslationBureau;I[J)I"⟩
def dkwX0_write_0 : List UInt8 := [44, 3, 42, 27, 182, 0, 150, 133, 80, 167, 0, 6, 78, 4, 172, 3, 172]
abbrev dktX0_write_0 : List UInt8 := dkwX0_write_0 ++ []
theorem dksX0_write_0 : cX0_write.data.toList.drop 0 = dktX0_write_0 := by decide +kernel
theorem dX0_write_0 : decode cX0_write 0 = .ok (.aload_n 2, 1) := dk_44 (dk_at dksX0_write_0 0 rfl rfl)
theorem dX0_write_1 : decode cX0_write 1 = .ok (.iconst 0, 1) := dk_3 (dk_at dksX0_write_0 1 rfl rfl)
theorem dX0_write_2 : decode cX0_write 2 = .ok (.aload_n 0, 1) := dk_42 (dk_at dksX0_write_0 2 rfl rfl)
theorem dX0_write_3 : decode cX0_write 3 = .ok (.iload_n 1, 1) := dk_27 (dk_at dksX0_write_0 3 rfl rfl)
theorem dX0_write_4 : decode cX0_write 4 = .ok (.invokevirtual 150, 3) := dk_182 0 150 (dk_at dksX0_write_0 4 rfl rfl)
theorem dX0_write_7 : decode cX0_write 7 = .ok (.i2l, 1) := dk_133 (dk_at dksX0_write_0 7 rfl rfl)
theorem dX0_write_8 : decode cX0_write 8 = .ok (.lastore, 1) := dk_80 (dk_at dksX0_write_0 8 rfl rfl)
theorem dX0_write_9 : decode cX0_write 9 = .ok (.goto 6, 3) := dk_167 0 6 (dk_at dksX0_write_0 9 rfl rfl)
theorem dX0_write_12 : decode cX0_write 12 = .ok (.astore_n 3, 1) := dk_78 (dk_at dksX0_write_0 12 rfl rfl)
theorem dX0_write_13 : decode cX0_write 13 = .ok (.iconst 1, 1) := dk_4 (dk_at dksX0_write_0 13 rfl rfl)
theorem dX0_write_14 : decode cX0_write 14 = .ok (.ireturn, 1) := dk_172 (dk_at dksX0_write_0 14 rfl rfl)
theorem dX0_write_15 : decode cX0_write 15 = .ok (.iconst 0, 1) := dk_3 (dk_at dksX0_write_0 15 rfl rfl)
theorem dX0_write_16 : decode cX0_write 16 = .ok (.ireturn, 1) := dk_172 (dk_at dksX0_write_0 16 rfl rfl)
abbrev cX0_written : ByteArray := method_46_code
def yX0_written : MethodName := ⟨RX0, "written", "(LTranslationBureau;I[J)I"⟩
def dkwX0_written_0 : List UInt8 := [44, 3, 42, 27, 182, 0, 153, 133, 80, 167, 0, 6, 78, 4, 172, 3, 172]
abbrev dktX0_written_0 : List UInt8 := dkwX0_written_0 ++ []
theorem dksX0_written_0 : cX0_written.data.toList.drop 0 = dktX0_written_0 := by decide +kernel
theorem dX0_written_0 : decode cX0_written 0 = .ok (.aload_n 2, 1) := dk_44 (dk_at dksX0_written_0 0 rfl rfl)
theorem dX0_written_1 : decode cX0_written 1 = .ok (.iconst 0, 1) := dk_3 (dk_at dksX0_written_0 1 rfl rfl)
theorem dX0_written_2 : decode cX0_written 2 = .ok (.aload_n 0, 1) := dk_42 (dk_at dksX0_written_0 2 rfl rfl)
theorem dX0_written_3 : decode cX0_written 3 = .ok (.iload_n 1, 1) := dk_27 (dk_at dksX0_written_0 3 rfl rfl)
theorem dX0_written_4 : decode cX0_written 4 = .ok (.invokevirtual 153, 3) := dk_182 0 153 (dk_at dksX0_written_0 4 rfl rfl)
theorem dX0_written_7 : decode cX0_written 7 = .ok (.i2l, 1) := dk_133 (dk_at dksX0_written_0 7 rfl rfl)
theorem dX0_written_8 : decode cX0_written 8 = .ok (.lastore, 1) := dk_80 (dk_at dksX0_written_0 8 rfl rfl)
theorem dX0_written_9 : decode cX0_written 9 = .ok (.goto 6, 3) := dk_167 0 6 (dk_at dksX0_written_0 9 rfl rfl)
theorem dX0_written_12 : decode cX0_written 12 = .ok (.astore_n 3, 1) := dk_78 (dk_at dksX0_written_0 12 rfl rfl)
theorem dX0_written_13 : decode cX0_written 13 = .ok (.iconst 1, 1) := dk_4 (dk_at dksX0_written_0 13 rfl rfl)
theorem dX0_written_14 : decode cX0_written 14 = .ok (.ireturn, 1) := dk_172 (dk_at dksX0_written_0 14 rfl rfl)
theorem dX0_written_15 : decode cX0_written 15 = .ok (.iconst 0, 1) := dk_3 (dk_at dksX0_written_0 15 rfl rfl)
theorem dX0_written_16 : decode cX0_written 16 = .ok (.ireturn, 1) := dk_172 (dk_at dksX0_written_0 16 rfl rfl)
theorem q117 : (Jvm.Cond.initialized "TranslationBureauLaw") ∈ lw_all := lw_g (lw_at lw_m1 0 rfl) rfl
theorem q171 : (Jvm.Cond.classLink "TranslationBureauLaw" (8 : Nat) "TranslationBureau") ∈ lw_all := lw_g (lw_at lw_m1 54 rfl) rfl
theorem q173 : (Jvm.Cond.methodLink "TranslationBureauLaw" (157 : Nat) ({ cls := "TranslationBureau", name := "<init>", desc := "()V" } : Jvm.MethodName)) ∈ lw_all := lw_g (lw_at lw_m1 56 rfl) rfl
theorem q326 : (Jvm.Cond.methodLink "TranslationBureauLaw" (161 : Nat) ({ cls := "TranslationBureau", name := "feed", desc := "(IIIII)I" } : Jvm.MethodName)) ∈ lw_all := lw_g (lw_at lw_m1 209 rfl) rfl
theorem q334 : (Jvm.Cond.methodLink "TranslationBureauLaw" (179 : Nat) ({ cls := "TranslationBureau", name := "errorKind", desc := "()I" } : Jvm.MethodName)) ∈ lw_all := lw_g (lw_at lw_m1 217 rfl) rfl
theorem q338 : (Jvm.Cond.methodLink "TranslationBureauLaw" (183 : Nat) ({ cls := "TranslationBureau", name := "errorPosition", desc := "()I" } : Jvm.MethodName)) ∈ lw_all := lw_g (lw_at lw_m1 221 rfl) rfl
theorem q342 : (Jvm.Cond.methodLink "TranslationBureauLaw" (244 : Nat) ({ cls := "TranslationBureau", name := "total", desc := "()I" } : Jvm.MethodName)) ∈ lw_all := lw_g (lw_at lw_m1 225 rfl) rfl
theorem q639 : (Jvm.Cond.methodLink "TranslationBureauLaw" (261 : Nat) ({ cls := "TranslationBureau", name := "mutual", desc := "()I" } : Jvm.MethodName)) ∈ lw_all := lw_g (lw_at lw_m3 42 rfl) rfl
theorem q649 : (Jvm.Cond.methodLink "TranslationBureauLaw" (320 : Nat) ({ cls := "TranslationBureau", name := "undo", desc := "()I" } : Jvm.MethodName)) ∈ lw_all := lw_g (lw_at lw_m3 52 rfl) rfl
theorem q680 : (Jvm.Cond.methodLink "TranslationBureauLaw" (166 : Nat) ({ cls := "TranslationBureauLaw", name := "load", desc := "(LTranslationBureau;I[J)I" } : Jvm.MethodName)) ∈ lw_all := lw_g (lw_at lw_m3 83 rfl) rfl
theorem q681 : (Jvm.Cond.static ({ cls := "TranslationBureauLaw", name := "load", desc := "(LTranslationBureau;I[J)I" } : Jvm.MethodName)) ∈ lw_all := lw_g (lw_at lw_m3 84 rfl) rfl
theorem q682 : (Jvm.Cond.codeWith ({ cls := "TranslationBureauLaw", name := "load", desc := "(LTranslationBureau;I[J)I" } : Jvm.MethodName) method_3_code (4 : Nat) (Option.some Jvm.ClassFile.FieldType.int) [((0 : Nat), (9 : Nat), (12 : Nat), (13 : Nat))]) ∈ lw_all := lw_g (lw_at lw_m3 85 rfl) rfl
theorem q683 : (Jvm.Cond.classLink "TranslationBureauLaw" (13 : Nat) "java/lang/IllegalArgumentException") ∈ lw_all := lw_g (lw_at lw_m3 86 rfl) rfl
theorem q684 : (Jvm.Cond.methodLink "TranslationBureauLaw" (7 : Nat) ({ cls := "TranslationBureau", name := "load", desc := "(I)I" } : Jvm.MethodName)) ∈ lw_all := lw_g (lw_at lw_m3 87 rfl) rfl
theorem q1569 : (Jvm.Cond.methodLink "TranslationBureauLaw" (176 : Nat) ({ cls := "TranslationBureauLaw", name := "extend", desc := "(LTranslationBureau;I[J)I" } : Jvm.MethodName)) ∈ lw_all := lw_g (lw_at lw_m7 12 rfl) rfl
theorem q1570 : (Jvm.Cond.static ({ cls := "TranslationBureauLaw", name := "extend", desc := "(LTranslationBureau;I[J)I" } : Jvm.MethodName)) ∈ lw_all := lw_g (lw_at lw_m7 13 rfl) rfl
theorem q1571 : (Jvm.Cond.codeWith ({ cls := "TranslationBureauLaw", name := "extend", desc := "(LTranslationBureau;I[J)I" } : Jvm.MethodName) method_4_code (4 : Nat) (Option.some Jvm.ClassFile.FieldType.int) [((0 : Nat), (9 : Nat), (12 : Nat), (13 : Nat))]) ∈ lw_all := lw_g (lw_at lw_m7 14 rfl) rfl
theorem q1572 : (Jvm.Cond.methodLink "TranslationBureauLaw" (15 : Nat) ({ cls := "TranslationBureau", name := "extend", desc := "(I)I" } : Jvm.MethodName)) ∈ lw_all := lw_g (lw_at lw_m7 15 rfl) rfl
theorem q1672 : (Jvm.Cond.methodLink "TranslationBureauLaw" (187 : Nat) ({ cls := "TranslationBureauLaw", name := "count", desc := "(LTranslationBureau;I[J)I" } : Jvm.MethodName)) ∈ lw_all := lw_g (lw_at lw_m7 115 rfl) rfl
theorem q1673 : (Jvm.Cond.static ({ cls := "TranslationBureauLaw", name := "count", desc := "(LTranslationBureau;I[J)I" } : Jvm.MethodName)) ∈ lw_all := lw_g (lw_at lw_m7 116 rfl) rfl
theorem q1674 : (Jvm.Cond.codeWith ({ cls := "TranslationBureauLaw", name := "count", desc := "(LTranslationBureau;I[J)I" } : Jvm.MethodName) method_5_code (4 : Nat) (Option.some Jvm.ClassFile.FieldType.int) [((0 : Nat), (9 : Nat), (12 : Nat), (13 : Nat))]) ∈ lw_all := lw_g (lw_at lw_m7 117 rfl) rfl
theorem q1675 : (Jvm.Cond.methodLink "TranslationBureauLaw" (18 : Nat) ({ cls := "TranslationBureau", name := "count", desc := "(I)I" } : Jvm.MethodName)) ∈ lw_all := lw_g (lw_at lw_m7 118 rfl) rfl
theorem q1809 : (Jvm.Cond.methodLink "TranslationBureauLaw" (190 : Nat) ({ cls := "TranslationBureauLaw", name := "setting", desc := "(LTranslationBureau;I[J)I" } : Jvm.MethodName)) ∈ lw_all := lw_g (lw_at lw_m8 12 rfl) rfl
theorem q1810 : (Jvm.Cond.static ({ cls := "TranslationBureauLaw", name := "setting", desc := "(LTranslationBureau;I[J)I" } : Jvm.MethodName)) ∈ lw_all := lw_g (lw_at lw_m8 13 rfl) rfl
theorem q1811 : (Jvm.Cond.codeWith ({ cls := "TranslationBureauLaw", name := "setting", desc := "(LTranslationBureau;I[J)I" } : Jvm.MethodName) method_6_code (4 : Nat) (Option.some Jvm.ClassFile.FieldType.int) [((0 : Nat), (9 : Nat), (12 : Nat), (13 : Nat))]) ∈ lw_all := lw_g (lw_at lw_m8 14 rfl) rfl
theorem q1812 : (Jvm.Cond.methodLink "TranslationBureauLaw" (21 : Nat) ({ cls := "TranslationBureau", name := "setting", desc := "(I)I" } : Jvm.MethodName)) ∈ lw_all := lw_g (lw_at lw_m8 15 rfl) rfl
theorem q1816 : (Jvm.Cond.methodLink "TranslationBureauLaw" (193 : Nat) ({ cls := "TranslationBureauLaw", name := "percentage", desc := "(LTranslationBureau;I[J)I" } : Jvm.MethodName)) ∈ lw_all := lw_g (lw_at lw_m8 19 rfl) rfl
theorem q1817 : (Jvm.Cond.static ({ cls := "TranslationBureauLaw", name := "percentage", desc := "(LTranslationBureau;I[J)I" } : Jvm.MethodName)) ∈ lw_all := lw_g (lw_at lw_m8 20 rfl) rfl
theorem q1818 : (Jvm.Cond.codeWith ({ cls := "TranslationBureauLaw", name := "percentage", desc := "(LTranslationBureau;I[J)I" } : Jvm.MethodName) method_7_code (4 : Nat) (Option.some Jvm.ClassFile.FieldType.int) [((0 : Nat), (9 : Nat), (12 : Nat), (27 : Nat))]) ∈ lw_all := lw_g (lw_at lw_m8 21 rfl) rfl
theorem q1819 : (Jvm.Cond.classLink "TranslationBureauLaw" (27 : Nat) "java/lang/IndexOutOfBoundsException") ∈ lw_all := lw_g (lw_at lw_m8 22 rfl) rfl
theorem q1838 : (Jvm.Cond.methodLink "TranslationBureauLaw" (24 : Nat) ({ cls := "TranslationBureau", name := "percentage", desc := "(I)I" } : Jvm.MethodName)) ∈ lw_all := lw_g (lw_at lw_m8 41 rfl) rfl
theorem q1863 : (Jvm.Cond.methodLink "TranslationBureauLaw" (196 : Nat) ({ cls := "TranslationBureauLaw", name := "find", desc := "(LTranslationBureau;I[J)I" } : Jvm.MethodName)) ∈ lw_all := lw_g (lw_at lw_m8 66 rfl) rfl
theorem q1864 : (Jvm.Cond.static ({ cls := "TranslationBureauLaw", name := "find", desc := "(LTranslationBureau;I[J)I" } : Jvm.MethodName)) ∈ lw_all := lw_g (lw_at lw_m8 67 rfl) rfl
theorem q1865 : (Jvm.Cond.codeWith ({ cls := "TranslationBureauLaw", name := "find", desc := "(LTranslationBureau;I[J)I" } : Jvm.MethodName) method_8_code (4 : Nat) (Option.some Jvm.ClassFile.FieldType.int) [((0 : Nat), (9 : Nat), (12 : Nat), (13 : Nat))]) ∈ lw_all := lw_g (lw_at lw_m8 68 rfl) rfl
theorem q1866 : (Jvm.Cond.methodLink "TranslationBureauLaw" (29 : Nat) ({ cls := "TranslationBureau", name := "find", desc := "(I)I" } : Jvm.MethodName)) ∈ lw_all := lw_g (lw_at lw_m8 69 rfl) rfl
theorem q1872 : (Jvm.Cond.methodLink "TranslationBureauLaw" (199 : Nat) ({ cls := "TranslationBureauLaw", name := "capacity", desc := "(LTranslationBureau;I[J)I" } : Jvm.MethodName)) ∈ lw_all := lw_g (lw_at lw_m8 75 rfl) rfl
theorem q1873 : (Jvm.Cond.static ({ cls := "TranslationBureauLaw", name := "capacity", desc := "(LTranslationBureau;I[J)I" } : Jvm.MethodName)) ∈ lw_all := lw_g (lw_at lw_m8 76 rfl) rfl
theorem q1874 : (Jvm.Cond.codeWith ({ cls := "TranslationBureauLaw", name := "capacity", desc := "(LTranslationBureau;I[J)I" } : Jvm.MethodName) method_9_code (4 : Nat) (Option.some Jvm.ClassFile.FieldType.int) [((0 : Nat), (9 : Nat), (12 : Nat), (27 : Nat))]) ∈ lw_all := lw_g (lw_at lw_m8 77 rfl) rfl
theorem q1875 : (Jvm.Cond.methodLink "TranslationBureauLaw" (32 : Nat) ({ cls := "TranslationBureau", name := "capacity", desc := "(I)I" } : Jvm.MethodName)) ∈ lw_all := lw_g (lw_at lw_m8 78 rfl) rfl
theorem q1887 : (Jvm.Cond.methodLink "TranslationBureauLaw" (202 : Nat) ({ cls := "TranslationBureauLaw", name := "job", desc := "(LTranslationBureau;II[J)I" } : Jvm.MethodName)) ∈ lw_all := lw_g (lw_at lw_m8 90 rfl) rfl
theorem q1888 : (Jvm.Cond.static ({ cls := "TranslationBureauLaw", name := "job", desc := "(LTranslationBureau;II[J)I" } : Jvm.MethodName)) ∈ lw_all := lw_g (lw_at lw_m8 91 rfl) rfl
theorem q1889 : (Jvm.Cond.codeWith ({ cls := "TranslationBureauLaw", name := "job", desc := "(LTranslationBureau;II[J)I" } : Jvm.MethodName) method_10_code (5 : Nat) (Option.some Jvm.ClassFile.FieldType.int) [((0 : Nat), (10 : Nat), (13 : Nat), (27 : Nat)), ((0 : Nat), (10 : Nat), (17 : Nat), (13 : Nat))]) ∈ lw_all := lw_g (lw_at lw_m8 92 rfl) rfl
theorem q1890 : (Jvm.Cond.methodLink "TranslationBureauLaw" (35 : Nat) ({ cls := "TranslationBureau", name := "job", desc := "(II)I" } : Jvm.MethodName)) ∈ lw_all := lw_g (lw_at lw_m8 93 rfl) rfl
theorem q1910 : (Jvm.Cond.methodLink "TranslationBureauLaw" (206 : Nat) ({ cls := "TranslationBureauLaw", name := "jobOf", desc := "(LTranslationBureau;I[J)I" } : Jvm.MethodName)) ∈ lw_all := lw_g (lw_at lw_m8 113 rfl) rfl
theorem q1911 : (Jvm.Cond.static ({ cls := "TranslationBureauLaw", name := "jobOf", desc := "(LTranslationBureau;I[J)I" } : Jvm.MethodName)) ∈ lw_all := lw_g (lw_at lw_m8 114 rfl) rfl
theorem q1912 : (Jvm.Cond.codeWith ({ cls := "TranslationBureauLaw", name := "jobOf", desc := "(LTranslationBureau;I[J)I" } : Jvm.MethodName) method_11_code (4 : Nat) (Option.some Jvm.ClassFile.FieldType.int) [((0 : Nat), (9 : Nat), (12 : Nat), (27 : Nat))]) ∈ lw_all := lw_g (lw_at lw_m8 115 rfl) rfl
theorem q1913 : (Jvm.Cond.methodLink "TranslationBureauLaw" (39 : Nat) ({ cls := "TranslationBureau", name := "jobOf", desc := "(I)I" } : Jvm.MethodName)) ∈ lw_all := lw_g (lw_at lw_m8 116 rfl) rfl
theorem q1922 : (Jvm.Cond.methodLink "TranslationBureauLaw" (209 : Nat) ({ cls := "TranslationBureauLaw", name := "words", desc := "(LTranslationBureau;IZ[J)I" } : Jvm.MethodName)) ∈ lw_all := lw_g (lw_at lw_m8 125 rfl) rfl
theorem q1923 : (Jvm.Cond.static ({ cls := "TranslationBureauLaw", name := "words", desc := "(LTranslationBureau;IZ[J)I" } : Jvm.MethodName)) ∈ lw_all := lw_g (lw_at lw_m8 126 rfl) rfl
theorem q1924 : (Jvm.Cond.codeWith ({ cls := "TranslationBureauLaw", name := "words", desc := "(LTranslationBureau;IZ[J)I" } : Jvm.MethodName) method_12_code (5 : Nat) (Option.some Jvm.ClassFile.FieldType.int) [((0 : Nat), (10 : Nat), (13 : Nat), (27 : Nat))]) ∈ lw_all := lw_g (lw_at lw_m8 127 rfl) rfl
theorem q1925 : (Jvm.Cond.methodLink "TranslationBureauLaw" (42 : Nat) ({ cls := "TranslationBureau", name := "words", desc := "(IZ)I" } : Jvm.MethodName)) ∈ lw_all := lw_g (lw_at lw_m8 128 rfl) rfl
theorem q1933 : (Jvm.Cond.methodLink "TranslationBureauLaw" (213 : Nat) ({ cls := "TranslationBureauLaw", name := "isSameWord", desc := "(LTranslationBureau;IIZIIZ[J)I" } : Jvm.MethodName)) ∈ lw_all := lw_g (lw_at lw_m8 136 rfl) rfl
theorem q1934 : (Jvm.Cond.static ({ cls := "TranslationBureauLaw", name := "isSameWord", desc := "(LTranslationBureau;IIZIIZ[J)I" } : Jvm.MethodName)) ∈ lw_all := lw_g (lw_at lw_m8 137 rfl) rfl
theorem q1935 : (Jvm.Cond.codeWith ({ cls := "TranslationBureauLaw", name := "isSameWord", desc := "(LTranslationBureau;IIZIIZ[J)I" } : Jvm.MethodName) method_13_code (9 : Nat) (Option.some Jvm.ClassFile.FieldType.int) [((0 : Nat), (25 : Nat), (28 : Nat), (27 : Nat))]) ∈ lw_all := lw_g (lw_at lw_m8 138 rfl) rfl
theorem q1936 : (Jvm.Cond.methodLink "TranslationBureauLaw" (46 : Nat) ({ cls := "TranslationBureau", name := "isSameWord", desc := "(IIZIIZ)Z" } : Jvm.MethodName)) ∈ lw_all := lw_g (lw_at lw_m8 139 rfl) rfl
theorem q1946 : (Jvm.Cond.methodLink "TranslationBureauLaw" (217 : Nat) ({ cls := "TranslationBureauLaw", name := "distance", desc := "(LTranslationBureau;II[J)I" } : Jvm.MethodName)) ∈ lw_all := lw_g (lw_at lw_m8 149 rfl) rfl
theorem q1947 : (Jvm.Cond.static ({ cls := "TranslationBureauLaw", name := "distance", desc := "(LTranslationBureau;II[J)I" } : Jvm.MethodName)) ∈ lw_all := lw_g (lw_at lw_m8 150 rfl) rfl
theorem q1948 : (Jvm.Cond.codeWith ({ cls := "TranslationBureauLaw", name := "distance", desc := "(LTranslationBureau;II[J)I" } : Jvm.MethodName) method_14_code (5 : Nat) (Option.some Jvm.ClassFile.FieldType.int) [((0 : Nat), (10 : Nat), (13 : Nat), (27 : Nat))]) ∈ lw_all := lw_g (lw_at lw_m8 151 rfl) rfl
theorem q1949 : (Jvm.Cond.methodLink "TranslationBureauLaw" (50 : Nat) ({ cls := "TranslationBureau", name := "distance", desc := "(II)I" } : Jvm.MethodName)) ∈ lw_all := lw_g (lw_at lw_m8 152 rfl) rfl
theorem q1954 : (Jvm.Cond.methodLink "TranslationBureauLaw" (220 : Nat) ({ cls := "TranslationBureauLaw", name := "similarity", desc := "(LTranslationBureau;II[J)I" } : Jvm.MethodName)) ∈ lw_all := lw_g (lw_at lw_m8 157 rfl) rfl
theorem q1955 : (Jvm.Cond.static ({ cls := "TranslationBureauLaw", name := "similarity", desc := "(LTranslationBureau;II[J)I" } : Jvm.MethodName)) ∈ lw_all := lw_g (lw_at lw_m8 158 rfl) rfl
theorem q1956 : (Jvm.Cond.codeWith ({ cls := "TranslationBureauLaw", name := "similarity", desc := "(LTranslationBureau;II[J)I" } : Jvm.MethodName) method_15_code (5 : Nat) (Option.some Jvm.ClassFile.FieldType.int) [((0 : Nat), (10 : Nat), (13 : Nat), (27 : Nat))]) ∈ lw_all := lw_g (lw_at lw_m8 159 rfl) rfl
theorem q1957 : (Jvm.Cond.methodLink "TranslationBureauLaw" (53 : Nat) ({ cls := "TranslationBureau", name := "similarity", desc := "(II)I" } : Jvm.MethodName)) ∈ lw_all := lw_g (lw_at lw_m8 160 rfl) rfl
theorem q1962 : (Jvm.Cond.methodLink "TranslationBureauLaw" (223 : Nat) ({ cls := "TranslationBureauLaw", name := "match", desc := "(LTranslationBureau;I[J)I" } : Jvm.MethodName)) ∈ lw_all := lw_g (lw_at lw_m8 165 rfl) rfl
theorem q1963 : (Jvm.Cond.static ({ cls := "TranslationBureauLaw", name := "match", desc := "(LTranslationBureau;I[J)I" } : Jvm.MethodName)) ∈ lw_all := lw_g (lw_at lw_m8 166 rfl) rfl
theorem q1964 : (Jvm.Cond.codeWith ({ cls := "TranslationBureauLaw", name := "match", desc := "(LTranslationBureau;I[J)I" } : Jvm.MethodName) method_16_code (4 : Nat) (Option.some Jvm.ClassFile.FieldType.int) [((0 : Nat), (9 : Nat), (12 : Nat), (27 : Nat))]) ∈ lw_all := lw_g (lw_at lw_m8 167 rfl) rfl
theorem q1965 : (Jvm.Cond.methodLink "TranslationBureauLaw" (56 : Nat) ({ cls := "TranslationBureau", name := "match", desc := "(I)I" } : Jvm.MethodName)) ∈ lw_all := lw_g (lw_at lw_m8 168 rfl) rfl
theorem q1970 : (Jvm.Cond.methodLink "TranslationBureauLaw" (226 : Nat) ({ cls := "TranslationBureauLaw", name := "model", desc := "(LTranslationBureau;I[J)I" } : Jvm.MethodName)) ∈ lw_all := lw_g (lw_at lw_m8 173 rfl) rfl
theorem q1971 : (Jvm.Cond.static ({ cls := "TranslationBureauLaw", name := "model", desc := "(LTranslationBureau;I[J)I" } : Jvm.MethodName)) ∈ lw_all := lw_g (lw_at lw_m8 174 rfl) rfl
theorem q1972 : (Jvm.Cond.codeWith ({ cls := "TranslationBureauLaw", name := "model", desc := "(LTranslationBureau;I[J)I" } : Jvm.MethodName) method_17_code (4 : Nat) (Option.some Jvm.ClassFile.FieldType.int) [((0 : Nat), (9 : Nat), (12 : Nat), (27 : Nat)), ((0 : Nat), (9 : Nat), (15 : Nat), (62 : Nat))]) ∈ lw_all := lw_g (lw_at lw_m8 175 rfl) rfl
theorem q1973 : (Jvm.Cond.classLink "TranslationBureauLaw" (62 : Nat) "java/util/NoSuchElementException") ∈ lw_all := lw_g (lw_at lw_m8 176 rfl) rfl
theorem q1974 : (Jvm.Cond.methodLink "TranslationBureauLaw" (59 : Nat) ({ cls := "TranslationBureau", name := "model", desc := "(I)I" } : Jvm.MethodName)) ∈ lw_all := lw_g (lw_at lw_m8 177 rfl) rfl
theorem q1980 : (Jvm.Cond.methodLink "TranslationBureauLaw" (229 : Nat) ({ cls := "TranslationBureauLaw", name := "band", desc := "(LTranslationBureau;I[J)I" } : Jvm.MethodName)) ∈ lw_all := lw_g (lw_at lw_m8 183 rfl) rfl
theorem q1981 : (Jvm.Cond.static ({ cls := "TranslationBureauLaw", name := "band", desc := "(LTranslationBureau;I[J)I" } : Jvm.MethodName)) ∈ lw_all := lw_g (lw_at lw_m8 184 rfl) rfl
theorem q1982 : (Jvm.Cond.codeWith ({ cls := "TranslationBureauLaw", name := "band", desc := "(LTranslationBureau;I[J)I" } : Jvm.MethodName) method_18_code (4 : Nat) (Option.some Jvm.ClassFile.FieldType.int) [((0 : Nat), (9 : Nat), (12 : Nat), (27 : Nat))]) ∈ lw_all := lw_g (lw_at lw_m8 185 rfl) rfl
theorem q1983 : (Jvm.Cond.methodLink "TranslationBureauLaw" (64 : Nat) ({ cls := "TranslationBureau", name := "band", desc := "(I)I" } : Jvm.MethodName)) ∈ lw_all := lw_g (lw_at lw_m8 186 rfl) rfl
theorem q1988 : (Jvm.Cond.methodLink "TranslationBureauLaw" (232 : Nat) ({ cls := "TranslationBureauLaw", name := "bandWords", desc := "(LTranslationBureau;II[J)I" } : Jvm.MethodName)) ∈ lw_all := lw_g (lw_at lw_m8 191 rfl) rfl
theorem q1989 : (Jvm.Cond.static ({ cls := "TranslationBureauLaw", name := "bandWords", desc := "(LTranslationBureau;II[J)I" } : Jvm.MethodName)) ∈ lw_all := lw_g (lw_at lw_m8 192 rfl) rfl
theorem q1990 : (Jvm.Cond.codeWith ({ cls := "TranslationBureauLaw", name := "bandWords", desc := "(LTranslationBureau;II[J)I" } : Jvm.MethodName) method_19_code (5 : Nat) (Option.some Jvm.ClassFile.FieldType.int) [((0 : Nat), (10 : Nat), (13 : Nat), (27 : Nat))]) ∈ lw_all := lw_g (lw_at lw_m8 193 rfl) rfl
theorem q1991 : (Jvm.Cond.methodLink "TranslationBureauLaw" (67 : Nat) ({ cls := "TranslationBureau", name := "bandWords", desc := "(II)I" } : Jvm.MethodName)) ∈ lw_all := lw_g (lw_at lw_m8 194 rfl) rfl
theorem q1996 : (Jvm.Cond.methodLink "TranslationBureauLaw" (235 : Nat) ({ cls := "TranslationBureauLaw", name := "repetitions", desc := "(LTranslationBureau;I[J)I" } : Jvm.MethodName)) ∈ lw_all := lw_g (lw_at lw_m8 199 rfl) rfl
theorem q1997 : (Jvm.Cond.static ({ cls := "TranslationBureauLaw", name := "repetitions", desc := "(LTranslationBureau;I[J)I" } : Jvm.MethodName)) ∈ lw_all := lw_g (lw_at lw_m8 200 rfl) rfl
theorem q1998 : (Jvm.Cond.codeWith ({ cls := "TranslationBureauLaw", name := "repetitions", desc := "(LTranslationBureau;I[J)I" } : Jvm.MethodName) method_20_code (4 : Nat) (Option.some Jvm.ClassFile.FieldType.int) [((0 : Nat), (9 : Nat), (12 : Nat), (27 : Nat))]) ∈ lw_all := lw_g (lw_at lw_m8 201 rfl) rfl
theorem q1999 : (Jvm.Cond.methodLink "TranslationBureauLaw" (70 : Nat) ({ cls := "TranslationBureau", name := "repetitions", desc := "(I)I" } : Jvm.MethodName)) ∈ lw_all := lw_g (lw_at lw_m8 202 rfl) rfl
theorem q2005 : (Jvm.Cond.methodLink "TranslationBureauLaw" (238 : Nat) ({ cls := "TranslationBureauLaw", name := "account", desc := "(LTranslationBureau;II[J)I" } : Jvm.MethodName)) ∈ lw_all := lw_g (lw_at lw_m8 208 rfl) rfl
theorem q2006 : (Jvm.Cond.static ({ cls := "TranslationBureauLaw", name := "account", desc := "(LTranslationBureau;II[J)I" } : Jvm.MethodName)) ∈ lw_all := lw_g (lw_at lw_m8 209 rfl) rfl
theorem q2007 : (Jvm.Cond.codeWith ({ cls := "TranslationBureauLaw", name := "account", desc := "(LTranslationBureau;II[J)I" } : Jvm.MethodName) method_21_code (5 : Nat) (Option.some Jvm.ClassFile.FieldType.int) [((0 : Nat), (10 : Nat), (13 : Nat), (27 : Nat)), ((0 : Nat), (10 : Nat), (17 : Nat), (13 : Nat))]) ∈ lw_all := lw_g (lw_at lw_m8 210 rfl) rfl
theorem q2008 : (Jvm.Cond.methodLink "TranslationBureauLaw" (73 : Nat) ({ cls := "TranslationBureau", name := "account", desc := "(II)I" } : Jvm.MethodName)) ∈ lw_all := lw_g (lw_at lw_m8 211 rfl) rfl
theorem q2013 : (Jvm.Cond.methodLink "TranslationBureauLaw" (241 : Nat) ({ cls := "TranslationBureauLaw", name := "earned", desc := "(LTranslationBureau;I[J)I" } : Jvm.MethodName)) ∈ lw_all := lw_g (lw_at lw_m8 216 rfl) rfl
theorem q2014 : (Jvm.Cond.static ({ cls := "TranslationBureauLaw", name := "earned", desc := "(LTranslationBureau;I[J)I" } : Jvm.MethodName)) ∈ lw_all := lw_g (lw_at lw_m8 217 rfl) rfl
theorem q2015 : (Jvm.Cond.codeWith ({ cls := "TranslationBureauLaw", name := "earned", desc := "(LTranslationBureau;I[J)I" } : Jvm.MethodName) method_22_code (4 : Nat) (Option.some Jvm.ClassFile.FieldType.int) [((0 : Nat), (9 : Nat), (12 : Nat), (27 : Nat))]) ∈ lw_all := lw_g (lw_at lw_m8 218 rfl) rfl
theorem q2016 : (Jvm.Cond.methodLink "TranslationBureauLaw" (76 : Nat) ({ cls := "TranslationBureau", name := "earned", desc := "(I)I" } : Jvm.MethodName)) ∈ lw_all := lw_g (lw_at lw_m8 219 rfl) rfl
theorem q2020 : (Jvm.Cond.methodLink "TranslationBureauLaw" (248 : Nat) ({ cls := "TranslationBureauLaw", name := "perWord", desc := "(LTranslationBureau;I[D)I" } : Jvm.MethodName)) ∈ lw_all := lw_g (lw_at lw_m8 223 rfl) rfl
theorem q2021 : (Jvm.Cond.static ({ cls := "TranslationBureauLaw", name := "perWord", desc := "(LTranslationBureau;I[D)I" } : Jvm.MethodName)) ∈ lw_all := lw_g (lw_at lw_m8 224 rfl) rfl
theorem q2022 : (Jvm.Cond.codeWith ({ cls := "TranslationBureauLaw", name := "perWord", desc := "(LTranslationBureau;I[D)I" } : Jvm.MethodName) method_23_code (4 : Nat) (Option.some Jvm.ClassFile.FieldType.int) [((0 : Nat), (8 : Nat), (11 : Nat), (27 : Nat))]) ∈ lw_all := lw_g (lw_at lw_m8 225 rfl) rfl
theorem q2023 : (Jvm.Cond.methodLink "TranslationBureauLaw" (79 : Nat) ({ cls := "TranslationBureau", name := "perWord", desc := "(I)D" } : Jvm.MethodName)) ∈ lw_all := lw_g (lw_at lw_m8 226 rfl) rfl
theorem q2027 : (Jvm.Cond.methodLink "TranslationBureauLaw" (252 : Nat) ({ cls := "TranslationBureauLaw", name := "loadOf", desc := "(LTranslationBureau;I[J)I" } : Jvm.MethodName)) ∈ lw_all := lw_g (lw_at lw_m8 230 rfl) rfl
theorem q2028 : (Jvm.Cond.static ({ cls := "TranslationBureauLaw", name := "loadOf", desc := "(LTranslationBureau;I[J)I" } : Jvm.MethodName)) ∈ lw_all := lw_g (lw_at lw_m8 231 rfl) rfl
theorem q2029 : (Jvm.Cond.codeWith ({ cls := "TranslationBureauLaw", name := "loadOf", desc := "(LTranslationBureau;I[J)I" } : Jvm.MethodName) method_24_code (4 : Nat) (Option.some Jvm.ClassFile.FieldType.int) [((0 : Nat), (9 : Nat), (12 : Nat), (27 : Nat))]) ∈ lw_all := lw_g (lw_at lw_m8 232 rfl) rfl
theorem q2030 : (Jvm.Cond.methodLink "TranslationBureauLaw" (83 : Nat) ({ cls := "TranslationBureau", name := "loadOf", desc := "(I)I" } : Jvm.MethodName)) ∈ lw_all := lw_g (lw_at lw_m8 233 rfl) rfl
theorem q2041 : (Jvm.Cond.methodLink "TranslationBureauLaw" (255 : Nat) ({ cls := "TranslationBureauLaw", name := "isOverloaded", desc := "(LTranslationBureau;I[J)I" } : Jvm.MethodName)) ∈ lw_all := lw_g (lw_at lw_m9 4 rfl) rfl
theorem q2042 : (Jvm.Cond.static ({ cls := "TranslationBureauLaw", name := "isOverloaded", desc := "(LTranslationBureau;I[J)I" } : Jvm.MethodName)) ∈ lw_all := lw_g (lw_at lw_m9 5 rfl) rfl
theorem q2043 : (Jvm.Cond.codeWith ({ cls := "TranslationBureauLaw", name := "isOverloaded", desc := "(LTranslationBureau;I[J)I" } : Jvm.MethodName) method_25_code (4 : Nat) (Option.some Jvm.ClassFile.FieldType.int) [((0 : Nat), (16 : Nat), (19 : Nat), (27 : Nat))]) ∈ lw_all := lw_g (lw_at lw_m9 6 rfl) rfl
theorem q2044 : (Jvm.Cond.methodLink "TranslationBureauLaw" (86 : Nat) ({ cls := "TranslationBureau", name := "isOverloaded", desc := "(I)Z" } : Jvm.MethodName)) ∈ lw_all := lw_g (lw_at lw_m9 7 rfl) rfl
theorem q2049 : (Jvm.Cond.methodLink "TranslationBureauLaw" (258 : Nat) ({ cls := "TranslationBureauLaw", name := "pairs", desc := "(LTranslationBureau;II[J)I" } : Jvm.MethodName)) ∈ lw_all := lw_g (lw_at lw_m9 12 rfl) rfl
theorem q2050 : (Jvm.Cond.static ({ cls := "TranslationBureauLaw", name := "pairs", desc := "(LTranslationBureau;II[J)I" } : Jvm.MethodName)) ∈ lw_all := lw_g (lw_at lw_m9 13 rfl) rfl
theorem q2051 : (Jvm.Cond.codeWith ({ cls := "TranslationBureauLaw", name := "pairs", desc := "(LTranslationBureau;II[J)I" } : Jvm.MethodName) method_26_code (5 : Nat) (Option.some Jvm.ClassFile.FieldType.int) [((0 : Nat), (10 : Nat), (13 : Nat), (27 : Nat))]) ∈ lw_all := lw_g (lw_at lw_m9 14 rfl) rfl
theorem q2052 : (Jvm.Cond.methodLink "TranslationBureauLaw" (90 : Nat) ({ cls := "TranslationBureau", name := "pairs", desc := "(II)I" } : Jvm.MethodName)) ∈ lw_all := lw_g (lw_at lw_m9 15 rfl) rfl
theorem q2056 : (Jvm.Cond.methodLink "TranslationBureauLaw" (265 : Nat) ({ cls := "TranslationBureauLaw", name := "suggested", desc := "(LTranslationBureau;I[J)I" } : Jvm.MethodName)) ∈ lw_all := lw_g (lw_at lw_m9 19 rfl) rfl
theorem q2057 : (Jvm.Cond.static ({ cls := "TranslationBureauLaw", name := "suggested", desc := "(LTranslationBureau;I[J)I" } : Jvm.MethodName)) ∈ lw_all := lw_g (lw_at lw_m9 20 rfl) rfl
theorem q2058 : (Jvm.Cond.codeWith ({ cls := "TranslationBureauLaw", name := "suggested", desc := "(LTranslationBureau;I[J)I" } : Jvm.MethodName) method_27_code (4 : Nat) (Option.some Jvm.ClassFile.FieldType.int) [((0 : Nat), (9 : Nat), (12 : Nat), (27 : Nat))]) ∈ lw_all := lw_g (lw_at lw_m9 21 rfl) rfl
theorem q2059 : (Jvm.Cond.methodLink "TranslationBureauLaw" (93 : Nat) ({ cls := "TranslationBureau", name := "suggested", desc := "(I)I" } : Jvm.MethodName)) ∈ lw_all := lw_g (lw_at lw_m9 22 rfl) rfl
theorem q2069 : (Jvm.Cond.methodLink "TranslationBureauLaw" (268 : Nat) ({ cls := "TranslationBureauLaw", name := "version", desc := "(LTranslationBureau;I[J)I" } : Jvm.MethodName)) ∈ lw_all := lw_g (lw_at lw_m9 32 rfl) rfl
theorem q2070 : (Jvm.Cond.static ({ cls := "TranslationBureauLaw", name := "version", desc := "(LTranslationBureau;I[J)I" } : Jvm.MethodName)) ∈ lw_all := lw_g (lw_at lw_m9 33 rfl) rfl
theorem q2071 : (Jvm.Cond.codeWith ({ cls := "TranslationBureauLaw", name := "version", desc := "(LTranslationBureau;I[J)I" } : Jvm.MethodName) method_28_code (4 : Nat) (Option.some Jvm.ClassFile.FieldType.int) [((0 : Nat), (9 : Nat), (12 : Nat), (27 : Nat))]) ∈ lw_all := lw_g (lw_at lw_m9 34 rfl) rfl
theorem q2072 : (Jvm.Cond.methodLink "TranslationBureauLaw" (96 : Nat) ({ cls := "TranslationBureau", name := "version", desc := "(I)I" } : Jvm.MethodName)) ∈ lw_all := lw_g (lw_at lw_m9 35 rfl) rfl
theorem q2081 : (Jvm.Cond.methodLink "TranslationBureauLaw" (271 : Nat) ({ cls := "TranslationBureauLaw", name := "rule", desc := "(LTranslationBureau;II[J)I" } : Jvm.MethodName)) ∈ lw_all := lw_g (lw_at lw_m9 44 rfl) rfl
theorem q2082 : (Jvm.Cond.static ({ cls := "TranslationBureauLaw", name := "rule", desc := "(LTranslationBureau;II[J)I" } : Jvm.MethodName)) ∈ lw_all := lw_g (lw_at lw_m9 45 rfl) rfl
theorem q2083 : (Jvm.Cond.codeWith ({ cls := "TranslationBureauLaw", name := "rule", desc := "(LTranslationBureau;II[J)I" } : Jvm.MethodName) method_29_code (5 : Nat) (Option.some Jvm.ClassFile.FieldType.int) [((0 : Nat), (10 : Nat), (13 : Nat), (27 : Nat))]) ∈ lw_all := lw_g (lw_at lw_m9 46 rfl) rfl
theorem q2084 : (Jvm.Cond.methodLink "TranslationBureauLaw" (99 : Nat) ({ cls := "TranslationBureau", name := "rule", desc := "(II)I" } : Jvm.MethodName)) ∈ lw_all := lw_g (lw_at lw_m9 47 rfl) rfl
theorem q2089 : (Jvm.Cond.methodLink "TranslationBureauLaw" (274 : Nat) ({ cls := "TranslationBureauLaw", name := "uses", desc := "(LTranslationBureau;I[J)I" } : Jvm.MethodName)) ∈ lw_all := lw_g (lw_at lw_m9 52 rfl) rfl
theorem q2090 : (Jvm.Cond.static ({ cls := "TranslationBureauLaw", name := "uses", desc := "(LTranslationBureau;I[J)I" } : Jvm.MethodName)) ∈ lw_all := lw_g (lw_at lw_m9 53 rfl) rfl
theorem q2091 : (Jvm.Cond.codeWith ({ cls := "TranslationBureauLaw", name := "uses", desc := "(LTranslationBureau;I[J)I" } : Jvm.MethodName) method_30_code (4 : Nat) (Option.some Jvm.ClassFile.FieldType.int) [((0 : Nat), (9 : Nat), (12 : Nat), (27 : Nat))]) ∈ lw_all := lw_g (lw_at lw_m9 54 rfl) rfl
theorem q2092 : (Jvm.Cond.methodLink "TranslationBureauLaw" (102 : Nat) ({ cls := "TranslationBureau", name := "uses", desc := "(I)I" } : Jvm.MethodName)) ∈ lw_all := lw_g (lw_at lw_m9 55 rfl) rfl
theorem q2100 : (Jvm.Cond.methodLink "TranslationBureauLaw" (277 : Nat) ({ cls := "TranslationBureauLaw", name := "finding", desc := "(LTranslationBureau;II[J)I" } : Jvm.MethodName)) ∈ lw_all := lw_g (lw_at lw_m9 63 rfl) rfl
theorem q2101 : (Jvm.Cond.static ({ cls := "TranslationBureauLaw", name := "finding", desc := "(LTranslationBureau;II[J)I" } : Jvm.MethodName)) ∈ lw_all := lw_g (lw_at lw_m9 64 rfl) rfl
theorem q2102 : (Jvm.Cond.codeWith ({ cls := "TranslationBureauLaw", name := "finding", desc := "(LTranslationBureau;II[J)I" } : Jvm.MethodName) method_31_code (5 : Nat) (Option.some Jvm.ClassFile.FieldType.int) [((0 : Nat), (10 : Nat), (13 : Nat), (27 : Nat)), ((0 : Nat), (10 : Nat), (17 : Nat), (13 : Nat))]) ∈ lw_all := lw_g (lw_at lw_m9 65 rfl) rfl
theorem q2103 : (Jvm.Cond.methodLink "TranslationBureauLaw" (105 : Nat) ({ cls := "TranslationBureau", name := "finding", desc := "(II)I" } : Jvm.MethodName)) ∈ lw_all := lw_g (lw_at lw_m9 66 rfl) rfl
theorem q2136 : (Jvm.Cond.methodLink "TranslationBureauLaw" (280 : Nat) ({ cls := "TranslationBureauLaw", name := "findings", desc := "(LTranslationBureau;II[J)I" } : Jvm.MethodName)) ∈ lw_all := lw_g (lw_at lw_m9 99 rfl) rfl
theorem q2137 : (Jvm.Cond.static ({ cls := "TranslationBureauLaw", name := "findings", desc := "(LTranslationBureau;II[J)I" } : Jvm.MethodName)) ∈ lw_all := lw_g (lw_at lw_m9 100 rfl) rfl
theorem q2138 : (Jvm.Cond.codeWith ({ cls := "TranslationBureauLaw", name := "findings", desc := "(LTranslationBureau;II[J)I" } : Jvm.MethodName) method_32_code (5 : Nat) (Option.some Jvm.ClassFile.FieldType.int) [((0 : Nat), (10 : Nat), (13 : Nat), (27 : Nat)), ((0 : Nat), (10 : Nat), (17 : Nat), (13 : Nat))]) ∈ lw_all := lw_g (lw_at lw_m9 101 rfl) rfl
theorem q2139 : (Jvm.Cond.methodLink "TranslationBureauLaw" (108 : Nat) ({ cls := "TranslationBureau", name := "findings", desc := "(II)I" } : Jvm.MethodName)) ∈ lw_all := lw_g (lw_at lw_m9 102 rfl) rfl
theorem q2150 : (Jvm.Cond.methodLink "TranslationBureauLaw" (283 : Nat) ({ cls := "TranslationBureauLaw", name := "clean", desc := "(LTranslationBureau;I[J)I" } : Jvm.MethodName)) ∈ lw_all := lw_g (lw_at lw_m9 113 rfl) rfl
theorem q2151 : (Jvm.Cond.static ({ cls := "TranslationBureauLaw", name := "clean", desc := "(LTranslationBureau;I[J)I" } : Jvm.MethodName)) ∈ lw_all := lw_g (lw_at lw_m9 114 rfl) rfl
theorem q2152 : (Jvm.Cond.codeWith ({ cls := "TranslationBureauLaw", name := "clean", desc := "(LTranslationBureau;I[J)I" } : Jvm.MethodName) method_33_code (4 : Nat) (Option.some Jvm.ClassFile.FieldType.int) [((0 : Nat), (9 : Nat), (12 : Nat), (62 : Nat))]) ∈ lw_all := lw_g (lw_at lw_m9 115 rfl) rfl
theorem q2153 : (Jvm.Cond.methodLink "TranslationBureauLaw" (111 : Nat) ({ cls := "TranslationBureau", name := "clean", desc := "(I)I" } : Jvm.MethodName)) ∈ lw_all := lw_g (lw_at lw_m9 116 rfl) rfl
theorem q2158 : (Jvm.Cond.methodLink "TranslationBureauLaw" (286 : Nat) ({ cls := "TranslationBureauLaw", name := "without", desc := "(LTranslationBureau;I[J)I" } : Jvm.MethodName)) ∈ lw_all := lw_g (lw_at lw_m9 121 rfl) rfl
theorem q2159 : (Jvm.Cond.static ({ cls := "TranslationBureauLaw", name := "without", desc := "(LTranslationBureau;I[J)I" } : Jvm.MethodName)) ∈ lw_all := lw_g (lw_at lw_m9 122 rfl) rfl
theorem q2160 : (Jvm.Cond.codeWith ({ cls := "TranslationBureauLaw", name := "without", desc := "(LTranslationBureau;I[J)I" } : Jvm.MethodName) method_34_code (4 : Nat) (Option.some Jvm.ClassFile.FieldType.int) [((0 : Nat), (9 : Nat), (12 : Nat), (27 : Nat))]) ∈ lw_all := lw_g (lw_at lw_m9 123 rfl) rfl
theorem q2161 : (Jvm.Cond.methodLink "TranslationBureauLaw" (114 : Nat) ({ cls := "TranslationBureau", name := "without", desc := "(I)I" } : Jvm.MethodName)) ∈ lw_all := lw_g (lw_at lw_m9 124 rfl) rfl
theorem q2183 : (Jvm.Cond.methodLink "TranslationBureauLaw" (289 : Nat) ({ cls := "TranslationBureauLaw", name := "alone", desc := "(LTranslationBureau;I[J)I" } : Jvm.MethodName)) ∈ lw_all := lw_g (lw_at lw_m9 146 rfl) rfl
theorem q2184 : (Jvm.Cond.static ({ cls := "TranslationBureauLaw", name := "alone", desc := "(LTranslationBureau;I[J)I" } : Jvm.MethodName)) ∈ lw_all := lw_g (lw_at lw_m9 147 rfl) rfl
theorem q2185 : (Jvm.Cond.codeWith ({ cls := "TranslationBureauLaw", name := "alone", desc := "(LTranslationBureau;I[J)I" } : Jvm.MethodName) method_35_code (4 : Nat) (Option.some Jvm.ClassFile.FieldType.int) [((0 : Nat), (9 : Nat), (12 : Nat), (27 : Nat))]) ∈ lw_all := lw_g (lw_at lw_m9 148 rfl) rfl
theorem q2186 : (Jvm.Cond.methodLink "TranslationBureauLaw" (117 : Nat) ({ cls := "TranslationBureau", name := "alone", desc := "(I)I" } : Jvm.MethodName)) ∈ lw_all := lw_g (lw_at lw_m9 149 rfl) rfl
theorem q2204 : (Jvm.Cond.methodLink "TranslationBureauLaw" (292 : Nat) ({ cls := "TranslationBureauLaw", name := "tightest", desc := "(LTranslationBureau;I[J)I" } : Jvm.MethodName)) ∈ lw_all := lw_g (lw_at lw_m9 167 rfl) rfl
theorem q2205 : (Jvm.Cond.static ({ cls := "TranslationBureauLaw", name := "tightest", desc := "(LTranslationBureau;I[J)I" } : Jvm.MethodName)) ∈ lw_all := lw_g (lw_at lw_m9 168 rfl) rfl
theorem q2206 : (Jvm.Cond.codeWith ({ cls := "TranslationBureauLaw", name := "tightest", desc := "(LTranslationBureau;I[J)I" } : Jvm.MethodName) method_36_code (4 : Nat) (Option.some Jvm.ClassFile.FieldType.int) [((0 : Nat), (9 : Nat), (12 : Nat), (27 : Nat))]) ∈ lw_all := lw_g (lw_at lw_m9 169 rfl) rfl
theorem q2207 : (Jvm.Cond.methodLink "TranslationBureauLaw" (120 : Nat) ({ cls := "TranslationBureau", name := "tightest", desc := "(I)I" } : Jvm.MethodName)) ∈ lw_all := lw_g (lw_at lw_m9 170 rfl) rfl
theorem q2212 : (Jvm.Cond.methodLink "TranslationBureauLaw" (295 : Nat) ({ cls := "TranslationBureauLaw", name := "bestFollowed", desc := "(LTranslationBureau;I[J)I" } : Jvm.MethodName)) ∈ lw_all := lw_g (lw_at lw_m9 175 rfl) rfl
theorem q2213 : (Jvm.Cond.static ({ cls := "TranslationBureauLaw", name := "bestFollowed", desc := "(LTranslationBureau;I[J)I" } : Jvm.MethodName)) ∈ lw_all := lw_g (lw_at lw_m9 176 rfl) rfl
theorem q2214 : (Jvm.Cond.codeWith ({ cls := "TranslationBureauLaw", name := "bestFollowed", desc := "(LTranslationBureau;I[J)I" } : Jvm.MethodName) method_37_code (4 : Nat) (Option.some Jvm.ClassFile.FieldType.int) [((0 : Nat), (9 : Nat), (12 : Nat), (27 : Nat))]) ∈ lw_all := lw_g (lw_at lw_m9 177 rfl) rfl
theorem q2215 : (Jvm.Cond.methodLink "TranslationBureauLaw" (123 : Nat) ({ cls := "TranslationBureau", name := "bestFollowed", desc := "(I)I" } : Jvm.MethodName)) ∈ lw_all := lw_g (lw_at lw_m9 178 rfl) rfl
theorem q2223 : (Jvm.Cond.methodLink "TranslationBureauLaw" (298 : Nat) ({ cls := "TranslationBureauLaw", name := "removeSegment", desc := "(LTranslationBureau;I[J)I" } : Jvm.MethodName)) ∈ lw_all := lw_g (lw_at lw_m9 186 rfl) rfl
theorem q2224 : (Jvm.Cond.static ({ cls := "TranslationBureauLaw", name := "removeSegment", desc := "(LTranslationBureau;I[J)I" } : Jvm.MethodName)) ∈ lw_all := lw_g (lw_at lw_m9 187 rfl) rfl
theorem q2225 : (Jvm.Cond.codeWith ({ cls := "TranslationBureauLaw", name := "removeSegment", desc := "(LTranslationBureau;I[J)I" } : Jvm.MethodName) method_38_code (4 : Nat) (Option.some Jvm.ClassFile.FieldType.int) [((0 : Nat), (9 : Nat), (12 : Nat), (27 : Nat))]) ∈ lw_all := lw_g (lw_at lw_m9 188 rfl) rfl
theorem q2226 : (Jvm.Cond.methodLink "TranslationBureauLaw" (126 : Nat) ({ cls := "TranslationBureau", name := "removeSegment", desc := "(I)I" } : Jvm.MethodName)) ∈ lw_all := lw_g (lw_at lw_m9 189 rfl) rfl
theorem q2230 : (Jvm.Cond.methodLink "TranslationBureauLaw" (301 : Nat) ({ cls := "TranslationBureauLaw", name := "moveSegment", desc := "(LTranslationBureau;II[J)I" } : Jvm.MethodName)) ∈ lw_all := lw_g (lw_at lw_m9 193 rfl) rfl
theorem q2231 : (Jvm.Cond.static ({ cls := "TranslationBureauLaw", name := "moveSegment", desc := "(LTranslationBureau;II[J)I" } : Jvm.MethodName)) ∈ lw_all := lw_g (lw_at lw_m9 194 rfl) rfl
theorem q2232 : (Jvm.Cond.codeWith ({ cls := "TranslationBureauLaw", name := "moveSegment", desc := "(LTranslationBureau;II[J)I" } : Jvm.MethodName) method_39_code (5 : Nat) (Option.some Jvm.ClassFile.FieldType.int) [((0 : Nat), (10 : Nat), (13 : Nat), (27 : Nat))]) ∈ lw_all := lw_g (lw_at lw_m9 195 rfl) rfl
theorem q2233 : (Jvm.Cond.methodLink "TranslationBureauLaw" (129 : Nat) ({ cls := "TranslationBureau", name := "moveSegment", desc := "(II)I" } : Jvm.MethodName)) ∈ lw_all := lw_g (lw_at lw_m9 196 rfl) rfl
theorem q2263 : (Jvm.Cond.methodLink "TranslationBureauLaw" (304 : Nat) ({ cls := "TranslationBureauLaw", name := "setJob", desc := "(LTranslationBureau;IIII[J)I" } : Jvm.MethodName)) ∈ lw_all := lw_g (lw_at lw_m9 226 rfl) rfl
theorem q2264 : (Jvm.Cond.static ({ cls := "TranslationBureauLaw", name := "setJob", desc := "(LTranslationBureau;IIII[J)I" } : Jvm.MethodName)) ∈ lw_all := lw_g (lw_at lw_m9 227 rfl) rfl
theorem q2265 : (Jvm.Cond.codeWith ({ cls := "TranslationBureauLaw", name := "setJob", desc := "(LTranslationBureau;IIII[J)I" } : Jvm.MethodName) method_40_code (7 : Nat) (Option.some Jvm.ClassFile.FieldType.int) [((0 : Nat), (14 : Nat), (17 : Nat), (27 : Nat)), ((0 : Nat), (14 : Nat), (21 : Nat), (13 : Nat)), ((0 : Nat), (14 : Nat), (25 : Nat), (136 : Nat))]) ∈ lw_all := lw_g (lw_at lw_m9 228 rfl) rfl
theorem q2266 : (Jvm.Cond.classLink "TranslationBureauLaw" (136 : Nat) "java/lang/IllegalStateException") ∈ lw_all := lw_g (lw_at lw_m9 229 rfl) rfl
theorem q2267 : (Jvm.Cond.methodLink "TranslationBureauLaw" (132 : Nat) ({ cls := "TranslationBureau", name := "setJob", desc := "(IIII)I" } : Jvm.MethodName)) ∈ lw_all := lw_g (lw_at lw_m9 230 rfl) rfl
theorem q2283 : (Jvm.Cond.methodLink "TranslationBureauLaw" (308 : Nat) ({ cls := "TranslationBureauLaw", name := "setFollowed", desc := "(LTranslationBureau;II[J)I" } : Jvm.MethodName)) ∈ lw_all := lw_g (lw_at lw_m10 6 rfl) rfl
theorem q2284 : (Jvm.Cond.static ({ cls := "TranslationBureauLaw", name := "setFollowed", desc := "(LTranslationBureau;II[J)I" } : Jvm.MethodName)) ∈ lw_all := lw_g (lw_at lw_m10 7 rfl) rfl
theorem q2285 : (Jvm.Cond.codeWith ({ cls := "TranslationBureauLaw", name := "setFollowed", desc := "(LTranslationBureau;II[J)I" } : Jvm.MethodName) method_41_code (5 : Nat) (Option.some Jvm.ClassFile.FieldType.int) [((0 : Nat), (10 : Nat), (13 : Nat), (27 : Nat)), ((0 : Nat), (10 : Nat), (17 : Nat), (13 : Nat))]) ∈ lw_all := lw_g (lw_at lw_m10 8 rfl) rfl
theorem q2286 : (Jvm.Cond.methodLink "TranslationBureauLaw" (138 : Nat) ({ cls := "TranslationBureau", name := "setFollowed", desc := "(II)I" } : Jvm.MethodName)) ∈ lw_all := lw_g (lw_at lw_m10 9 rfl) rfl
theorem q2290 : (Jvm.Cond.methodLink "TranslationBureauLaw" (311 : Nat) ({ cls := "TranslationBureauLaw", name := "setBand", desc := "(LTranslationBureau;II[J)I" } : Jvm.MethodName)) ∈ lw_all := lw_g (lw_at lw_m10 13 rfl) rfl
theorem q2291 : (Jvm.Cond.static ({ cls := "TranslationBureauLaw", name := "setBand", desc := "(LTranslationBureau;II[J)I" } : Jvm.MethodName)) ∈ lw_all := lw_g (lw_at lw_m10 14 rfl) rfl
theorem q2292 : (Jvm.Cond.codeWith ({ cls := "TranslationBureauLaw", name := "setBand", desc := "(LTranslationBureau;II[J)I" } : Jvm.MethodName) method_42_code (5 : Nat) (Option.some Jvm.ClassFile.FieldType.int) [((0 : Nat), (10 : Nat), (13 : Nat), (27 : Nat)), ((0 : Nat), (10 : Nat), (17 : Nat), (13 : Nat))]) ∈ lw_all := lw_g (lw_at lw_m10 15 rfl) rfl
theorem q2293 : (Jvm.Cond.methodLink "TranslationBureauLaw" (141 : Nat) ({ cls := "TranslationBureau", name := "setBand", desc := "(II)I" } : Jvm.MethodName)) ∈ lw_all := lw_g (lw_at lw_m10 16 rfl) rfl
theorem q2298 : (Jvm.Cond.methodLink "TranslationBureauLaw" (314 : Nat) ({ cls := "TranslationBureauLaw", name := "setSetting", desc := "(LTranslationBureau;II[J)I" } : Jvm.MethodName)) ∈ lw_all := lw_g (lw_at lw_m10 21 rfl) rfl
theorem q2299 : (Jvm.Cond.static ({ cls := "TranslationBureauLaw", name := "setSetting", desc := "(LTranslationBureau;II[J)I" } : Jvm.MethodName)) ∈ lw_all := lw_g (lw_at lw_m10 22 rfl) rfl
theorem q2300 : (Jvm.Cond.codeWith ({ cls := "TranslationBureauLaw", name := "setSetting", desc := "(LTranslationBureau;II[J)I" } : Jvm.MethodName) method_43_code (5 : Nat) (Option.some Jvm.ClassFile.FieldType.int) [((0 : Nat), (10 : Nat), (13 : Nat), (13 : Nat))]) ∈ lw_all := lw_g (lw_at lw_m10 23 rfl) rfl
theorem q2301 : (Jvm.Cond.methodLink "TranslationBureauLaw" (144 : Nat) ({ cls := "TranslationBureau", name := "setSetting", desc := "(II)I" } : Jvm.MethodName)) ∈ lw_all := lw_g (lw_at lw_m10 24 rfl) rfl
theorem q2308 : (Jvm.Cond.methodLink "TranslationBureauLaw" (317 : Nat) ({ cls := "TranslationBureauLaw", name := "swapTargets", desc := "(LTranslationBureau;II[J)I" } : Jvm.MethodName)) ∈ lw_all := lw_g (lw_at lw_m10 31 rfl) rfl
theorem q2309 : (Jvm.Cond.static ({ cls := "TranslationBureauLaw", name := "swapTargets", desc := "(LTranslationBureau;II[J)I" } : Jvm.MethodName)) ∈ lw_all := lw_g (lw_at lw_m10 32 rfl) rfl
theorem q2310 : (Jvm.Cond.codeWith ({ cls := "TranslationBureauLaw", name := "swapTargets", desc := "(LTranslationBureau;II[J)I" } : Jvm.MethodName) method_44_code (5 : Nat) (Option.some Jvm.ClassFile.FieldType.int) [((0 : Nat), (10 : Nat), (13 : Nat), (27 : Nat))]) ∈ lw_all := lw_g (lw_at lw_m10 33 rfl) rfl
theorem q2311 : (Jvm.Cond.methodLink "TranslationBureauLaw" (147 : Nat) ({ cls := "TranslationBureau", name := "swapTargets", desc := "(II)I" } : Jvm.MethodName)) ∈ lw_all := lw_g (lw_at lw_m10 34 rfl) rfl
theorem q2330 : (Jvm.Cond.methodLink "TranslationBureauLaw" (324 : Nat) ({ cls := "TranslationBureauLaw", name := "write", desc := "(LTranslationBureau;I[J)I" } : Jvm.MethodName)) ∈ lw_all := lw_g (lw_at lw_m10 53 rfl) rfl
theorem q2331 : (Jvm.Cond.static ({ cls := "TranslationBureauLaw", name := "write", desc := "(LTranslationBureau;I[J)I" } : Jvm.MethodName)) ∈ lw_all := lw_g (lw_at lw_m10 54 rfl) rfl
theorem q2332 : (Jvm.Cond.codeWith ({ cls := "TranslationBureauLaw", name := "write", desc := "(LTranslationBureau;I[J)I" } : Jvm.MethodName) method_45_code (4 : Nat) (Option.some Jvm.ClassFile.FieldType.int) [((0 : Nat), (9 : Nat), (12 : Nat), (27 : Nat))]) ∈ lw_all := lw_g (lw_at lw_m10 55 rfl) rfl
theorem q2333 : (Jvm.Cond.methodLink "TranslationBureauLaw" (150 : Nat) ({ cls := "TranslationBureau", name := "write", desc := "(I)I" } : Jvm.MethodName)) ∈ lw_all := lw_g (lw_at lw_m10 56 rfl) rfl
theorem q2399 : (Jvm.Cond.methodLink "TranslationBureauLaw" (327 : Nat) ({ cls := "TranslationBureauLaw", name := "written", desc := "(LTranslationBureau;I[J)I" } : Jvm.MethodName)) ∈ lw_all := lw_g (lw_at lw_m10 122 rfl) rfl
theorem q2400 : (Jvm.Cond.static ({ cls := "TranslationBureauLaw", name := "written", desc := "(LTranslationBureau;I[J)I" } : Jvm.MethodName)) ∈ lw_all := lw_g (lw_at lw_m10 123 rfl) rfl
theorem q2401 : (Jvm.Cond.codeWith ({ cls := "TranslationBureauLaw", name := "written", desc := "(LTranslationBureau;I[J)I" } : Jvm.MethodName) method_46_code (4 : Nat) (Option.some Jvm.ClassFile.FieldType.int) [((0 : Nat), (9 : Nat), (12 : Nat), (27 : Nat))]) ∈ lw_all := lw_g (lw_at lw_m10 124 rfl) rfl
theorem q2402 : (Jvm.Cond.methodLink "TranslationBureauLaw" (153 : Nat) ({ cls := "TranslationBureau", name := "written", desc := "(I)C" } : Jvm.MethodName)) ∈ lw_all := lw_g (lw_at lw_m10 125 rfl) rfl
theorem q2416 : (Jvm.Cond.classLink "TranslationBureauLaw" (158 : Nat) "TranslationBureauModel") ∈ lw_all := lw_g (lw_at lw_m10 139 rfl) rfl
theorem q2418 : (Jvm.Cond.methodLink "TranslationBureauLaw" (160 : Nat) ({ cls := "TranslationBureauModel", name := "<init>", desc := "()V" } : Jvm.MethodName)) ∈ lw_all := lw_g (lw_at lw_m10 141 rfl) rfl
theorem q2508 : (Jvm.Cond.methodLink "TranslationBureauLaw" (172 : Nat) ({ cls := "TranslationBureauModel", name := "thrown", desc := "()I" } : Jvm.MethodName)) ∈ lw_all := lw_g (lw_at lw_m10 231 rfl) rfl
theorem q2512 : (Jvm.Cond.methodLink "TranslationBureauLaw" (323 : Nat) ({ cls := "TranslationBureauModel", name := "undo", desc := "()I" } : Jvm.MethodName)) ∈ lw_all := lw_g (lw_at lw_m10 235 rfl) rfl
theorem q2516 : (Jvm.Cond.methodLink "TranslationBureauLaw" (165 : Nat) ({ cls := "TranslationBureauModel", name := "feed", desc := "(IIIII)I" } : Jvm.MethodName)) ∈ lw_all := lw_g (lw_at lw_m10 239 rfl) rfl
theorem q2524 : (Jvm.Cond.methodLink "TranslationBureauLaw" (171 : Nat) ({ cls := "TranslationBureauModel", name := "load", desc := "(I)I" } : Jvm.MethodName)) ∈ lw_all := lw_g (lw_at lw_m11 7 rfl) rfl
theorem q2676 : (Jvm.Cond.methodLink "TranslationBureauLaw" (178 : Nat) ({ cls := "TranslationBureauModel", name := "extend", desc := "(I)I" } : Jvm.MethodName)) ∈ lw_all := lw_g (lw_at lw_m11 159 rfl) rfl
theorem q2684 : (Jvm.Cond.methodLink "TranslationBureauLaw" (182 : Nat) ({ cls := "TranslationBureauModel", name := "errorKind", desc := "()I" } : Jvm.MethodName)) ∈ lw_all := lw_g (lw_at lw_m11 167 rfl) rfl
theorem q2688 : (Jvm.Cond.methodLink "TranslationBureauLaw" (186 : Nat) ({ cls := "TranslationBureauModel", name := "errorPosition", desc := "()I" } : Jvm.MethodName)) ∈ lw_all := lw_g (lw_at lw_m11 171 rfl) rfl
theorem q2692 : (Jvm.Cond.methodLink "TranslationBureauLaw" (198 : Nat) ({ cls := "TranslationBureauModel", name := "find", desc := "(I)I" } : Jvm.MethodName)) ∈ lw_all := lw_g (lw_at lw_m11 175 rfl) rfl
theorem q2696 : (Jvm.Cond.methodLink "TranslationBureauLaw" (189 : Nat) ({ cls := "TranslationBureauModel", name := "count", desc := "(I)I" } : Jvm.MethodName)) ∈ lw_all := lw_g (lw_at lw_m11 179 rfl) rfl
theorem q2778 : (Jvm.Cond.methodLink "TranslationBureauLaw" (192 : Nat) ({ cls := "TranslationBureauModel", name := "setting", desc := "(I)I" } : Jvm.MethodName)) ∈ lw_all := lw_g (lw_at lw_m12 21 rfl) rfl
theorem q2783 : (Jvm.Cond.methodLink "TranslationBureauLaw" (195 : Nat) ({ cls := "TranslationBureauModel", name := "percentage", desc := "(I)I" } : Jvm.MethodName)) ∈ lw_all := lw_g (lw_at lw_m12 26 rfl) rfl
theorem q2790 : (Jvm.Cond.methodLink "TranslationBureauLaw" (201 : Nat) ({ cls := "TranslationBureauModel", name := "capacity", desc := "(I)I" } : Jvm.MethodName)) ∈ lw_all := lw_g (lw_at lw_m12 33 rfl) rfl
theorem q2798 : (Jvm.Cond.methodLink "TranslationBureauLaw" (205 : Nat) ({ cls := "TranslationBureauModel", name := "job", desc := "(II)I" } : Jvm.MethodName)) ∈ lw_all := lw_g (lw_at lw_m12 41 rfl) rfl
theorem q2822 : (Jvm.Cond.methodLink "TranslationBureauLaw" (208 : Nat) ({ cls := "TranslationBureauModel", name := "jobOf", desc := "(I)I" } : Jvm.MethodName)) ∈ lw_all := lw_g (lw_at lw_m12 65 rfl) rfl
theorem q2830 : (Jvm.Cond.methodLink "TranslationBureauLaw" (212 : Nat) ({ cls := "TranslationBureauModel", name := "words", desc := "(IZ)I" } : Jvm.MethodName)) ∈ lw_all := lw_g (lw_at lw_m12 73 rfl) rfl
theorem q2834 : (Jvm.Cond.methodLink "TranslationBureauLaw" (216 : Nat) ({ cls := "TranslationBureauModel", name := "isSameWord", desc := "(IIZIIZ)Z" } : Jvm.MethodName)) ∈ lw_all := lw_g (lw_at lw_m12 77 rfl) rfl
theorem q2842 : (Jvm.Cond.methodLink "TranslationBureauLaw" (219 : Nat) ({ cls := "TranslationBureauModel", name := "distance", desc := "(II)I" } : Jvm.MethodName)) ∈ lw_all := lw_g (lw_at lw_m12 85 rfl) rfl
theorem q2846 : (Jvm.Cond.methodLink "TranslationBureauLaw" (222 : Nat) ({ cls := "TranslationBureauModel", name := "similarity", desc := "(II)I" } : Jvm.MethodName)) ∈ lw_all := lw_g (lw_at lw_m12 89 rfl) rfl
theorem q2850 : (Jvm.Cond.methodLink "TranslationBureauLaw" (225 : Nat) ({ cls := "TranslationBureauModel", name := "match", desc := "(I)I" } : Jvm.MethodName)) ∈ lw_all := lw_g (lw_at lw_m12 93 rfl) rfl
theorem q2854 : (Jvm.Cond.methodLink "TranslationBureauLaw" (228 : Nat) ({ cls := "TranslationBureauModel", name := "model", desc := "(I)I" } : Jvm.MethodName)) ∈ lw_all := lw_g (lw_at lw_m12 97 rfl) rfl
theorem q2858 : (Jvm.Cond.methodLink "TranslationBureauLaw" (231 : Nat) ({ cls := "TranslationBureauModel", name := "band", desc := "(I)I" } : Jvm.MethodName)) ∈ lw_all := lw_g (lw_at lw_m12 101 rfl) rfl
theorem q2862 : (Jvm.Cond.methodLink "TranslationBureauLaw" (234 : Nat) ({ cls := "TranslationBureauModel", name := "bandWords", desc := "(II)I" } : Jvm.MethodName)) ∈ lw_all := lw_g (lw_at lw_m12 105 rfl) rfl
theorem q2870 : (Jvm.Cond.methodLink "TranslationBureauLaw" (237 : Nat) ({ cls := "TranslationBureauModel", name := "repetitions", desc := "(I)I" } : Jvm.MethodName)) ∈ lw_all := lw_g (lw_at lw_m12 113 rfl) rfl
theorem q2874 : (Jvm.Cond.methodLink "TranslationBureauLaw" (240 : Nat) ({ cls := "TranslationBureauModel", name := "account", desc := "(II)I" } : Jvm.MethodName)) ∈ lw_all := lw_g (lw_at lw_m12 117 rfl) rfl
theorem q2905 : (Jvm.Cond.methodLink "TranslationBureauLaw" (243 : Nat) ({ cls := "TranslationBureauModel", name := "earned", desc := "(I)I" } : Jvm.MethodName)) ∈ lw_all := lw_g (lw_at lw_m12 148 rfl) rfl
theorem q2909 : (Jvm.Cond.methodLink "TranslationBureauLaw" (247 : Nat) ({ cls := "TranslationBureauModel", name := "total", desc := "()I" } : Jvm.MethodName)) ∈ lw_all := lw_g (lw_at lw_m12 152 rfl) rfl
theorem q2917 : (Jvm.Cond.methodLink "TranslationBureauLaw" (251 : Nat) ({ cls := "TranslationBureauModel", name := "perWord", desc := "(I)D" } : Jvm.MethodName)) ∈ lw_all := lw_g (lw_at lw_m12 160 rfl) rfl
theorem q2921 : (Jvm.Cond.methodLink "TranslationBureauLaw" (254 : Nat) ({ cls := "TranslationBureauModel", name := "loadOf", desc := "(I)I" } : Jvm.MethodName)) ∈ lw_all := lw_g (lw_at lw_m12 164 rfl) rfl
theorem q2933 : (Jvm.Cond.methodLink "TranslationBureauLaw" (257 : Nat) ({ cls := "TranslationBureauModel", name := "isOverloaded", desc := "(I)Z" } : Jvm.MethodName)) ∈ lw_all := lw_g (lw_at lw_m12 176 rfl) rfl
theorem q2941 : (Jvm.Cond.methodLink "TranslationBureauLaw" (260 : Nat) ({ cls := "TranslationBureauModel", name := "pairs", desc := "(II)I" } : Jvm.MethodName)) ∈ lw_all := lw_g (lw_at lw_m12 184 rfl) rfl
theorem q2949 : (Jvm.Cond.methodLink "TranslationBureauLaw" (264 : Nat) ({ cls := "TranslationBureauModel", name := "mutual", desc := "()I" } : Jvm.MethodName)) ∈ lw_all := lw_g (lw_at lw_m12 192 rfl) rfl
theorem q2953 : (Jvm.Cond.methodLink "TranslationBureauLaw" (267 : Nat) ({ cls := "TranslationBureauModel", name := "suggested", desc := "(I)I" } : Jvm.MethodName)) ∈ lw_all := lw_g (lw_at lw_m12 196 rfl) rfl
theorem q2957 : (Jvm.Cond.methodLink "TranslationBureauLaw" (270 : Nat) ({ cls := "TranslationBureauModel", name := "version", desc := "(I)I" } : Jvm.MethodName)) ∈ lw_all := lw_g (lw_at lw_m12 200 rfl) rfl
theorem q2965 : (Jvm.Cond.methodLink "TranslationBureauLaw" (273 : Nat) ({ cls := "TranslationBureauModel", name := "rule", desc := "(II)I" } : Jvm.MethodName)) ∈ lw_all := lw_g (lw_at lw_m12 208 rfl) rfl
theorem q2973 : (Jvm.Cond.methodLink "TranslationBureauLaw" (276 : Nat) ({ cls := "TranslationBureauModel", name := "uses", desc := "(I)I" } : Jvm.MethodName)) ∈ lw_all := lw_g (lw_at lw_m12 216 rfl) rfl
theorem q2977 : (Jvm.Cond.methodLink "TranslationBureauLaw" (279 : Nat) ({ cls := "TranslationBureauModel", name := "finding", desc := "(II)I" } : Jvm.MethodName)) ∈ lw_all := lw_g (lw_at lw_m12 220 rfl) rfl
theorem q2986 : (Jvm.Cond.methodLink "TranslationBureauLaw" (282 : Nat) ({ cls := "TranslationBureauModel", name := "findings", desc := "(II)I" } : Jvm.MethodName)) ∈ lw_all := lw_g (lw_at lw_m12 229 rfl) rfl
theorem q2990 : (Jvm.Cond.methodLink "TranslationBureauLaw" (285 : Nat) ({ cls := "TranslationBureauModel", name := "clean", desc := "(I)I" } : Jvm.MethodName)) ∈ lw_all := lw_g (lw_at lw_m12 233 rfl) rfl
theorem q2994 : (Jvm.Cond.methodLink "TranslationBureauLaw" (288 : Nat) ({ cls := "TranslationBureauModel", name := "without", desc := "(I)I" } : Jvm.MethodName)) ∈ lw_all := lw_g (lw_at lw_m12 237 rfl) rfl
theorem q3002 : (Jvm.Cond.methodLink "TranslationBureauLaw" (291 : Nat) ({ cls := "TranslationBureauModel", name := "alone", desc := "(I)I" } : Jvm.MethodName)) ∈ lw_all := lw_g (lw_at lw_m13 5 rfl) rfl
theorem q3006 : (Jvm.Cond.methodLink "TranslationBureauLaw" (294 : Nat) ({ cls := "TranslationBureauModel", name := "tightest", desc := "(I)I" } : Jvm.MethodName)) ∈ lw_all := lw_g (lw_at lw_m13 9 rfl) rfl
theorem q3010 : (Jvm.Cond.methodLink "TranslationBureauLaw" (297 : Nat) ({ cls := "TranslationBureauModel", name := "bestFollowed", desc := "(I)I" } : Jvm.MethodName)) ∈ lw_all := lw_g (lw_at lw_m13 13 rfl) rfl
theorem q3018 : (Jvm.Cond.methodLink "TranslationBureauLaw" (300 : Nat) ({ cls := "TranslationBureauModel", name := "removeSegment", desc := "(I)I" } : Jvm.MethodName)) ∈ lw_all := lw_g (lw_at lw_m13 21 rfl) rfl
theorem q3022 : (Jvm.Cond.methodLink "TranslationBureauLaw" (303 : Nat) ({ cls := "TranslationBureauModel", name := "moveSegment", desc := "(II)I" } : Jvm.MethodName)) ∈ lw_all := lw_g (lw_at lw_m13 25 rfl) rfl
theorem q3026 : (Jvm.Cond.methodLink "TranslationBureauLaw" (307 : Nat) ({ cls := "TranslationBureauModel", name := "setJob", desc := "(IIII)I" } : Jvm.MethodName)) ∈ lw_all := lw_g (lw_at lw_m13 29 rfl) rfl
theorem q3031 : (Jvm.Cond.methodLink "TranslationBureauLaw" (310 : Nat) ({ cls := "TranslationBureauModel", name := "setFollowed", desc := "(II)I" } : Jvm.MethodName)) ∈ lw_all := lw_g (lw_at lw_m13 34 rfl) rfl
theorem q3039 : (Jvm.Cond.methodLink "TranslationBureauLaw" (313 : Nat) ({ cls := "TranslationBureauModel", name := "setBand", desc := "(II)I" } : Jvm.MethodName)) ∈ lw_all := lw_g (lw_at lw_m13 42 rfl) rfl
theorem q3043 : (Jvm.Cond.methodLink "TranslationBureauLaw" (316 : Nat) ({ cls := "TranslationBureauModel", name := "setSetting", desc := "(II)I" } : Jvm.MethodName)) ∈ lw_all := lw_g (lw_at lw_m13 46 rfl) rfl
theorem q3047 : (Jvm.Cond.methodLink "TranslationBureauLaw" (319 : Nat) ({ cls := "TranslationBureauModel", name := "swapTargets", desc := "(II)I" } : Jvm.MethodName)) ∈ lw_all := lw_g (lw_at lw_m13 50 rfl) rfl
theorem q3055 : (Jvm.Cond.methodLink "TranslationBureauLaw" (326 : Nat) ({ cls := "TranslationBureauModel", name := "write", desc := "(I)I" } : Jvm.MethodName)) ∈ lw_all := lw_g (lw_at lw_m13 58 rfl) rfl
theorem q3080 : (Jvm.Cond.methodLink "TranslationBureauLaw" (329 : Nat) ({ cls := "TranslationBureauModel", name := "written", desc := "(I)C" } : Jvm.MethodName)) ∈ lw_all := lw_g (lw_at lw_m13 83 rfl) rfl

/-! the law's own entry -/
set_option maxRecDepth 100000
abbrev cL_law : ByteArray := code
def dkwL_law_130 : List UInt8 := [4, 172]
abbrev dktL_law_130 : List UInt8 := dkwL_law_130 ++ []
def dkwL_law_129 : List UInt8 := [154, 0, 15, 45, 3, 47, 21, 7, 133, 148, 153, 0, 5, 3, 172, 167, 0, 3, 132, 5, 7, 167, 243, 130]
abbrev dktL_law_129 : List UInt8 := dkwL_law_129 ++ dktL_law_130
def dkwL_law_128 : List UInt8 := [21, 5, 4, 96, 46, 182, 1, 73, 54, 7, 44, 182, 0, 172, 21, 6, 159, 0, 5, 3, 172, 21, 6]
abbrev dktL_law_128 : List UInt8 := dkwL_law_128 ++ dktL_law_129
def dkwL_law_127 : List UInt8 := [153, 0, 5, 3, 172, 167, 0, 59, 43, 42, 21, 5, 4, 96, 46, 45, 184, 1, 71, 54, 6, 44, 42]
abbrev dktL_law_127 : List UInt8 := dkwL_law_127 ++ dktL_law_128
def dkwL_law_126 : List UInt8 := [182, 0, 172, 21, 6, 159, 0, 5, 3, 172, 21, 6, 154, 0, 15, 45, 3, 47, 21, 7, 133, 148]
abbrev dktL_law_126 : List UInt8 := dkwL_law_126 ++ dktL_law_127
def dkwL_law_125 : List UInt8 := [21, 5, 4, 96, 46, 45, 184, 1, 68, 54, 6, 44, 42, 21, 5, 4, 96, 46, 182, 1, 70, 54, 7, 44]
abbrev dktL_law_125 : List UInt8 := dkwL_law_125 ++ dktL_law_126
def dkwL_law_124 : List UInt8 := [153, 0, 5, 3, 172, 167, 0, 128, 43, 182, 1, 64, 44, 182, 1, 67, 159, 0, 117, 3, 172, 43, 42]
abbrev dktL_law_124 : List UInt8 := dkwL_law_124 ++ dktL_law_125
def dkwL_law_123 : List UInt8 := [182, 0, 172, 21, 6, 159, 0, 5, 3, 172, 21, 6, 154, 0, 15, 45, 3, 47, 21, 7, 133, 148]
abbrev dktL_law_123 : List UInt8 := dkwL_law_123 ++ dktL_law_124
def dkwL_law_122 : List UInt8 := [184, 1, 61, 54, 6, 44, 42, 21, 5, 4, 96, 46, 42, 21, 5, 5, 96, 46, 182, 1, 63, 54, 7, 44]
abbrev dktL_law_122 : List UInt8 := dkwL_law_122 ++ dktL_law_123
def dkwL_law_121 : List UInt8 := [153, 0, 5, 3, 172, 167, 0, 196, 43, 42, 21, 5, 4, 96, 46, 42, 21, 5, 5, 96, 46, 45]
abbrev dktL_law_121 : List UInt8 := dkwL_law_121 ++ dktL_law_122
def dkwL_law_120 : List UInt8 := [182, 0, 172, 21, 6, 159, 0, 5, 3, 172, 21, 6, 154, 0, 15, 45, 3, 47, 21, 7, 133, 148]
abbrev dktL_law_120 : List UInt8 := dkwL_law_120 ++ dktL_law_121
def dkwL_law_119 : List UInt8 := [184, 1, 58, 54, 6, 44, 42, 21, 5, 4, 96, 46, 42, 21, 5, 5, 96, 46, 182, 1, 60, 54, 7, 44]
abbrev dktL_law_119 : List UInt8 := dkwL_law_119 ++ dktL_law_120
def dkwL_law_118 : List UInt8 := [148, 153, 0, 5, 3, 172, 167, 1, 8, 43, 42, 21, 5, 4, 96, 46, 42, 21, 5, 5, 96, 46, 45]
abbrev dktL_law_118 : List UInt8 := dkwL_law_118 ++ dktL_law_119
def dkwL_law_117 : List UInt8 := [54, 7, 44, 182, 0, 172, 21, 6, 159, 0, 5, 3, 172, 21, 6, 154, 0, 15, 45, 3, 47, 21, 7, 133]
abbrev dktL_law_117 : List UInt8 := dkwL_law_117 ++ dktL_law_118
def dkwL_law_116 : List UInt8 := [46, 45, 184, 1, 55, 54, 6, 44, 42, 21, 5, 4, 96, 46, 42, 21, 5, 5, 96, 46, 182, 1, 57]
abbrev dktL_law_116 : List UInt8 := dkwL_law_116 ++ dktL_law_117
def dkwL_law_115 : List UInt8 := [21, 7, 133, 148, 153, 0, 5, 3, 172, 167, 1, 76, 43, 42, 21, 5, 4, 96, 46, 42, 21, 5, 5, 96]
abbrev dktL_law_115 : List UInt8 := dkwL_law_115 ++ dktL_law_116
def dkwL_law_114 : List UInt8 := [182, 1, 54, 54, 7, 44, 182, 0, 172, 21, 6, 159, 0, 5, 3, 172, 21, 6, 154, 0, 15, 45, 3, 47]
abbrev dktL_law_114 : List UInt8 := dkwL_law_114 ++ dktL_law_115
def dkwL_law_113 : List UInt8 := [21, 5, 5, 96, 46, 45, 184, 1, 52, 54, 6, 44, 42, 21, 5, 4, 96, 46, 42, 21, 5, 5, 96, 46]
abbrev dktL_law_113 : List UInt8 := dkwL_law_113 ++ dktL_law_114
def dkwL_law_112 : List UInt8 := [45, 3, 47, 21, 7, 133, 148, 153, 0, 5, 3, 172, 167, 1, 144, 43, 42, 21, 5, 4, 96, 46, 42]
abbrev dktL_law_112 : List UInt8 := dkwL_law_112 ++ dktL_law_113
def dkwL_law_111 : List UInt8 := [7, 96, 46, 182, 1, 51, 54, 7, 44, 182, 0, 172, 21, 6, 159, 0, 5, 3, 172, 21, 6, 154, 0, 15]
abbrev dktL_law_111 : List UInt8 := dkwL_law_111 ++ dktL_law_112
def dkwL_law_110 : List UInt8 := [54, 6, 44, 42, 21, 5, 4, 96, 46, 42, 21, 5, 5, 96, 46, 42, 21, 5, 6, 96, 46, 42, 21, 5]
abbrev dktL_law_110 : List UInt8 := dkwL_law_110 ++ dktL_law_111
def dkwL_law_109 : List UInt8 := [46, 42, 21, 5, 5, 96, 46, 42, 21, 5, 6, 96, 46, 42, 21, 5, 7, 96, 46, 45, 184, 1, 48]
abbrev dktL_law_109 : List UInt8 := dkwL_law_109 ++ dktL_law_110
def dkwL_law_108 : List UInt8 := [154, 0, 15, 45, 3, 47, 21, 7, 133, 148, 153, 0, 5, 3, 172, 167, 1, 236, 43, 42, 21, 5, 4, 96]
abbrev dktL_law_108 : List UInt8 := dkwL_law_108 ++ dktL_law_109
def dkwL_law_107 : List UInt8 := [42, 21, 5, 5, 96, 46, 182, 1, 47, 54, 7, 44, 182, 0, 172, 21, 6, 159, 0, 5, 3, 172, 21, 6]
abbrev dktL_law_107 : List UInt8 := dkwL_law_107 ++ dktL_law_108
def dkwL_law_106 : List UInt8 := [21, 5, 4, 96, 46, 42, 21, 5, 5, 96, 46, 45, 184, 1, 45, 54, 6, 44, 42, 21, 5, 4, 96, 46]
abbrev dktL_law_106 : List UInt8 := dkwL_law_106 ++ dktL_law_107
def dkwL_law_105 : List UInt8 := [172, 21, 6, 154, 0, 15, 45, 3, 47, 21, 7, 133, 148, 153, 0, 5, 3, 172, 167, 2, 48, 43, 42]
abbrev dktL_law_105 : List UInt8 := dkwL_law_105 ++ dktL_law_106
def dkwL_law_104 : List UInt8 := [54, 6, 44, 42, 21, 5, 4, 96, 46, 182, 1, 44, 54, 7, 44, 182, 0, 172, 21, 6, 159, 0, 5, 3]
abbrev dktL_law_104 : List UInt8 := dkwL_law_104 ++ dktL_law_105
def dkwL_law_103 : List UInt8 := [21, 7, 133, 148, 153, 0, 5, 3, 172, 167, 2, 104, 43, 42, 21, 5, 4, 96, 46, 45, 184, 1, 42]
abbrev dktL_law_103 : List UInt8 := dkwL_law_103 ++ dktL_law_104
def dkwL_law_102 : List UInt8 := [182, 1, 41, 54, 7, 44, 182, 0, 172, 21, 6, 159, 0, 5, 3, 172, 21, 6, 154, 0, 15, 45, 3, 47]
abbrev dktL_law_102 : List UInt8 := dkwL_law_102 ++ dktL_law_103
def dkwL_law_101 : List UInt8 := [167, 2, 160, 43, 42, 21, 5, 4, 96, 46, 45, 184, 1, 39, 54, 6, 44, 42, 21, 5, 4, 96, 46]
abbrev dktL_law_101 : List UInt8 := dkwL_law_101 ++ dktL_law_102
def dkwL_law_100 : List UInt8 := [21, 6, 159, 0, 5, 3, 172, 21, 6, 154, 0, 15, 45, 3, 47, 21, 7, 133, 148, 153, 0, 5, 3, 172]
abbrev dktL_law_100 : List UInt8 := dkwL_law_100 ++ dktL_law_101
def dkwL_law_99 : List UInt8 := [46, 45, 184, 1, 36, 54, 6, 44, 42, 21, 5, 4, 96, 46, 182, 1, 38, 54, 7, 44, 182, 0, 172]
abbrev dktL_law_99 : List UInt8 := dkwL_law_99 ++ dktL_law_100
def dkwL_law_98 : List UInt8 := [154, 0, 15, 45, 3, 47, 21, 7, 133, 148, 153, 0, 5, 3, 172, 167, 2, 216, 43, 42, 21, 5, 4, 96]
abbrev dktL_law_98 : List UInt8 := dkwL_law_98 ++ dktL_law_99
def dkwL_law_97 : List UInt8 := [21, 5, 4, 96, 46, 182, 1, 35, 54, 7, 44, 182, 0, 172, 21, 6, 159, 0, 5, 3, 172, 21, 6]
abbrev dktL_law_97 : List UInt8 := dkwL_law_97 ++ dktL_law_98
def dkwL_law_96 : List UInt8 := [153, 0, 5, 3, 172, 167, 3, 16, 43, 42, 21, 5, 4, 96, 46, 45, 184, 1, 33, 54, 6, 44, 42]
abbrev dktL_law_96 : List UInt8 := dkwL_law_96 ++ dktL_law_97
def dkwL_law_95 : List UInt8 := [182, 0, 172, 21, 6, 159, 0, 5, 3, 172, 21, 6, 154, 0, 15, 45, 3, 47, 21, 7, 133, 148]
abbrev dktL_law_95 : List UInt8 := dkwL_law_95 ++ dktL_law_96
def dkwL_law_94 : List UInt8 := [21, 5, 4, 96, 46, 45, 184, 1, 30, 54, 6, 44, 42, 21, 5, 4, 96, 46, 182, 1, 32, 54, 7, 44]
abbrev dktL_law_94 : List UInt8 := dkwL_law_94 ++ dktL_law_95
def dkwL_law_93 : List UInt8 := [172, 21, 6, 154, 0, 15, 45, 3, 47, 21, 7, 133, 148, 153, 0, 5, 3, 172, 167, 3, 72, 43, 42]
abbrev dktL_law_93 : List UInt8 := dkwL_law_93 ++ dktL_law_94
def dkwL_law_92 : List UInt8 := [54, 6, 44, 42, 21, 5, 4, 96, 46, 182, 1, 29, 54, 7, 44, 182, 0, 172, 21, 6, 159, 0, 5, 3]
abbrev dktL_law_92 : List UInt8 := dkwL_law_92 ++ dktL_law_93
def dkwL_law_91 : List UInt8 := [21, 7, 133, 148, 153, 0, 5, 3, 172, 167, 3, 128, 43, 42, 21, 5, 4, 96, 46, 45, 184, 1, 27]
abbrev dktL_law_91 : List UInt8 := dkwL_law_91 ++ dktL_law_92
def dkwL_law_90 : List UInt8 := [182, 1, 26, 54, 7, 44, 182, 0, 172, 21, 6, 159, 0, 5, 3, 172, 21, 6, 154, 0, 15, 45, 3, 47]
abbrev dktL_law_90 : List UInt8 := dkwL_law_90 ++ dktL_law_91
def dkwL_law_89 : List UInt8 := [5, 96, 46, 45, 184, 1, 24, 54, 6, 44, 42, 21, 5, 4, 96, 46, 42, 21, 5, 5, 96, 46]
abbrev dktL_law_89 : List UInt8 := dkwL_law_89 ++ dktL_law_90
def dkwL_law_88 : List UInt8 := [3, 47, 21, 7, 133, 148, 153, 0, 5, 3, 172, 167, 3, 196, 43, 42, 21, 5, 4, 96, 46, 42, 21, 5]
abbrev dktL_law_88 : List UInt8 := dkwL_law_88 ++ dktL_law_89
def dkwL_law_87 : List UInt8 := [96, 46, 182, 1, 23, 54, 7, 44, 182, 0, 172, 21, 6, 159, 0, 5, 3, 172, 21, 6, 154, 0, 15, 45]
abbrev dktL_law_87 : List UInt8 := dkwL_law_87 ++ dktL_law_88
def dkwL_law_86 : List UInt8 := [46, 42, 21, 5, 5, 96, 46, 45, 184, 1, 21, 54, 6, 44, 42, 21, 5, 4, 96, 46, 42, 21, 5, 5]
abbrev dktL_law_86 : List UInt8 := dkwL_law_86 ++ dktL_law_87
def dkwL_law_85 : List UInt8 := [154, 0, 15, 45, 3, 47, 21, 7, 133, 148, 153, 0, 5, 3, 172, 167, 4, 8, 43, 42, 21, 5, 4, 96]
abbrev dktL_law_85 : List UInt8 := dkwL_law_85 ++ dktL_law_86
def dkwL_law_84 : List UInt8 := [21, 5, 4, 96, 46, 182, 1, 20, 54, 7, 44, 182, 0, 172, 21, 6, 159, 0, 5, 3, 172, 21, 6]
abbrev dktL_law_84 : List UInt8 := dkwL_law_84 ++ dktL_law_85
def dkwL_law_83 : List UInt8 := [148, 153, 0, 5, 3, 172, 167, 4, 64, 43, 42, 21, 5, 4, 96, 46, 45, 184, 1, 18, 54, 6, 44, 42]
abbrev dktL_law_83 : List UInt8 := dkwL_law_83 ++ dktL_law_84
def dkwL_law_82 : List UInt8 := [54, 7, 44, 182, 0, 172, 21, 6, 159, 0, 5, 3, 172, 21, 6, 154, 0, 15, 45, 3, 47, 21, 7, 133]
abbrev dktL_law_82 : List UInt8 := dkwL_law_82 ++ dktL_law_83
def dkwL_law_81 : List UInt8 := [46, 45, 184, 1, 15, 54, 6, 44, 42, 21, 5, 4, 96, 46, 42, 21, 5, 5, 96, 46, 182, 1, 17]
abbrev dktL_law_81 : List UInt8 := dkwL_law_81 ++ dktL_law_82
def dkwL_law_80 : List UInt8 := [21, 7, 133, 148, 153, 0, 5, 3, 172, 167, 4, 132, 43, 42, 21, 5, 4, 96, 46, 42, 21, 5, 5, 96]
abbrev dktL_law_80 : List UInt8 := dkwL_law_80 ++ dktL_law_81
def dkwL_law_79 : List UInt8 := [182, 1, 14, 54, 7, 44, 182, 0, 172, 21, 6, 159, 0, 5, 3, 172, 21, 6, 154, 0, 15, 45, 3, 47]
abbrev dktL_law_79 : List UInt8 := dkwL_law_79 ++ dktL_law_80
def dkwL_law_78 : List UInt8 := [167, 4, 188, 43, 42, 21, 5, 4, 96, 46, 45, 184, 1, 12, 54, 6, 44, 42, 21, 5, 4, 96, 46]
abbrev dktL_law_78 : List UInt8 := dkwL_law_78 ++ dktL_law_79
def dkwL_law_77 : List UInt8 := [159, 0, 5, 3, 172, 21, 6, 154, 0, 15, 45, 3, 47, 21, 7, 133, 148, 153, 0, 5, 3, 172]
abbrev dktL_law_77 : List UInt8 := dkwL_law_77 ++ dktL_law_78
def dkwL_law_76 : List UInt8 := [184, 1, 9, 54, 6, 44, 42, 21, 5, 4, 96, 46, 182, 1, 11, 54, 7, 44, 182, 0, 172, 21, 6]
abbrev dktL_law_76 : List UInt8 := dkwL_law_76 ++ dktL_law_77
def dkwL_law_75 : List UInt8 := [167, 5, 1, 43, 182, 1, 5, 44, 182, 1, 8, 159, 4, 246, 3, 172, 43, 42, 21, 5, 4, 96, 46, 45]
abbrev dktL_law_75 : List UInt8 := dkwL_law_75 ++ dktL_law_76
def dkwL_law_74 : List UInt8 := [159, 0, 5, 3, 172, 21, 6, 154, 0, 15, 45, 3, 47, 21, 7, 133, 148, 153, 0, 5, 3, 172]
abbrev dktL_law_74 : List UInt8 := dkwL_law_74 ++ dktL_law_75
def dkwL_law_73 : List UInt8 := [21, 5, 4, 96, 46, 42, 21, 5, 5, 96, 46, 182, 1, 4, 54, 7, 44, 182, 0, 172, 21, 6]
abbrev dktL_law_73 : List UInt8 := dkwL_law_73 ++ dktL_law_74
def dkwL_law_72 : List UInt8 := [167, 5, 69, 43, 42, 21, 5, 4, 96, 46, 42, 21, 5, 5, 96, 46, 45, 184, 1, 2, 54, 6, 44, 42]
abbrev dktL_law_72 : List UInt8 := dkwL_law_72 ++ dktL_law_73
def dkwL_law_71 : List UInt8 := [154, 0, 22, 45, 3, 47, 21, 7, 153, 0, 7, 10, 167, 0, 4, 9, 148, 153, 0, 5, 3, 172]
abbrev dktL_law_71 : List UInt8 := dkwL_law_71 ++ dktL_law_72
def dkwL_law_70 : List UInt8 := [21, 5, 4, 96, 46, 182, 1, 1, 54, 7, 44, 182, 0, 172, 21, 6, 159, 0, 5, 3, 172, 21, 6]
abbrev dktL_law_70 : List UInt8 := dkwL_law_70 ++ dktL_law_71
def dkwL_law_69 : List UInt8 := [153, 0, 5, 3, 172, 167, 5, 132, 43, 42, 21, 5, 4, 96, 46, 45, 184, 0, 255, 54, 6, 44, 42]
abbrev dktL_law_69 : List UInt8 := dkwL_law_69 ++ dktL_law_70
def dkwL_law_68 : List UInt8 := [44, 182, 0, 172, 21, 6, 159, 0, 5, 3, 172, 21, 6, 154, 0, 15, 45, 3, 47, 21, 7, 133, 148]
abbrev dktL_law_68 : List UInt8 := dkwL_law_68 ++ dktL_law_69
def dkwL_law_67 : List UInt8 := [42, 21, 5, 4, 96, 46, 45, 184, 0, 252, 54, 6, 44, 42, 21, 5, 4, 96, 46, 182, 0, 254, 54, 7]
abbrev dktL_law_67 : List UInt8 := dkwL_law_67 ++ dktL_law_68
def dkwL_law_66 : List UInt8 := [3, 49, 25, 4, 3, 49, 151, 153, 0, 11, 24, 7, 24, 7, 151, 154, 0, 5, 3, 172, 167, 5, 188, 43]
abbrev dktL_law_66 : List UInt8 := dkwL_law_66 ++ dktL_law_67
def dkwL_law_65 : List UInt8 := [21, 6, 159, 0, 5, 3, 172, 21, 6, 154, 0, 35, 25, 4, 3, 49, 24, 7, 151, 153, 0, 25, 25, 4]
abbrev dktL_law_65 : List UInt8 := dkwL_law_65 ++ dktL_law_66
def dkwL_law_64 : List UInt8 := [25, 4, 184, 0, 248, 54, 6, 44, 42, 21, 5, 4, 96, 46, 182, 0, 251, 57, 7, 44, 182, 0, 172]
abbrev dktL_law_64 : List UInt8 := dkwL_law_64 ++ dktL_law_65
def dkwL_law_63 : List UInt8 := [167, 6, 22, 43, 182, 0, 244, 44, 182, 0, 247, 159, 6, 11, 3, 172, 43, 42, 21, 5, 4, 96, 46]
abbrev dktL_law_63 : List UInt8 := dkwL_law_63 ++ dktL_law_64
def dkwL_law_62 : List UInt8 := [159, 0, 5, 3, 172, 21, 6, 154, 0, 15, 45, 3, 47, 21, 7, 133, 148, 153, 0, 5, 3, 172]
abbrev dktL_law_62 : List UInt8 := dkwL_law_62 ++ dktL_law_63
def dkwL_law_61 : List UInt8 := [184, 0, 241, 54, 6, 44, 42, 21, 5, 4, 96, 46, 182, 0, 243, 54, 7, 44, 182, 0, 172, 21, 6]
abbrev dktL_law_61 : List UInt8 := dkwL_law_61 ++ dktL_law_62
def dkwL_law_60 : List UInt8 := [3, 47, 21, 7, 133, 148, 153, 0, 5, 3, 172, 167, 6, 78, 43, 42, 21, 5, 4, 96, 46, 45]
abbrev dktL_law_60 : List UInt8 := dkwL_law_60 ++ dktL_law_61
def dkwL_law_59 : List UInt8 := [96, 46, 182, 0, 240, 54, 7, 44, 182, 0, 172, 21, 6, 159, 0, 5, 3, 172, 21, 6, 154, 0, 15, 45]
abbrev dktL_law_59 : List UInt8 := dkwL_law_59 ++ dktL_law_60
def dkwL_law_58 : List UInt8 := [46, 42, 21, 5, 5, 96, 46, 45, 184, 0, 238, 54, 6, 44, 42, 21, 5, 4, 96, 46, 42, 21, 5, 5]
abbrev dktL_law_58 : List UInt8 := dkwL_law_58 ++ dktL_law_59
def dkwL_law_57 : List UInt8 := [154, 0, 15, 45, 3, 47, 21, 7, 133, 148, 153, 0, 5, 3, 172, 167, 6, 146, 43, 42, 21, 5, 4, 96]
abbrev dktL_law_57 : List UInt8 := dkwL_law_57 ++ dktL_law_58
def dkwL_law_56 : List UInt8 := [21, 5, 4, 96, 46, 182, 0, 237, 54, 7, 44, 182, 0, 172, 21, 6, 159, 0, 5, 3, 172, 21, 6]
abbrev dktL_law_56 : List UInt8 := dkwL_law_56 ++ dktL_law_57
def dkwL_law_55 : List UInt8 := [148, 153, 0, 5, 3, 172, 167, 6, 202, 43, 42, 21, 5, 4, 96, 46, 45, 184, 0, 235, 54, 6, 44, 42]
abbrev dktL_law_55 : List UInt8 := dkwL_law_55 ++ dktL_law_56
def dkwL_law_54 : List UInt8 := [54, 7, 44, 182, 0, 172, 21, 6, 159, 0, 5, 3, 172, 21, 6, 154, 0, 15, 45, 3, 47, 21, 7, 133]
abbrev dktL_law_54 : List UInt8 := dkwL_law_54 ++ dktL_law_55
def dkwL_law_53 : List UInt8 := [46, 45, 184, 0, 232, 54, 6, 44, 42, 21, 5, 4, 96, 46, 42, 21, 5, 5, 96, 46, 182, 0, 234]
abbrev dktL_law_53 : List UInt8 := dkwL_law_53 ++ dktL_law_54
def dkwL_law_52 : List UInt8 := [21, 7, 133, 148, 153, 0, 5, 3, 172, 167, 7, 14, 43, 42, 21, 5, 4, 96, 46, 42, 21, 5, 5, 96]
abbrev dktL_law_52 : List UInt8 := dkwL_law_52 ++ dktL_law_53
def dkwL_law_51 : List UInt8 := [182, 0, 231, 54, 7, 44, 182, 0, 172, 21, 6, 159, 0, 5, 3, 172, 21, 6, 154, 0, 15, 45, 3, 47]
abbrev dktL_law_51 : List UInt8 := dkwL_law_51 ++ dktL_law_52
def dkwL_law_50 : List UInt8 := [167, 7, 70, 43, 42, 21, 5, 4, 96, 46, 45, 184, 0, 229, 54, 6, 44, 42, 21, 5, 4, 96, 46]
abbrev dktL_law_50 : List UInt8 := dkwL_law_50 ++ dktL_law_51
def dkwL_law_49 : List UInt8 := [21, 6, 159, 0, 5, 3, 172, 21, 6, 154, 0, 15, 45, 3, 47, 21, 7, 133, 148, 153, 0, 5, 3, 172]
abbrev dktL_law_49 : List UInt8 := dkwL_law_49 ++ dktL_law_50
def dkwL_law_48 : List UInt8 := [46, 45, 184, 0, 226, 54, 6, 44, 42, 21, 5, 4, 96, 46, 182, 0, 228, 54, 7, 44, 182, 0, 172]
abbrev dktL_law_48 : List UInt8 := dkwL_law_48 ++ dktL_law_49
def dkwL_law_47 : List UInt8 := [154, 0, 15, 45, 3, 47, 21, 7, 133, 148, 153, 0, 5, 3, 172, 167, 7, 126, 43, 42, 21, 5, 4, 96]
abbrev dktL_law_47 : List UInt8 := dkwL_law_47 ++ dktL_law_48
def dkwL_law_46 : List UInt8 := [21, 5, 4, 96, 46, 182, 0, 225, 54, 7, 44, 182, 0, 172, 21, 6, 159, 0, 5, 3, 172, 21, 6]
abbrev dktL_law_46 : List UInt8 := dkwL_law_46 ++ dktL_law_47
def dkwL_law_45 : List UInt8 := [153, 0, 5, 3, 172, 167, 7, 182, 43, 42, 21, 5, 4, 96, 46, 45, 184, 0, 223, 54, 6, 44, 42]
abbrev dktL_law_45 : List UInt8 := dkwL_law_45 ++ dktL_law_46
def dkwL_law_44 : List UInt8 := [182, 0, 172, 21, 6, 159, 0, 5, 3, 172, 21, 6, 154, 0, 15, 45, 3, 47, 21, 7, 133, 148]
abbrev dktL_law_44 : List UInt8 := dkwL_law_44 ++ dktL_law_45
def dkwL_law_43 : List UInt8 := [184, 0, 220, 54, 6, 44, 42, 21, 5, 4, 96, 46, 42, 21, 5, 5, 96, 46, 182, 0, 222, 54, 7, 44]
abbrev dktL_law_43 : List UInt8 := dkwL_law_43 ++ dktL_law_44
def dkwL_law_42 : List UInt8 := [153, 0, 5, 3, 172, 167, 7, 250, 43, 42, 21, 5, 4, 96, 46, 42, 21, 5, 5, 96, 46, 45]
abbrev dktL_law_42 : List UInt8 := dkwL_law_42 ++ dktL_law_43
def dkwL_law_41 : List UInt8 := [182, 0, 172, 21, 6, 159, 0, 5, 3, 172, 21, 6, 154, 0, 15, 45, 3, 47, 21, 7, 133, 148]
abbrev dktL_law_41 : List UInt8 := dkwL_law_41 ++ dktL_law_42
def dkwL_law_40 : List UInt8 := [184, 0, 217, 54, 6, 44, 42, 21, 5, 4, 96, 46, 42, 21, 5, 5, 96, 46, 182, 0, 219, 54, 7, 44]
abbrev dktL_law_40 : List UInt8 := dkwL_law_40 ++ dktL_law_41
def dkwL_law_39 : List UInt8 := [153, 0, 5, 3, 172, 167, 8, 62, 43, 42, 21, 5, 4, 96, 46, 42, 21, 5, 5, 96, 46, 45]
abbrev dktL_law_39 : List UInt8 := dkwL_law_39 ++ dktL_law_40
def dkwL_law_38 : List UInt8 := [159, 0, 5, 3, 172, 21, 6, 154, 0, 22, 45, 3, 47, 21, 7, 153, 0, 7, 10, 167, 0, 4, 9, 148]
abbrev dktL_law_38 : List UInt8 := dkwL_law_38 ++ dktL_law_39
def dkwL_law_37 : List UInt8 := [16, 6, 96, 46, 153, 0, 7, 4, 167, 0, 4, 3, 182, 0, 216, 54, 7, 44, 182, 0, 172, 21, 6]
abbrev dktL_law_37 : List UInt8 := dkwL_law_37 ++ dktL_law_38
def dkwL_law_36 : List UInt8 := [46, 153, 0, 7, 4, 167, 0, 4, 3, 42, 21, 5, 7, 96, 46, 42, 21, 5, 8, 96, 46, 42, 21, 5]
abbrev dktL_law_36 : List UInt8 := dkwL_law_36 ++ dktL_law_37
def dkwL_law_35 : List UInt8 := [45, 184, 0, 213, 54, 6, 44, 42, 21, 5, 4, 96, 46, 42, 21, 5, 5, 96, 46, 42, 21, 5, 6, 96]
abbrev dktL_law_35 : List UInt8 := dkwL_law_35 ++ dktL_law_36
def dkwL_law_34 : List UInt8 := [7, 96, 46, 42, 21, 5, 8, 96, 46, 42, 21, 5, 16, 6, 96, 46, 153, 0, 7, 4, 167, 0, 4, 3]
abbrev dktL_law_34 : List UInt8 := dkwL_law_34 ++ dktL_law_35
def dkwL_law_33 : List UInt8 := [46, 42, 21, 5, 5, 96, 46, 42, 21, 5, 6, 96, 46, 153, 0, 7, 4, 167, 0, 4, 3, 42, 21, 5]
abbrev dktL_law_33 : List UInt8 := dkwL_law_33 ++ dktL_law_34
def dkwL_law_32 : List UInt8 := [154, 0, 15, 45, 3, 47, 21, 7, 133, 148, 153, 0, 5, 3, 172, 167, 8, 219, 43, 42, 21, 5, 4, 96]
abbrev dktL_law_32 : List UInt8 := dkwL_law_32 ++ dktL_law_33
def dkwL_law_31 : List UInt8 := [167, 0, 4, 3, 182, 0, 212, 54, 7, 44, 182, 0, 172, 21, 6, 159, 0, 5, 3, 172, 21, 6]
abbrev dktL_law_31 : List UInt8 := dkwL_law_31 ++ dktL_law_32
def dkwL_law_30 : List UInt8 := [45, 184, 0, 209, 54, 6, 44, 42, 21, 5, 4, 96, 46, 42, 21, 5, 5, 96, 46, 153, 0, 7, 4]
abbrev dktL_law_30 : List UInt8 := dkwL_law_30 ++ dktL_law_31
def dkwL_law_29 : List UInt8 := [167, 9, 47, 43, 42, 21, 5, 4, 96, 46, 42, 21, 5, 5, 96, 46, 153, 0, 7, 4, 167, 0, 4, 3]
abbrev dktL_law_29 : List UInt8 := dkwL_law_29 ++ dktL_law_30
def dkwL_law_28 : List UInt8 := [21, 6, 159, 0, 5, 3, 172, 21, 6, 154, 0, 15, 45, 3, 47, 21, 7, 133, 148, 153, 0, 5, 3, 172]
abbrev dktL_law_28 : List UInt8 := dkwL_law_28 ++ dktL_law_29
def dkwL_law_27 : List UInt8 := [46, 45, 184, 0, 206, 54, 6, 44, 42, 21, 5, 4, 96, 46, 182, 0, 208, 54, 7, 44, 182, 0, 172]
abbrev dktL_law_27 : List UInt8 := dkwL_law_27 ++ dktL_law_28
def dkwL_law_26 : List UInt8 := [154, 0, 15, 45, 3, 47, 21, 7, 133, 148, 153, 0, 5, 3, 172, 167, 9, 103, 43, 42, 21, 5, 4, 96]
abbrev dktL_law_26 : List UInt8 := dkwL_law_26 ++ dktL_law_27
def dkwL_law_25 : List UInt8 := [42, 21, 5, 5, 96, 46, 182, 0, 205, 54, 7, 44, 182, 0, 172, 21, 6, 159, 0, 5, 3, 172, 21, 6]
abbrev dktL_law_25 : List UInt8 := dkwL_law_25 ++ dktL_law_26
def dkwL_law_24 : List UInt8 := [21, 5, 4, 96, 46, 42, 21, 5, 5, 96, 46, 45, 184, 0, 202, 54, 6, 44, 42, 21, 5, 4, 96, 46]
abbrev dktL_law_24 : List UInt8 := dkwL_law_24 ++ dktL_law_25
def dkwL_law_23 : List UInt8 := [172, 21, 6, 154, 0, 15, 45, 3, 47, 21, 7, 133, 148, 153, 0, 5, 3, 172, 167, 9, 171, 43, 42]
abbrev dktL_law_23 : List UInt8 := dkwL_law_23 ++ dktL_law_24
def dkwL_law_22 : List UInt8 := [54, 6, 44, 42, 21, 5, 4, 96, 46, 182, 0, 201, 54, 7, 44, 182, 0, 172, 21, 6, 159, 0, 5, 3]
abbrev dktL_law_22 : List UInt8 := dkwL_law_22 ++ dktL_law_23
def dkwL_law_21 : List UInt8 := [21, 7, 133, 148, 153, 0, 5, 3, 172, 167, 9, 227, 43, 42, 21, 5, 4, 96, 46, 45, 184, 0, 199]
abbrev dktL_law_21 : List UInt8 := dkwL_law_21 ++ dktL_law_22
def dkwL_law_20 : List UInt8 := [182, 0, 198, 54, 7, 44, 182, 0, 172, 21, 6, 159, 0, 5, 3, 172, 21, 6, 154, 0, 15, 45, 3, 47]
abbrev dktL_law_20 : List UInt8 := dkwL_law_20 ++ dktL_law_21
def dkwL_law_19 : List UInt8 := [167, 10, 27, 43, 42, 21, 5, 4, 96, 46, 45, 184, 0, 196, 54, 6, 44, 42, 21, 5, 4, 96, 46]
abbrev dktL_law_19 : List UInt8 := dkwL_law_19 ++ dktL_law_20
def dkwL_law_18 : List UInt8 := [21, 6, 159, 0, 5, 3, 172, 21, 6, 154, 0, 15, 45, 3, 47, 21, 7, 133, 148, 153, 0, 5, 3, 172]
abbrev dktL_law_18 : List UInt8 := dkwL_law_18 ++ dktL_law_19
def dkwL_law_17 : List UInt8 := [46, 45, 184, 0, 193, 54, 6, 44, 42, 21, 5, 4, 96, 46, 182, 0, 195, 54, 7, 44, 182, 0, 172]
abbrev dktL_law_17 : List UInt8 := dkwL_law_17 ++ dktL_law_18
def dkwL_law_16 : List UInt8 := [154, 0, 15, 45, 3, 47, 21, 7, 133, 148, 153, 0, 5, 3, 172, 167, 10, 83, 43, 42, 21, 5, 4, 96]
abbrev dktL_law_16 : List UInt8 := dkwL_law_16 ++ dktL_law_17
def dkwL_law_15 : List UInt8 := [21, 5, 4, 96, 46, 182, 0, 192, 54, 7, 44, 182, 0, 172, 21, 6, 159, 0, 5, 3, 172, 21, 6]
abbrev dktL_law_15 : List UInt8 := dkwL_law_15 ++ dktL_law_16
def dkwL_law_14 : List UInt8 := [153, 0, 5, 3, 172, 167, 10, 139, 43, 42, 21, 5, 4, 96, 46, 45, 184, 0, 190, 54, 6, 44, 42]
abbrev dktL_law_14 : List UInt8 := dkwL_law_14 ++ dktL_law_15
def dkwL_law_13 : List UInt8 := [182, 0, 172, 21, 6, 159, 0, 5, 3, 172, 21, 6, 154, 0, 15, 45, 3, 47, 21, 7, 133, 148]
abbrev dktL_law_13 : List UInt8 := dkwL_law_13 ++ dktL_law_14
def dkwL_law_12 : List UInt8 := [21, 5, 4, 96, 46, 45, 184, 0, 187, 54, 6, 44, 42, 21, 5, 4, 96, 46, 182, 0, 189, 54, 7, 44]
abbrev dktL_law_12 : List UInt8 := dkwL_law_12 ++ dktL_law_13
def dkwL_law_11 : List UInt8 := [182, 0, 182, 159, 10, 210, 3, 172, 43, 182, 0, 183, 44, 182, 0, 186, 159, 10, 197, 3, 172, 43, 42]
abbrev dktL_law_11 : List UInt8 := dkwL_law_11 ++ dktL_law_12
def dkwL_law_10 : List UInt8 := [154, 0, 15, 45, 3, 47, 21, 7, 133, 148, 153, 0, 5, 3, 172, 167, 10, 221, 43, 182, 0, 179, 44]
abbrev dktL_law_10 : List UInt8 := dkwL_law_10 ++ dktL_law_11
def dkwL_law_9 : List UInt8 := [21, 5, 4, 96, 46, 182, 0, 178, 54, 7, 44, 182, 0, 172, 21, 6, 159, 0, 5, 3, 172, 21, 6]
abbrev dktL_law_9 : List UInt8 := dkwL_law_9 ++ dktL_law_10
def dkwL_law_8 : List UInt8 := [148, 153, 0, 5, 3, 172, 167, 11, 21, 43, 42, 21, 5, 4, 96, 46, 45, 184, 0, 176, 54, 6, 44, 42]
abbrev dktL_law_8 : List UInt8 := dkwL_law_8 ++ dktL_law_9
def dkwL_law_7 : List UInt8 := [54, 7, 44, 182, 0, 172, 21, 6, 159, 0, 5, 3, 172, 21, 6, 154, 0, 15, 45, 3, 47, 21, 7, 133]
abbrev dktL_law_7 : List UInt8 := dkwL_law_7 ++ dktL_law_8
def dkwL_law_6 : List UInt8 := [172, 43, 42, 21, 5, 4, 96, 46, 45, 184, 0, 166, 54, 6, 44, 42, 21, 5, 4, 96, 46, 182, 0, 171]
abbrev dktL_law_6 : List UInt8 := dkwL_law_6 ++ dktL_law_7
def dkwL_law_5 : List UInt8 := [21, 5, 6, 96, 46, 42, 21, 5, 7, 96, 46, 42, 21, 5, 8, 96, 46, 182, 0, 165, 159, 11, 79, 3]
abbrev dktL_law_5 : List UInt8 := dkwL_law_5 ++ dktL_law_6
def dkwL_law_4 : List UInt8 := [46, 42, 21, 5, 8, 96, 46, 182, 0, 161, 44, 42, 21, 5, 4, 96, 46, 42, 21, 5, 5, 96, 46, 42]
abbrev dktL_law_4 : List UInt8 := dkwL_law_4 ++ dktL_law_5
def dkwL_law_3 : List UInt8 := [43, 42, 21, 5, 4, 96, 46, 42, 21, 5, 5, 96, 46, 42, 21, 5, 6, 96, 46, 42, 21, 5, 7, 96]
abbrev dktL_law_3 : List UInt8 := dkwL_law_3 ++ dktL_law_4
def dkwL_law_2 : List UInt8 := [170, 0, 0, 0, 0, 12, 106, 0, 0, 0, 0, 0, 0, 0, 49, 0, 0, 0, 215, 0, 0, 1, 32, 0, 0, 1, 88, 0, 0, 1, 144, 0, 0, 1, 157, 0, 0, 1, 170, 0, 0, 1, 226, 0, 0, 2, 26, 0, 0, 2, 82, 0, 0, 2, 138, 0, 0, 2, 194, 0, 0, 3, 6, 0, 0, 3, 62, 0, 0, 3, 146, 0, 0, 4, 47, 0, 0, 4, 115, 0, 0, 4, 183, 0, 0, 4, 239, 0, 0, 5, 39, 0, 0, 5, 95, 0, 0, 5, 163, 0, 0, 5, 219, 0, 0, 6, 31, 0, 0, 6, 87, 0, 0, 6, 100, 0, 0, 6, 177, 0, 0, 6, 233, 0, 0, 7, 40, 0, 0, 7, 108, 0, 0, 7, 121, 0, 0, 7, 177, 0, 0, 7, 233, 0, 0, 8, 45, 0, 0, 8, 101, 0, 0, 8, 169, 0, 0, 8, 237, 0, 0, 9, 37, 0, 0, 9, 93, 0, 0, 9, 149, 0, 0, 9, 205, 0, 0, 10, 5, 0, 0, 10, 61, 0, 0, 10, 129, 0, 0, 10, 221, 0, 0, 11, 33, 0, 0, 11, 101, 0, 0, 11, 169, 0, 0, 11, 237, 0, 0, 11, 250, 0, 0, 12, 50]
abbrev dktL_law_2 : List UInt8 := dkwL_law_2 ++ dktL_law_3
def dkwL_law_1 : List UInt8 := [58, 4, 3, 54, 5, 21, 5, 42, 190, 16, 7, 100, 163, 12, 122, 42, 21, 5, 46, 16, 63, 126]
abbrev dktL_law_1 : List UInt8 := dkwL_law_1 ++ dktL_law_2
def dkwL_law_0 : List UInt8 := [187, 0, 8, 89, 183, 0, 157, 76, 187, 0, 158, 89, 183, 0, 160, 77, 4, 188, 11, 78, 4, 188, 7]
abbrev dktL_law_0 : List UInt8 := dkwL_law_0 ++ dktL_law_1
theorem dksL_law_0 : cL_law.data.toList.drop 0 = dktL_law_0 := by decide +kernel
theorem dksL_law_1 : cL_law.data.toList.drop 23 = dktL_law_1 := dk_seg dksL_law_0 23 rfl rfl
theorem dksL_law_2 : cL_law.data.toList.drop 45 = dktL_law_2 := dk_seg dksL_law_1 22 rfl rfl
theorem dksL_law_3 : cL_law.data.toList.drop 260 = dktL_law_3 := dk_seg dksL_law_2 215 rfl rfl
theorem dksL_law_4 : cL_law.data.toList.drop 284 = dktL_law_4 := dk_seg dksL_law_3 24 rfl rfl
theorem dksL_law_5 : cL_law.data.toList.drop 308 = dktL_law_5 := dk_seg dksL_law_4 24 rfl rfl
theorem dksL_law_6 : cL_law.data.toList.drop 332 = dktL_law_6 := dk_seg dksL_law_5 24 rfl rfl
theorem dksL_law_7 : cL_law.data.toList.drop 356 = dktL_law_7 := dk_seg dksL_law_6 24 rfl rfl
theorem dksL_law_8 : cL_law.data.toList.drop 380 = dktL_law_8 := dk_seg dksL_law_7 24 rfl rfl
theorem dksL_law_9 : cL_law.data.toList.drop 404 = dktL_law_9 := dk_seg dksL_law_8 24 rfl rfl
theorem dksL_law_10 : cL_law.data.toList.drop 427 = dktL_law_10 := dk_seg dksL_law_9 23 rfl rfl
theorem dksL_law_11 : cL_law.data.toList.drop 450 = dktL_law_11 := dk_seg dksL_law_10 23 rfl rfl
theorem dksL_law_12 : cL_law.data.toList.drop 473 = dktL_law_12 := dk_seg dksL_law_11 23 rfl rfl
theorem dksL_law_13 : cL_law.data.toList.drop 497 = dktL_law_13 := dk_seg dksL_law_12 24 rfl rfl
theorem dksL_law_14 : cL_law.data.toList.drop 519 = dktL_law_14 := dk_seg dksL_law_13 22 rfl rfl
theorem dksL_law_15 : cL_law.data.toList.drop 542 = dktL_law_15 := dk_seg dksL_law_14 23 rfl rfl
theorem dksL_law_16 : cL_law.data.toList.drop 565 = dktL_law_16 := dk_seg dksL_law_15 23 rfl rfl
theorem dksL_law_17 : cL_law.data.toList.drop 589 = dktL_law_17 := dk_seg dksL_law_16 24 rfl rfl
theorem dksL_law_18 : cL_law.data.toList.drop 612 = dktL_law_18 := dk_seg dksL_law_17 23 rfl rfl
theorem dksL_law_19 : cL_law.data.toList.drop 636 = dktL_law_19 := dk_seg dksL_law_18 24 rfl rfl
theorem dksL_law_20 : cL_law.data.toList.drop 659 = dktL_law_20 := dk_seg dksL_law_19 23 rfl rfl
theorem dksL_law_21 : cL_law.data.toList.drop 683 = dktL_law_21 := dk_seg dksL_law_20 24 rfl rfl
theorem dksL_law_22 : cL_law.data.toList.drop 706 = dktL_law_22 := dk_seg dksL_law_21 23 rfl rfl
theorem dksL_law_23 : cL_law.data.toList.drop 730 = dktL_law_23 := dk_seg dksL_law_22 24 rfl rfl
theorem dksL_law_24 : cL_law.data.toList.drop 753 = dktL_law_24 := dk_seg dksL_law_23 23 rfl rfl
theorem dksL_law_25 : cL_law.data.toList.drop 777 = dktL_law_25 := dk_seg dksL_law_24 24 rfl rfl
theorem dksL_law_26 : cL_law.data.toList.drop 801 = dktL_law_26 := dk_seg dksL_law_25 24 rfl rfl
theorem dksL_law_27 : cL_law.data.toList.drop 825 = dktL_law_27 := dk_seg dksL_law_26 24 rfl rfl
theorem dksL_law_28 : cL_law.data.toList.drop 848 = dktL_law_28 := dk_seg dksL_law_27 23 rfl rfl
theorem dksL_law_29 : cL_law.data.toList.drop 872 = dktL_law_29 := dk_seg dksL_law_28 24 rfl rfl
theorem dksL_law_30 : cL_law.data.toList.drop 896 = dktL_law_30 := dk_seg dksL_law_29 24 rfl rfl
theorem dksL_law_31 : cL_law.data.toList.drop 919 = dktL_law_31 := dk_seg dksL_law_30 23 rfl rfl
theorem dksL_law_32 : cL_law.data.toList.drop 941 = dktL_law_32 := dk_seg dksL_law_31 22 rfl rfl
theorem dksL_law_33 : cL_law.data.toList.drop 965 = dktL_law_33 := dk_seg dksL_law_32 24 rfl rfl
theorem dksL_law_34 : cL_law.data.toList.drop 989 = dktL_law_34 := dk_seg dksL_law_33 24 rfl rfl
theorem dksL_law_35 : cL_law.data.toList.drop 1013 = dktL_law_35 := dk_seg dksL_law_34 24 rfl rfl
theorem dksL_law_36 : cL_law.data.toList.drop 1037 = dktL_law_36 := dk_seg dksL_law_35 24 rfl rfl
theorem dksL_law_37 : cL_law.data.toList.drop 1061 = dktL_law_37 := dk_seg dksL_law_36 24 rfl rfl
theorem dksL_law_38 : cL_law.data.toList.drop 1084 = dktL_law_38 := dk_seg dksL_law_37 23 rfl rfl
theorem dksL_law_39 : cL_law.data.toList.drop 1108 = dktL_law_39 := dk_seg dksL_law_38 24 rfl rfl
theorem dksL_law_40 : cL_law.data.toList.drop 1130 = dktL_law_40 := dk_seg dksL_law_39 22 rfl rfl
theorem dksL_law_41 : cL_law.data.toList.drop 1154 = dktL_law_41 := dk_seg dksL_law_40 24 rfl rfl
theorem dksL_law_42 : cL_law.data.toList.drop 1176 = dktL_law_42 := dk_seg dksL_law_41 22 rfl rfl
theorem dksL_law_43 : cL_law.data.toList.drop 1198 = dktL_law_43 := dk_seg dksL_law_42 22 rfl rfl
theorem dksL_law_44 : cL_law.data.toList.drop 1222 = dktL_law_44 := dk_seg dksL_law_43 24 rfl rfl
theorem dksL_law_45 : cL_law.data.toList.drop 1244 = dktL_law_45 := dk_seg dksL_law_44 22 rfl rfl
theorem dksL_law_46 : cL_law.data.toList.drop 1267 = dktL_law_46 := dk_seg dksL_law_45 23 rfl rfl
theorem dksL_law_47 : cL_law.data.toList.drop 1290 = dktL_law_47 := dk_seg dksL_law_46 23 rfl rfl
theorem dksL_law_48 : cL_law.data.toList.drop 1314 = dktL_law_48 := dk_seg dksL_law_47 24 rfl rfl
theorem dksL_law_49 : cL_law.data.toList.drop 1337 = dktL_law_49 := dk_seg dksL_law_48 23 rfl rfl
theorem dksL_law_50 : cL_law.data.toList.drop 1361 = dktL_law_50 := dk_seg dksL_law_49 24 rfl rfl
theorem dksL_law_51 : cL_law.data.toList.drop 1384 = dktL_law_51 := dk_seg dksL_law_50 23 rfl rfl
theorem dksL_law_52 : cL_law.data.toList.drop 1408 = dktL_law_52 := dk_seg dksL_law_51 24 rfl rfl
theorem dksL_law_53 : cL_law.data.toList.drop 1432 = dktL_law_53 := dk_seg dksL_law_52 24 rfl rfl
theorem dksL_law_54 : cL_law.data.toList.drop 1455 = dktL_law_54 := dk_seg dksL_law_53 23 rfl rfl
theorem dksL_law_55 : cL_law.data.toList.drop 1479 = dktL_law_55 := dk_seg dksL_law_54 24 rfl rfl
theorem dksL_law_56 : cL_law.data.toList.drop 1503 = dktL_law_56 := dk_seg dksL_law_55 24 rfl rfl
theorem dksL_law_57 : cL_law.data.toList.drop 1526 = dktL_law_57 := dk_seg dksL_law_56 23 rfl rfl
theorem dksL_law_58 : cL_law.data.toList.drop 1550 = dktL_law_58 := dk_seg dksL_law_57 24 rfl rfl
theorem dksL_law_59 : cL_law.data.toList.drop 1574 = dktL_law_59 := dk_seg dksL_law_58 24 rfl rfl
theorem dksL_law_60 : cL_law.data.toList.drop 1598 = dktL_law_60 := dk_seg dksL_law_59 24 rfl rfl
theorem dksL_law_61 : cL_law.data.toList.drop 1620 = dktL_law_61 := dk_seg dksL_law_60 22 rfl rfl
theorem dksL_law_62 : cL_law.data.toList.drop 1643 = dktL_law_62 := dk_seg dksL_law_61 23 rfl rfl
theorem dksL_law_63 : cL_law.data.toList.drop 1665 = dktL_law_63 := dk_seg dksL_law_62 22 rfl rfl
theorem dksL_law_64 : cL_law.data.toList.drop 1688 = dktL_law_64 := dk_seg dksL_law_63 23 rfl rfl
theorem dksL_law_65 : cL_law.data.toList.drop 1711 = dktL_law_65 := dk_seg dksL_law_64 23 rfl rfl
theorem dksL_law_66 : cL_law.data.toList.drop 1735 = dktL_law_66 := dk_seg dksL_law_65 24 rfl rfl
theorem dksL_law_67 : cL_law.data.toList.drop 1759 = dktL_law_67 := dk_seg dksL_law_66 24 rfl rfl
theorem dksL_law_68 : cL_law.data.toList.drop 1783 = dktL_law_68 := dk_seg dksL_law_67 24 rfl rfl
theorem dksL_law_69 : cL_law.data.toList.drop 1806 = dktL_law_69 := dk_seg dksL_law_68 23 rfl rfl
theorem dksL_law_70 : cL_law.data.toList.drop 1829 = dktL_law_70 := dk_seg dksL_law_69 23 rfl rfl
theorem dksL_law_71 : cL_law.data.toList.drop 1852 = dktL_law_71 := dk_seg dksL_law_70 23 rfl rfl
theorem dksL_law_72 : cL_law.data.toList.drop 1874 = dktL_law_72 := dk_seg dksL_law_71 22 rfl rfl
theorem dksL_law_73 : cL_law.data.toList.drop 1898 = dktL_law_73 := dk_seg dksL_law_72 24 rfl rfl
theorem dksL_law_74 : cL_law.data.toList.drop 1920 = dktL_law_74 := dk_seg dksL_law_73 22 rfl rfl
theorem dksL_law_75 : cL_law.data.toList.drop 1942 = dktL_law_75 := dk_seg dksL_law_74 22 rfl rfl
theorem dksL_law_76 : cL_law.data.toList.drop 1966 = dktL_law_76 := dk_seg dksL_law_75 24 rfl rfl
theorem dksL_law_77 : cL_law.data.toList.drop 1989 = dktL_law_77 := dk_seg dksL_law_76 23 rfl rfl
theorem dksL_law_78 : cL_law.data.toList.drop 2011 = dktL_law_78 := dk_seg dksL_law_77 22 rfl rfl
theorem dksL_law_79 : cL_law.data.toList.drop 2034 = dktL_law_79 := dk_seg dksL_law_78 23 rfl rfl
theorem dksL_law_80 : cL_law.data.toList.drop 2058 = dktL_law_80 := dk_seg dksL_law_79 24 rfl rfl
theorem dksL_law_81 : cL_law.data.toList.drop 2082 = dktL_law_81 := dk_seg dksL_law_80 24 rfl rfl
theorem dksL_law_82 : cL_law.data.toList.drop 2105 = dktL_law_82 := dk_seg dksL_law_81 23 rfl rfl
theorem dksL_law_83 : cL_law.data.toList.drop 2129 = dktL_law_83 := dk_seg dksL_law_82 24 rfl rfl
theorem dksL_law_84 : cL_law.data.toList.drop 2153 = dktL_law_84 := dk_seg dksL_law_83 24 rfl rfl
theorem dksL_law_85 : cL_law.data.toList.drop 2176 = dktL_law_85 := dk_seg dksL_law_84 23 rfl rfl
theorem dksL_law_86 : cL_law.data.toList.drop 2200 = dktL_law_86 := dk_seg dksL_law_85 24 rfl rfl
theorem dksL_law_87 : cL_law.data.toList.drop 2224 = dktL_law_87 := dk_seg dksL_law_86 24 rfl rfl
theorem dksL_law_88 : cL_law.data.toList.drop 2248 = dktL_law_88 := dk_seg dksL_law_87 24 rfl rfl
theorem dksL_law_89 : cL_law.data.toList.drop 2272 = dktL_law_89 := dk_seg dksL_law_88 24 rfl rfl
theorem dksL_law_90 : cL_law.data.toList.drop 2294 = dktL_law_90 := dk_seg dksL_law_89 22 rfl rfl
theorem dksL_law_91 : cL_law.data.toList.drop 2318 = dktL_law_91 := dk_seg dksL_law_90 24 rfl rfl
theorem dksL_law_92 : cL_law.data.toList.drop 2341 = dktL_law_92 := dk_seg dksL_law_91 23 rfl rfl
theorem dksL_law_93 : cL_law.data.toList.drop 2365 = dktL_law_93 := dk_seg dksL_law_92 24 rfl rfl
theorem dksL_law_94 : cL_law.data.toList.drop 2388 = dktL_law_94 := dk_seg dksL_law_93 23 rfl rfl
theorem dksL_law_95 : cL_law.data.toList.drop 2412 = dktL_law_95 := dk_seg dksL_law_94 24 rfl rfl
theorem dksL_law_96 : cL_law.data.toList.drop 2434 = dktL_law_96 := dk_seg dksL_law_95 22 rfl rfl
theorem dksL_law_97 : cL_law.data.toList.drop 2457 = dktL_law_97 := dk_seg dksL_law_96 23 rfl rfl
theorem dksL_law_98 : cL_law.data.toList.drop 2480 = dktL_law_98 := dk_seg dksL_law_97 23 rfl rfl
theorem dksL_law_99 : cL_law.data.toList.drop 2504 = dktL_law_99 := dk_seg dksL_law_98 24 rfl rfl
theorem dksL_law_100 : cL_law.data.toList.drop 2527 = dktL_law_100 := dk_seg dksL_law_99 23 rfl rfl
theorem dksL_law_101 : cL_law.data.toList.drop 2551 = dktL_law_101 := dk_seg dksL_law_100 24 rfl rfl
theorem dksL_law_102 : cL_law.data.toList.drop 2574 = dktL_law_102 := dk_seg dksL_law_101 23 rfl rfl
theorem dksL_law_103 : cL_law.data.toList.drop 2598 = dktL_law_103 := dk_seg dksL_law_102 24 rfl rfl
theorem dksL_law_104 : cL_law.data.toList.drop 2621 = dktL_law_104 := dk_seg dksL_law_103 23 rfl rfl
theorem dksL_law_105 : cL_law.data.toList.drop 2645 = dktL_law_105 := dk_seg dksL_law_104 24 rfl rfl
theorem dksL_law_106 : cL_law.data.toList.drop 2668 = dktL_law_106 := dk_seg dksL_law_105 23 rfl rfl
theorem dksL_law_107 : cL_law.data.toList.drop 2692 = dktL_law_107 := dk_seg dksL_law_106 24 rfl rfl
theorem dksL_law_108 : cL_law.data.toList.drop 2716 = dktL_law_108 := dk_seg dksL_law_107 24 rfl rfl
theorem dksL_law_109 : cL_law.data.toList.drop 2740 = dktL_law_109 := dk_seg dksL_law_108 24 rfl rfl
theorem dksL_law_110 : cL_law.data.toList.drop 2763 = dktL_law_110 := dk_seg dksL_law_109 23 rfl rfl
theorem dksL_law_111 : cL_law.data.toList.drop 2787 = dktL_law_111 := dk_seg dksL_law_110 24 rfl rfl
theorem dksL_law_112 : cL_law.data.toList.drop 2811 = dktL_law_112 := dk_seg dksL_law_111 24 rfl rfl
theorem dksL_law_113 : cL_law.data.toList.drop 2834 = dktL_law_113 := dk_seg dksL_law_112 23 rfl rfl
theorem dksL_law_114 : cL_law.data.toList.drop 2858 = dktL_law_114 := dk_seg dksL_law_113 24 rfl rfl
theorem dksL_law_115 : cL_law.data.toList.drop 2882 = dktL_law_115 := dk_seg dksL_law_114 24 rfl rfl
theorem dksL_law_116 : cL_law.data.toList.drop 2906 = dktL_law_116 := dk_seg dksL_law_115 24 rfl rfl
theorem dksL_law_117 : cL_law.data.toList.drop 2929 = dktL_law_117 := dk_seg dksL_law_116 23 rfl rfl
theorem dksL_law_118 : cL_law.data.toList.drop 2953 = dktL_law_118 := dk_seg dksL_law_117 24 rfl rfl
theorem dksL_law_119 : cL_law.data.toList.drop 2976 = dktL_law_119 := dk_seg dksL_law_118 23 rfl rfl
theorem dksL_law_120 : cL_law.data.toList.drop 3000 = dktL_law_120 := dk_seg dksL_law_119 24 rfl rfl
theorem dksL_law_121 : cL_law.data.toList.drop 3022 = dktL_law_121 := dk_seg dksL_law_120 22 rfl rfl
theorem dksL_law_122 : cL_law.data.toList.drop 3044 = dktL_law_122 := dk_seg dksL_law_121 22 rfl rfl
theorem dksL_law_123 : cL_law.data.toList.drop 3068 = dktL_law_123 := dk_seg dksL_law_122 24 rfl rfl
theorem dksL_law_124 : cL_law.data.toList.drop 3090 = dktL_law_124 := dk_seg dksL_law_123 22 rfl rfl
theorem dksL_law_125 : cL_law.data.toList.drop 3113 = dktL_law_125 := dk_seg dksL_law_124 23 rfl rfl
theorem dksL_law_126 : cL_law.data.toList.drop 3137 = dktL_law_126 := dk_seg dksL_law_125 24 rfl rfl
theorem dksL_law_127 : cL_law.data.toList.drop 3159 = dktL_law_127 := dk_seg dksL_law_126 22 rfl rfl
theorem dksL_law_128 : cL_law.data.toList.drop 3182 = dktL_law_128 := dk_seg dksL_law_127 23 rfl rfl
theorem dksL_law_129 : cL_law.data.toList.drop 3205 = dktL_law_129 := dk_seg dksL_law_128 23 rfl rfl
theorem dksL_law_130 : cL_law.data.toList.drop 3229 = dktL_law_130 := dk_seg dksL_law_129 24 rfl rfl
theorem dL_law_0 : decode cL_law 0 = .ok (.new 8, 3) := dk_187 0 8 (dk_at dksL_law_0 0 rfl rfl)
theorem dL_law_3 : decode cL_law 3 = .ok (.dup, 1) := dk_89 (dk_at dksL_law_0 3 rfl rfl)
theorem dL_law_4 : decode cL_law 4 = .ok (.invokespecial 157, 3) := dk_183 0 157 (dk_at dksL_law_0 4 rfl rfl)
theorem dL_law_7 : decode cL_law 7 = .ok (.astore_n 1, 1) := dk_76 (dk_at dksL_law_0 7 rfl rfl)
theorem dL_law_8 : decode cL_law 8 = .ok (.new 158, 3) := dk_187 0 158 (dk_at dksL_law_0 8 rfl rfl)
theorem dL_law_11 : decode cL_law 11 = .ok (.dup, 1) := dk_89 (dk_at dksL_law_0 11 rfl rfl)
theorem dL_law_12 : decode cL_law 12 = .ok (.invokespecial 160, 3) := dk_183 0 160 (dk_at dksL_law_0 12 rfl rfl)
theorem dL_law_15 : decode cL_law 15 = .ok (.astore_n 2, 1) := dk_77 (dk_at dksL_law_0 15 rfl rfl)
theorem dL_law_16 : decode cL_law 16 = .ok (.iconst 1, 1) := dk_4 (dk_at dksL_law_0 16 rfl rfl)
theorem dL_law_17 : decode cL_law 17 = .ok (.newarray .long, 2) := dk_188_11 (dk_at dksL_law_0 17 rfl rfl)
theorem dL_law_19 : decode cL_law 19 = .ok (.astore_n 3, 1) := dk_78 (dk_at dksL_law_0 19 rfl rfl)
theorem dL_law_20 : decode cL_law 20 = .ok (.iconst 1, 1) := dk_4 (dk_at dksL_law_0 20 rfl rfl)
theorem dL_law_21 : decode cL_law 21 = .ok (.newarray .double, 2) := dk_188_7 (dk_at dksL_law_0 21 rfl rfl)
theorem dL_law_23 : decode cL_law 23 = .ok (.astore 4, 2) := dk_58 4 (dk_at dksL_law_1 0 rfl rfl)
theorem dL_law_25 : decode cL_law 25 = .ok (.iconst 0, 1) := dk_3 (dk_at dksL_law_1 2 rfl rfl)
theorem dL_law_26 : decode cL_law 26 = .ok (.istore 5, 2) := dk_54 5 (dk_at dksL_law_1 3 rfl rfl)
theorem dL_law_28 : decode cL_law 28 = .ok (.iload 5, 2) := dk_21 5 (dk_at dksL_law_1 5 rfl rfl)
theorem dL_law_30 : decode cL_law 30 = .ok (.aload_n 0, 1) := dk_42 (dk_at dksL_law_1 7 rfl rfl)
theorem dL_law_31 : decode cL_law 31 = .ok (.arraylength, 1) := dk_190 (dk_at dksL_law_1 8 rfl rfl)
theorem dL_law_32 : decode cL_law 32 = .ok (.bipush 7, 2) := dk_16 7 (dk_at dksL_law_1 9 rfl rfl)
theorem dL_law_34 : decode cL_law 34 = .ok (.isub, 1) := dk_100 (dk_at dksL_law_1 11 rfl rfl)
theorem dL_law_35 : decode cL_law 35 = .ok (.if_icmp .gt 3194, 3) := dk_163 12 122 (dk_at dksL_law_1 12 rfl rfl)
theorem dL_law_38 : decode cL_law 38 = .ok (.aload_n 0, 1) := dk_42 (dk_at dksL_law_1 15 rfl rfl)
theorem dL_law_39 : decode cL_law 39 = .ok (.iload 5, 2) := dk_21 5 (dk_at dksL_law_1 16 rfl rfl)
theorem dL_law_41 : decode cL_law 41 = .ok (.iaload, 1) := dk_46 (dk_at dksL_law_1 18 rfl rfl)
theorem dL_law_42 : decode cL_law 42 = .ok (.bipush 63, 2) := dk_16 63 (dk_at dksL_law_1 19 rfl rfl)
theorem dL_law_44 : decode cL_law 44 = .ok (.iand, 1) := dk_126 (dk_at dksL_law_1 21 rfl rfl)
theorem dL_law_45 : decode cL_law 45 = .ok (.tableswitch 3178 0 49 #[215, 288, 344, 400, 413, 426, 482, 538, 594, 650, 706, 774, 830, 914, 1071, 1139, 1207, 1263, 1319, 1375, 1443, 1499, 1567, 1623, 1636, 1713, 1769, 1832, 1900, 1913, 1969, 2025, 2093, 2149, 2217, 2285, 2341, 2397, 2453, 2509, 2565, 2621, 2689, 2781, 2849, 2917, 2985, 3053, 3066, 3122], 215) := by decide +kernel
theorem dL_law_260 : decode cL_law 260 = .ok (.aload_n 1, 1) := dk_43 (dk_at dksL_law_3 0 rfl rfl)
theorem dL_law_261 : decode cL_law 261 = .ok (.aload_n 0, 1) := dk_42 (dk_at dksL_law_3 1 rfl rfl)
theorem dL_law_262 : decode cL_law 262 = .ok (.iload 5, 2) := dk_21 5 (dk_at dksL_law_3 2 rfl rfl)
theorem dL_law_264 : decode cL_law 264 = .ok (.iconst 1, 1) := dk_4 (dk_at dksL_law_3 4 rfl rfl)
theorem dL_law_265 : decode cL_law 265 = .ok (.iadd, 1) := dk_96 (dk_at dksL_law_3 5 rfl rfl)
theorem dL_law_266 : decode cL_law 266 = .ok (.iaload, 1) := dk_46 (dk_at dksL_law_3 6 rfl rfl)
theorem dL_law_267 : decode cL_law 267 = .ok (.aload_n 0, 1) := dk_42 (dk_at dksL_law_3 7 rfl rfl)
theorem dL_law_268 : decode cL_law 268 = .ok (.iload 5, 2) := dk_21 5 (dk_at dksL_law_3 8 rfl rfl)
theorem dL_law_270 : decode cL_law 270 = .ok (.iconst 2, 1) := dk_5 (dk_at dksL_law_3 10 rfl rfl)
theorem dL_law_271 : decode cL_law 271 = .ok (.iadd, 1) := dk_96 (dk_at dksL_law_3 11 rfl rfl)
theorem dL_law_272 : decode cL_law 272 = .ok (.iaload, 1) := dk_46 (dk_at dksL_law_3 12 rfl rfl)
theorem dL_law_273 : decode cL_law 273 = .ok (.aload_n 0, 1) := dk_42 (dk_at dksL_law_3 13 rfl rfl)
theorem dL_law_274 : decode cL_law 274 = .ok (.iload 5, 2) := dk_21 5 (dk_at dksL_law_3 14 rfl rfl)
theorem dL_law_276 : decode cL_law 276 = .ok (.iconst 3, 1) := dk_6 (dk_at dksL_law_3 16 rfl rfl)
theorem dL_law_277 : decode cL_law 277 = .ok (.iadd, 1) := dk_96 (dk_at dksL_law_3 17 rfl rfl)
theorem dL_law_278 : decode cL_law 278 = .ok (.iaload, 1) := dk_46 (dk_at dksL_law_3 18 rfl rfl)
theorem dL_law_279 : decode cL_law 279 = .ok (.aload_n 0, 1) := dk_42 (dk_at dksL_law_3 19 rfl rfl)
theorem dL_law_280 : decode cL_law 280 = .ok (.iload 5, 2) := dk_21 5 (dk_at dksL_law_3 20 rfl rfl)
theorem dL_law_282 : decode cL_law 282 = .ok (.iconst 4, 1) := dk_7 (dk_at dksL_law_3 22 rfl rfl)
theorem dL_law_283 : decode cL_law 283 = .ok (.iadd, 1) := dk_96 (dk_at dksL_law_3 23 rfl rfl)
theorem dL_law_284 : decode cL_law 284 = .ok (.iaload, 1) := dk_46 (dk_at dksL_law_4 0 rfl rfl)
theorem dL_law_285 : decode cL_law 285 = .ok (.aload_n 0, 1) := dk_42 (dk_at dksL_law_4 1 rfl rfl)
theorem dL_law_286 : decode cL_law 286 = .ok (.iload 5, 2) := dk_21 5 (dk_at dksL_law_4 2 rfl rfl)
theorem dL_law_288 : decode cL_law 288 = .ok (.iconst 5, 1) := dk_8 (dk_at dksL_law_4 4 rfl rfl)
theorem dL_law_289 : decode cL_law 289 = .ok (.iadd, 1) := dk_96 (dk_at dksL_law_4 5 rfl rfl)
theorem dL_law_290 : decode cL_law 290 = .ok (.iaload, 1) := dk_46 (dk_at dksL_law_4 6 rfl rfl)
theorem dL_law_291 : decode cL_law 291 = .ok (.invokevirtual 161, 3) := dk_182 0 161 (dk_at dksL_law_4 7 rfl rfl)
theorem dL_law_294 : decode cL_law 294 = .ok (.aload_n 2, 1) := dk_44 (dk_at dksL_law_4 10 rfl rfl)
theorem dL_law_295 : decode cL_law 295 = .ok (.aload_n 0, 1) := dk_42 (dk_at dksL_law_4 11 rfl rfl)
theorem dL_law_296 : decode cL_law 296 = .ok (.iload 5, 2) := dk_21 5 (dk_at dksL_law_4 12 rfl rfl)
theorem dL_law_298 : decode cL_law 298 = .ok (.iconst 1, 1) := dk_4 (dk_at dksL_law_4 14 rfl rfl)
theorem dL_law_299 : decode cL_law 299 = .ok (.iadd, 1) := dk_96 (dk_at dksL_law_4 15 rfl rfl)
theorem dL_law_300 : decode cL_law 300 = .ok (.iaload, 1) := dk_46 (dk_at dksL_law_4 16 rfl rfl)
theorem dL_law_301 : decode cL_law 301 = .ok (.aload_n 0, 1) := dk_42 (dk_at dksL_law_4 17 rfl rfl)
theorem dL_law_302 : decode cL_law 302 = .ok (.iload 5, 2) := dk_21 5 (dk_at dksL_law_4 18 rfl rfl)
theorem dL_law_304 : decode cL_law 304 = .ok (.iconst 2, 1) := dk_5 (dk_at dksL_law_4 20 rfl rfl)
theorem dL_law_305 : decode cL_law 305 = .ok (.iadd, 1) := dk_96 (dk_at dksL_law_4 21 rfl rfl)
theorem dL_law_306 : decode cL_law 306 = .ok (.iaload, 1) := dk_46 (dk_at dksL_law_4 22 rfl rfl)
theorem dL_law_307 : decode cL_law 307 = .ok (.aload_n 0, 1) := dk_42 (dk_at dksL_law_4 23 rfl rfl)
theorem dL_law_308 : decode cL_law 308 = .ok (.iload 5, 2) := dk_21 5 (dk_at dksL_law_5 0 rfl rfl)
theorem dL_law_310 : decode cL_law 310 = .ok (.iconst 3, 1) := dk_6 (dk_at dksL_law_5 2 rfl rfl)
theorem dL_law_311 : decode cL_law 311 = .ok (.iadd, 1) := dk_96 (dk_at dksL_law_5 3 rfl rfl)
theorem dL_law_312 : decode cL_law 312 = .ok (.iaload, 1) := dk_46 (dk_at dksL_law_5 4 rfl rfl)
theorem dL_law_313 : decode cL_law 313 = .ok (.aload_n 0, 1) := dk_42 (dk_at dksL_law_5 5 rfl rfl)
theorem dL_law_314 : decode cL_law 314 = .ok (.iload 5, 2) := dk_21 5 (dk_at dksL_law_5 6 rfl rfl)
theorem dL_law_316 : decode cL_law 316 = .ok (.iconst 4, 1) := dk_7 (dk_at dksL_law_5 8 rfl rfl)
theorem dL_law_317 : decode cL_law 317 = .ok (.iadd, 1) := dk_96 (dk_at dksL_law_5 9 rfl rfl)
theorem dL_law_318 : decode cL_law 318 = .ok (.iaload, 1) := dk_46 (dk_at dksL_law_5 10 rfl rfl)
theorem dL_law_319 : decode cL_law 319 = .ok (.aload_n 0, 1) := dk_42 (dk_at dksL_law_5 11 rfl rfl)
theorem dL_law_320 : decode cL_law 320 = .ok (.iload 5, 2) := dk_21 5 (dk_at dksL_law_5 12 rfl rfl)
theorem dL_law_322 : decode cL_law 322 = .ok (.iconst 5, 1) := dk_8 (dk_at dksL_law_5 14 rfl rfl)
theorem dL_law_323 : decode cL_law 323 = .ok (.iadd, 1) := dk_96 (dk_at dksL_law_5 15 rfl rfl)
theorem dL_law_324 : decode cL_law 324 = .ok (.iaload, 1) := dk_46 (dk_at dksL_law_5 16 rfl rfl)
theorem dL_law_325 : decode cL_law 325 = .ok (.invokevirtual 165, 3) := dk_182 0 165 (dk_at dksL_law_5 17 rfl rfl)
theorem dL_law_328 : decode cL_law 328 = .ok (.if_icmp .eq 2895, 3) := dk_159 11 79 (dk_at dksL_law_5 20 rfl rfl)
theorem dL_law_331 : decode cL_law 331 = .ok (.iconst 0, 1) := dk_3 (dk_at dksL_law_5 23 rfl rfl)
theorem dL_law_332 : decode cL_law 332 = .ok (.ireturn, 1) := dk_172 (dk_at dksL_law_6 0 rfl rfl)
theorem dL_law_333 : decode cL_law 333 = .ok (.aload_n 1, 1) := dk_43 (dk_at dksL_law_6 1 rfl rfl)
theorem dL_law_334 : decode cL_law 334 = .ok (.aload_n 0, 1) := dk_42 (dk_at dksL_law_6 2 rfl rfl)
theorem dL_law_335 : decode cL_law 335 = .ok (.iload 5, 2) := dk_21 5 (dk_at dksL_law_6 3 rfl rfl)
theorem dL_law_337 : decode cL_law 337 = .ok (.iconst 1, 1) := dk_4 (dk_at dksL_law_6 5 rfl rfl)
theorem dL_law_338 : decode cL_law 338 = .ok (.iadd, 1) := dk_96 (dk_at dksL_law_6 6 rfl rfl)
theorem dL_law_339 : decode cL_law 339 = .ok (.iaload, 1) := dk_46 (dk_at dksL_law_6 7 rfl rfl)
theorem dL_law_340 : decode cL_law 340 = .ok (.aload_n 3, 1) := dk_45 (dk_at dksL_law_6 8 rfl rfl)
theorem dL_law_341 : decode cL_law 341 = .ok (.invokestatic 166, 3) := dk_184 0 166 (dk_at dksL_law_6 9 rfl rfl)
theorem dL_law_344 : decode cL_law 344 = .ok (.istore 6, 2) := dk_54 6 (dk_at dksL_law_6 12 rfl rfl)
theorem dL_law_346 : decode cL_law 346 = .ok (.aload_n 2, 1) := dk_44 (dk_at dksL_law_6 14 rfl rfl)
theorem dL_law_347 : decode cL_law 347 = .ok (.aload_n 0, 1) := dk_42 (dk_at dksL_law_6 15 rfl rfl)
theorem dL_law_348 : decode cL_law 348 = .ok (.iload 5, 2) := dk_21 5 (dk_at dksL_law_6 16 rfl rfl)
theorem dL_law_350 : decode cL_law 350 = .ok (.iconst 1, 1) := dk_4 (dk_at dksL_law_6 18 rfl rfl)
theorem dL_law_351 : decode cL_law 351 = .ok (.iadd, 1) := dk_96 (dk_at dksL_law_6 19 rfl rfl)
theorem dL_law_352 : decode cL_law 352 = .ok (.iaload, 1) := dk_46 (dk_at dksL_law_6 20 rfl rfl)
theorem dL_law_353 : decode cL_law 353 = .ok (.invokevirtual 171, 3) := dk_182 0 171 (dk_at dksL_law_6 21 rfl rfl)
theorem dL_law_356 : decode cL_law 356 = .ok (.istore 7, 2) := dk_54 7 (dk_at dksL_law_7 0 rfl rfl)
theorem dL_law_358 : decode cL_law 358 = .ok (.aload_n 2, 1) := dk_44 (dk_at dksL_law_7 2 rfl rfl)
theorem dL_law_359 : decode cL_law 359 = .ok (.invokevirtual 172, 3) := dk_182 0 172 (dk_at dksL_law_7 3 rfl rfl)
theorem dL_law_362 : decode cL_law 362 = .ok (.iload 6, 2) := dk_21 6 (dk_at dksL_law_7 6 rfl rfl)
theorem dL_law_364 : decode cL_law 364 = .ok (.if_icmp .eq 5, 3) := dk_159 0 5 (dk_at dksL_law_7 8 rfl rfl)
theorem dL_law_367 : decode cL_law 367 = .ok (.iconst 0, 1) := dk_3 (dk_at dksL_law_7 11 rfl rfl)
theorem dL_law_368 : decode cL_law 368 = .ok (.ireturn, 1) := dk_172 (dk_at dksL_law_7 12 rfl rfl)
theorem dL_law_369 : decode cL_law 369 = .ok (.iload 6, 2) := dk_21 6 (dk_at dksL_law_7 13 rfl rfl)
theorem dL_law_371 : decode cL_law 371 = .ok (.ifCond .ne 15, 3) := dk_154 0 15 (dk_at dksL_law_7 15 rfl rfl)
theorem dL_law_374 : decode cL_law 374 = .ok (.aload_n 3, 1) := dk_45 (dk_at dksL_law_7 18 rfl rfl)
theorem dL_law_375 : decode cL_law 375 = .ok (.iconst 0, 1) := dk_3 (dk_at dksL_law_7 19 rfl rfl)
theorem dL_law_376 : decode cL_law 376 = .ok (.laload, 1) := dk_47 (dk_at dksL_law_7 20 rfl rfl)
theorem dL_law_377 : decode cL_law 377 = .ok (.iload 7, 2) := dk_21 7 (dk_at dksL_law_7 21 rfl rfl)
theorem dL_law_379 : decode cL_law 379 = .ok (.i2l, 1) := dk_133 (dk_at dksL_law_7 23 rfl rfl)
theorem dL_law_380 : decode cL_law 380 = .ok (.lcmp, 1) := dk_148 (dk_at dksL_law_8 0 rfl rfl)
theorem dL_law_381 : decode cL_law 381 = .ok (.ifCond .eq 5, 3) := dk_153 0 5 (dk_at dksL_law_8 1 rfl rfl)
theorem dL_law_384 : decode cL_law 384 = .ok (.iconst 0, 1) := dk_3 (dk_at dksL_law_8 4 rfl rfl)
theorem dL_law_385 : decode cL_law 385 = .ok (.ireturn, 1) := dk_172 (dk_at dksL_law_8 5 rfl rfl)
theorem dL_law_386 : decode cL_law 386 = .ok (.goto 2837, 3) := dk_167 11 21 (dk_at dksL_law_8 6 rfl rfl)
theorem dL_law_389 : decode cL_law 389 = .ok (.aload_n 1, 1) := dk_43 (dk_at dksL_law_8 9 rfl rfl)
theorem dL_law_390 : decode cL_law 390 = .ok (.aload_n 0, 1) := dk_42 (dk_at dksL_law_8 10 rfl rfl)
theorem dL_law_391 : decode cL_law 391 = .ok (.iload 5, 2) := dk_21 5 (dk_at dksL_law_8 11 rfl rfl)
theorem dL_law_393 : decode cL_law 393 = .ok (.iconst 1, 1) := dk_4 (dk_at dksL_law_8 13 rfl rfl)
theorem dL_law_394 : decode cL_law 394 = .ok (.iadd, 1) := dk_96 (dk_at dksL_law_8 14 rfl rfl)
theorem dL_law_395 : decode cL_law 395 = .ok (.iaload, 1) := dk_46 (dk_at dksL_law_8 15 rfl rfl)
theorem dL_law_396 : decode cL_law 396 = .ok (.aload_n 3, 1) := dk_45 (dk_at dksL_law_8 16 rfl rfl)
theorem dL_law_397 : decode cL_law 397 = .ok (.invokestatic 176, 3) := dk_184 0 176 (dk_at dksL_law_8 17 rfl rfl)
theorem dL_law_400 : decode cL_law 400 = .ok (.istore 6, 2) := dk_54 6 (dk_at dksL_law_8 20 rfl rfl)
theorem dL_law_402 : decode cL_law 402 = .ok (.aload_n 2, 1) := dk_44 (dk_at dksL_law_8 22 rfl rfl)
theorem dL_law_403 : decode cL_law 403 = .ok (.aload_n 0, 1) := dk_42 (dk_at dksL_law_8 23 rfl rfl)
theorem dL_law_404 : decode cL_law 404 = .ok (.iload 5, 2) := dk_21 5 (dk_at dksL_law_9 0 rfl rfl)
theorem dL_law_406 : decode cL_law 406 = .ok (.iconst 1, 1) := dk_4 (dk_at dksL_law_9 2 rfl rfl)
theorem dL_law_407 : decode cL_law 407 = .ok (.iadd, 1) := dk_96 (dk_at dksL_law_9 3 rfl rfl)
theorem dL_law_408 : decode cL_law 408 = .ok (.iaload, 1) := dk_46 (dk_at dksL_law_9 4 rfl rfl)
theorem dL_law_409 : decode cL_law 409 = .ok (.invokevirtual 178, 3) := dk_182 0 178 (dk_at dksL_law_9 5 rfl rfl)
theorem dL_law_412 : decode cL_law 412 = .ok (.istore 7, 2) := dk_54 7 (dk_at dksL_law_9 8 rfl rfl)
theorem dL_law_414 : decode cL_law 414 = .ok (.aload_n 2, 1) := dk_44 (dk_at dksL_law_9 10 rfl rfl)
theorem dL_law_415 : decode cL_law 415 = .ok (.invokevirtual 172, 3) := dk_182 0 172 (dk_at dksL_law_9 11 rfl rfl)
theorem dL_law_418 : decode cL_law 418 = .ok (.iload 6, 2) := dk_21 6 (dk_at dksL_law_9 14 rfl rfl)
theorem dL_law_420 : decode cL_law 420 = .ok (.if_icmp .eq 5, 3) := dk_159 0 5 (dk_at dksL_law_9 16 rfl rfl)
theorem dL_law_423 : decode cL_law 423 = .ok (.iconst 0, 1) := dk_3 (dk_at dksL_law_9 19 rfl rfl)
theorem dL_law_424 : decode cL_law 424 = .ok (.ireturn, 1) := dk_172 (dk_at dksL_law_9 20 rfl rfl)
theorem dL_law_425 : decode cL_law 425 = .ok (.iload 6, 2) := dk_21 6 (dk_at dksL_law_9 21 rfl rfl)
theorem dL_law_427 : decode cL_law 427 = .ok (.ifCond .ne 15, 3) := dk_154 0 15 (dk_at dksL_law_10 0 rfl rfl)
theorem dL_law_430 : decode cL_law 430 = .ok (.aload_n 3, 1) := dk_45 (dk_at dksL_law_10 3 rfl rfl)
theorem dL_law_431 : decode cL_law 431 = .ok (.iconst 0, 1) := dk_3 (dk_at dksL_law_10 4 rfl rfl)
theorem dL_law_432 : decode cL_law 432 = .ok (.laload, 1) := dk_47 (dk_at dksL_law_10 5 rfl rfl)
theorem dL_law_433 : decode cL_law 433 = .ok (.iload 7, 2) := dk_21 7 (dk_at dksL_law_10 6 rfl rfl)
theorem dL_law_435 : decode cL_law 435 = .ok (.i2l, 1) := dk_133 (dk_at dksL_law_10 8 rfl rfl)
theorem dL_law_436 : decode cL_law 436 = .ok (.lcmp, 1) := dk_148 (dk_at dksL_law_10 9 rfl rfl)
theorem dL_law_437 : decode cL_law 437 = .ok (.ifCond .eq 5, 3) := dk_153 0 5 (dk_at dksL_law_10 10 rfl rfl)
theorem dL_law_440 : decode cL_law 440 = .ok (.iconst 0, 1) := dk_3 (dk_at dksL_law_10 13 rfl rfl)
theorem dL_law_441 : decode cL_law 441 = .ok (.ireturn, 1) := dk_172 (dk_at dksL_law_10 14 rfl rfl)
theorem dL_law_442 : decode cL_law 442 = .ok (.goto 2781, 3) := dk_167 10 221 (dk_at dksL_law_10 15 rfl rfl)
theorem dL_law_445 : decode cL_law 445 = .ok (.aload_n 1, 1) := dk_43 (dk_at dksL_law_10 18 rfl rfl)
theorem dL_law_446 : decode cL_law 446 = .ok (.invokevirtual 179, 3) := dk_182 0 179 (dk_at dksL_law_10 19 rfl rfl)
theorem dL_law_449 : decode cL_law 449 = .ok (.aload_n 2, 1) := dk_44 (dk_at dksL_law_10 22 rfl rfl)
theorem dL_law_450 : decode cL_law 450 = .ok (.invokevirtual 182, 3) := dk_182 0 182 (dk_at dksL_law_11 0 rfl rfl)
theorem dL_law_453 : decode cL_law 453 = .ok (.if_icmp .eq 2770, 3) := dk_159 10 210 (dk_at dksL_law_11 3 rfl rfl)
theorem dL_law_456 : decode cL_law 456 = .ok (.iconst 0, 1) := dk_3 (dk_at dksL_law_11 6 rfl rfl)
theorem dL_law_457 : decode cL_law 457 = .ok (.ireturn, 1) := dk_172 (dk_at dksL_law_11 7 rfl rfl)
theorem dL_law_458 : decode cL_law 458 = .ok (.aload_n 1, 1) := dk_43 (dk_at dksL_law_11 8 rfl rfl)
theorem dL_law_459 : decode cL_law 459 = .ok (.invokevirtual 183, 3) := dk_182 0 183 (dk_at dksL_law_11 9 rfl rfl)
theorem dL_law_462 : decode cL_law 462 = .ok (.aload_n 2, 1) := dk_44 (dk_at dksL_law_11 12 rfl rfl)
theorem dL_law_463 : decode cL_law 463 = .ok (.invokevirtual 186, 3) := dk_182 0 186 (dk_at dksL_law_11 13 rfl rfl)
theorem dL_law_466 : decode cL_law 466 = .ok (.if_icmp .eq 2757, 3) := dk_159 10 197 (dk_at dksL_law_11 16 rfl rfl)
theorem dL_law_469 : decode cL_law 469 = .ok (.iconst 0, 1) := dk_3 (dk_at dksL_law_11 19 rfl rfl)
theorem dL_law_470 : decode cL_law 470 = .ok (.ireturn, 1) := dk_172 (dk_at dksL_law_11 20 rfl rfl)
theorem dL_law_471 : decode cL_law 471 = .ok (.aload_n 1, 1) := dk_43 (dk_at dksL_law_11 21 rfl rfl)
theorem dL_law_472 : decode cL_law 472 = .ok (.aload_n 0, 1) := dk_42 (dk_at dksL_law_11 22 rfl rfl)
theorem dL_law_473 : decode cL_law 473 = .ok (.iload 5, 2) := dk_21 5 (dk_at dksL_law_12 0 rfl rfl)
theorem dL_law_475 : decode cL_law 475 = .ok (.iconst 1, 1) := dk_4 (dk_at dksL_law_12 2 rfl rfl)
theorem dL_law_476 : decode cL_law 476 = .ok (.iadd, 1) := dk_96 (dk_at dksL_law_12 3 rfl rfl)
theorem dL_law_477 : decode cL_law 477 = .ok (.iaload, 1) := dk_46 (dk_at dksL_law_12 4 rfl rfl)
theorem dL_law_478 : decode cL_law 478 = .ok (.aload_n 3, 1) := dk_45 (dk_at dksL_law_12 5 rfl rfl)
theorem dL_law_479 : decode cL_law 479 = .ok (.invokestatic 187, 3) := dk_184 0 187 (dk_at dksL_law_12 6 rfl rfl)
theorem dL_law_482 : decode cL_law 482 = .ok (.istore 6, 2) := dk_54 6 (dk_at dksL_law_12 9 rfl rfl)
theorem dL_law_484 : decode cL_law 484 = .ok (.aload_n 2, 1) := dk_44 (dk_at dksL_law_12 11 rfl rfl)
theorem dL_law_485 : decode cL_law 485 = .ok (.aload_n 0, 1) := dk_42 (dk_at dksL_law_12 12 rfl rfl)
theorem dL_law_486 : decode cL_law 486 = .ok (.iload 5, 2) := dk_21 5 (dk_at dksL_law_12 13 rfl rfl)
theorem dL_law_488 : decode cL_law 488 = .ok (.iconst 1, 1) := dk_4 (dk_at dksL_law_12 15 rfl rfl)
theorem dL_law_489 : decode cL_law 489 = .ok (.iadd, 1) := dk_96 (dk_at dksL_law_12 16 rfl rfl)
theorem dL_law_490 : decode cL_law 490 = .ok (.iaload, 1) := dk_46 (dk_at dksL_law_12 17 rfl rfl)
theorem dL_law_491 : decode cL_law 491 = .ok (.invokevirtual 189, 3) := dk_182 0 189 (dk_at dksL_law_12 18 rfl rfl)
theorem dL_law_494 : decode cL_law 494 = .ok (.istore 7, 2) := dk_54 7 (dk_at dksL_law_12 21 rfl rfl)
theorem dL_law_496 : decode cL_law 496 = .ok (.aload_n 2, 1) := dk_44 (dk_at dksL_law_12 23 rfl rfl)
theorem dL_law_497 : decode cL_law 497 = .ok (.invokevirtual 172, 3) := dk_182 0 172 (dk_at dksL_law_13 0 rfl rfl)
theorem dL_law_500 : decode cL_law 500 = .ok (.iload 6, 2) := dk_21 6 (dk_at dksL_law_13 3 rfl rfl)
theorem dL_law_502 : decode cL_law 502 = .ok (.if_icmp .eq 5, 3) := dk_159 0 5 (dk_at dksL_law_13 5 rfl rfl)
theorem dL_law_505 : decode cL_law 505 = .ok (.iconst 0, 1) := dk_3 (dk_at dksL_law_13 8 rfl rfl)
theorem dL_law_506 : decode cL_law 506 = .ok (.ireturn, 1) := dk_172 (dk_at dksL_law_13 9 rfl rfl)
theorem dL_law_507 : decode cL_law 507 = .ok (.iload 6, 2) := dk_21 6 (dk_at dksL_law_13 10 rfl rfl)
theorem dL_law_509 : decode cL_law 509 = .ok (.ifCond .ne 15, 3) := dk_154 0 15 (dk_at dksL_law_13 12 rfl rfl)
theorem dL_law_512 : decode cL_law 512 = .ok (.aload_n 3, 1) := dk_45 (dk_at dksL_law_13 15 rfl rfl)
theorem dL_law_513 : decode cL_law 513 = .ok (.iconst 0, 1) := dk_3 (dk_at dksL_law_13 16 rfl rfl)
theorem dL_law_514 : decode cL_law 514 = .ok (.laload, 1) := dk_47 (dk_at dksL_law_13 17 rfl rfl)
theorem dL_law_515 : decode cL_law 515 = .ok (.iload 7, 2) := dk_21 7 (dk_at dksL_law_13 18 rfl rfl)
theorem dL_law_517 : decode cL_law 517 = .ok (.i2l, 1) := dk_133 (dk_at dksL_law_13 20 rfl rfl)
theorem dL_law_518 : decode cL_law 518 = .ok (.lcmp, 1) := dk_148 (dk_at dksL_law_13 21 rfl rfl)
theorem dL_law_519 : decode cL_law 519 = .ok (.ifCond .eq 5, 3) := dk_153 0 5 (dk_at dksL_law_14 0 rfl rfl)
theorem dL_law_522 : decode cL_law 522 = .ok (.iconst 0, 1) := dk_3 (dk_at dksL_law_14 3 rfl rfl)
theorem dL_law_523 : decode cL_law 523 = .ok (.ireturn, 1) := dk_172 (dk_at dksL_law_14 4 rfl rfl)
theorem dL_law_524 : decode cL_law 524 = .ok (.goto 2699, 3) := dk_167 10 139 (dk_at dksL_law_14 5 rfl rfl)
theorem dL_law_527 : decode cL_law 527 = .ok (.aload_n 1, 1) := dk_43 (dk_at dksL_law_14 8 rfl rfl)
theorem dL_law_528 : decode cL_law 528 = .ok (.aload_n 0, 1) := dk_42 (dk_at dksL_law_14 9 rfl rfl)
theorem dL_law_529 : decode cL_law 529 = .ok (.iload 5, 2) := dk_21 5 (dk_at dksL_law_14 10 rfl rfl)
theorem dL_law_531 : decode cL_law 531 = .ok (.iconst 1, 1) := dk_4 (dk_at dksL_law_14 12 rfl rfl)
theorem dL_law_532 : decode cL_law 532 = .ok (.iadd, 1) := dk_96 (dk_at dksL_law_14 13 rfl rfl)
theorem dL_law_533 : decode cL_law 533 = .ok (.iaload, 1) := dk_46 (dk_at dksL_law_14 14 rfl rfl)
theorem dL_law_534 : decode cL_law 534 = .ok (.aload_n 3, 1) := dk_45 (dk_at dksL_law_14 15 rfl rfl)
theorem dL_law_535 : decode cL_law 535 = .ok (.invokestatic 190, 3) := dk_184 0 190 (dk_at dksL_law_14 16 rfl rfl)
theorem dL_law_538 : decode cL_law 538 = .ok (.istore 6, 2) := dk_54 6 (dk_at dksL_law_14 19 rfl rfl)
theorem dL_law_540 : decode cL_law 540 = .ok (.aload_n 2, 1) := dk_44 (dk_at dksL_law_14 21 rfl rfl)
theorem dL_law_541 : decode cL_law 541 = .ok (.aload_n 0, 1) := dk_42 (dk_at dksL_law_14 22 rfl rfl)
theorem dL_law_542 : decode cL_law 542 = .ok (.iload 5, 2) := dk_21 5 (dk_at dksL_law_15 0 rfl rfl)
theorem dL_law_544 : decode cL_law 544 = .ok (.iconst 1, 1) := dk_4 (dk_at dksL_law_15 2 rfl rfl)
theorem dL_law_545 : decode cL_law 545 = .ok (.iadd, 1) := dk_96 (dk_at dksL_law_15 3 rfl rfl)
theorem dL_law_546 : decode cL_law 546 = .ok (.iaload, 1) := dk_46 (dk_at dksL_law_15 4 rfl rfl)
theorem dL_law_547 : decode cL_law 547 = .ok (.invokevirtual 192, 3) := dk_182 0 192 (dk_at dksL_law_15 5 rfl rfl)
theorem dL_law_550 : decode cL_law 550 = .ok (.istore 7, 2) := dk_54 7 (dk_at dksL_law_15 8 rfl rfl)
theorem dL_law_552 : decode cL_law 552 = .ok (.aload_n 2, 1) := dk_44 (dk_at dksL_law_15 10 rfl rfl)
theorem dL_law_553 : decode cL_law 553 = .ok (.invokevirtual 172, 3) := dk_182 0 172 (dk_at dksL_law_15 11 rfl rfl)
theorem dL_law_556 : decode cL_law 556 = .ok (.iload 6, 2) := dk_21 6 (dk_at dksL_law_15 14 rfl rfl)
theorem dL_law_558 : decode cL_law 558 = .ok (.if_icmp .eq 5, 3) := dk_159 0 5 (dk_at dksL_law_15 16 rfl rfl)
theorem dL_law_561 : decode cL_law 561 = .ok (.iconst 0, 1) := dk_3 (dk_at dksL_law_15 19 rfl rfl)
theorem dL_law_562 : decode cL_law 562 = .ok (.ireturn, 1) := dk_172 (dk_at dksL_law_15 20 rfl rfl)
theorem dL_law_563 : decode cL_law 563 = .ok (.iload 6, 2) := dk_21 6 (dk_at dksL_law_15 21 rfl rfl)
theorem dL_law_565 : decode cL_law 565 = .ok (.ifCond .ne 15, 3) := dk_154 0 15 (dk_at dksL_law_16 0 rfl rfl)
theorem dL_law_568 : decode cL_law 568 = .ok (.aload_n 3, 1) := dk_45 (dk_at dksL_law_16 3 rfl rfl)
theorem dL_law_569 : decode cL_law 569 = .ok (.iconst 0, 1) := dk_3 (dk_at dksL_law_16 4 rfl rfl)
theorem dL_law_570 : decode cL_law 570 = .ok (.laload, 1) := dk_47 (dk_at dksL_law_16 5 rfl rfl)
theorem dL_law_571 : decode cL_law 571 = .ok (.iload 7, 2) := dk_21 7 (dk_at dksL_law_16 6 rfl rfl)
theorem dL_law_573 : decode cL_law 573 = .ok (.i2l, 1) := dk_133 (dk_at dksL_law_16 8 rfl rfl)
theorem dL_law_574 : decode cL_law 574 = .ok (.lcmp, 1) := dk_148 (dk_at dksL_law_16 9 rfl rfl)
theorem dL_law_575 : decode cL_law 575 = .ok (.ifCond .eq 5, 3) := dk_153 0 5 (dk_at dksL_law_16 10 rfl rfl)
theorem dL_law_578 : decode cL_law 578 = .ok (.iconst 0, 1) := dk_3 (dk_at dksL_law_16 13 rfl rfl)
theorem dL_law_579 : decode cL_law 579 = .ok (.ireturn, 1) := dk_172 (dk_at dksL_law_16 14 rfl rfl)
theorem dL_law_580 : decode cL_law 580 = .ok (.goto 2643, 3) := dk_167 10 83 (dk_at dksL_law_16 15 rfl rfl)
theorem dL_law_583 : decode cL_law 583 = .ok (.aload_n 1, 1) := dk_43 (dk_at dksL_law_16 18 rfl rfl)
theorem dL_law_584 : decode cL_law 584 = .ok (.aload_n 0, 1) := dk_42 (dk_at dksL_law_16 19 rfl rfl)
theorem dL_law_585 : decode cL_law 585 = .ok (.iload 5, 2) := dk_21 5 (dk_at dksL_law_16 20 rfl rfl)
theorem dL_law_587 : decode cL_law 587 = .ok (.iconst 1, 1) := dk_4 (dk_at dksL_law_16 22 rfl rfl)
theorem dL_law_588 : decode cL_law 588 = .ok (.iadd, 1) := dk_96 (dk_at dksL_law_16 23 rfl rfl)
theorem dL_law_589 : decode cL_law 589 = .ok (.iaload, 1) := dk_46 (dk_at dksL_law_17 0 rfl rfl)
theorem dL_law_590 : decode cL_law 590 = .ok (.aload_n 3, 1) := dk_45 (dk_at dksL_law_17 1 rfl rfl)
theorem dL_law_591 : decode cL_law 591 = .ok (.invokestatic 193, 3) := dk_184 0 193 (dk_at dksL_law_17 2 rfl rfl)
theorem dL_law_594 : decode cL_law 594 = .ok (.istore 6, 2) := dk_54 6 (dk_at dksL_law_17 5 rfl rfl)
theorem dL_law_596 : decode cL_law 596 = .ok (.aload_n 2, 1) := dk_44 (dk_at dksL_law_17 7 rfl rfl)
theorem dL_law_597 : decode cL_law 597 = .ok (.aload_n 0, 1) := dk_42 (dk_at dksL_law_17 8 rfl rfl)
theorem dL_law_598 : decode cL_law 598 = .ok (.iload 5, 2) := dk_21 5 (dk_at dksL_law_17 9 rfl rfl)
theorem dL_law_600 : decode cL_law 600 = .ok (.iconst 1, 1) := dk_4 (dk_at dksL_law_17 11 rfl rfl)
theorem dL_law_601 : decode cL_law 601 = .ok (.iadd, 1) := dk_96 (dk_at dksL_law_17 12 rfl rfl)
theorem dL_law_602 : decode cL_law 602 = .ok (.iaload, 1) := dk_46 (dk_at dksL_law_17 13 rfl rfl)
theorem dL_law_603 : decode cL_law 603 = .ok (.invokevirtual 195, 3) := dk_182 0 195 (dk_at dksL_law_17 14 rfl rfl)
theorem dL_law_606 : decode cL_law 606 = .ok (.istore 7, 2) := dk_54 7 (dk_at dksL_law_17 17 rfl rfl)
theorem dL_law_608 : decode cL_law 608 = .ok (.aload_n 2, 1) := dk_44 (dk_at dksL_law_17 19 rfl rfl)
theorem dL_law_609 : decode cL_law 609 = .ok (.invokevirtual 172, 3) := dk_182 0 172 (dk_at dksL_law_17 20 rfl rfl)
theorem dL_law_612 : decode cL_law 612 = .ok (.iload 6, 2) := dk_21 6 (dk_at dksL_law_18 0 rfl rfl)
theorem dL_law_614 : decode cL_law 614 = .ok (.if_icmp .eq 5, 3) := dk_159 0 5 (dk_at dksL_law_18 2 rfl rfl)
theorem dL_law_617 : decode cL_law 617 = .ok (.iconst 0, 1) := dk_3 (dk_at dksL_law_18 5 rfl rfl)
theorem dL_law_618 : decode cL_law 618 = .ok (.ireturn, 1) := dk_172 (dk_at dksL_law_18 6 rfl rfl)
theorem dL_law_619 : decode cL_law 619 = .ok (.iload 6, 2) := dk_21 6 (dk_at dksL_law_18 7 rfl rfl)
theorem dL_law_621 : decode cL_law 621 = .ok (.ifCond .ne 15, 3) := dk_154 0 15 (dk_at dksL_law_18 9 rfl rfl)
theorem dL_law_624 : decode cL_law 624 = .ok (.aload_n 3, 1) := dk_45 (dk_at dksL_law_18 12 rfl rfl)
theorem dL_law_625 : decode cL_law 625 = .ok (.iconst 0, 1) := dk_3 (dk_at dksL_law_18 13 rfl rfl)
theorem dL_law_626 : decode cL_law 626 = .ok (.laload, 1) := dk_47 (dk_at dksL_law_18 14 rfl rfl)
theorem dL_law_627 : decode cL_law 627 = .ok (.iload 7, 2) := dk_21 7 (dk_at dksL_law_18 15 rfl rfl)
theorem dL_law_629 : decode cL_law 629 = .ok (.i2l, 1) := dk_133 (dk_at dksL_law_18 17 rfl rfl)
theorem dL_law_630 : decode cL_law 630 = .ok (.lcmp, 1) := dk_148 (dk_at dksL_law_18 18 rfl rfl)
theorem dL_law_631 : decode cL_law 631 = .ok (.ifCond .eq 5, 3) := dk_153 0 5 (dk_at dksL_law_18 19 rfl rfl)
theorem dL_law_634 : decode cL_law 634 = .ok (.iconst 0, 1) := dk_3 (dk_at dksL_law_18 22 rfl rfl)
theorem dL_law_635 : decode cL_law 635 = .ok (.ireturn, 1) := dk_172 (dk_at dksL_law_18 23 rfl rfl)
theorem dL_law_636 : decode cL_law 636 = .ok (.goto 2587, 3) := dk_167 10 27 (dk_at dksL_law_19 0 rfl rfl)
theorem dL_law_639 : decode cL_law 639 = .ok (.aload_n 1, 1) := dk_43 (dk_at dksL_law_19 3 rfl rfl)
theorem dL_law_640 : decode cL_law 640 = .ok (.aload_n 0, 1) := dk_42 (dk_at dksL_law_19 4 rfl rfl)
theorem dL_law_641 : decode cL_law 641 = .ok (.iload 5, 2) := dk_21 5 (dk_at dksL_law_19 5 rfl rfl)
theorem dL_law_643 : decode cL_law 643 = .ok (.iconst 1, 1) := dk_4 (dk_at dksL_law_19 7 rfl rfl)
theorem dL_law_644 : decode cL_law 644 = .ok (.iadd, 1) := dk_96 (dk_at dksL_law_19 8 rfl rfl)
theorem dL_law_645 : decode cL_law 645 = .ok (.iaload, 1) := dk_46 (dk_at dksL_law_19 9 rfl rfl)
theorem dL_law_646 : decode cL_law 646 = .ok (.aload_n 3, 1) := dk_45 (dk_at dksL_law_19 10 rfl rfl)
theorem dL_law_647 : decode cL_law 647 = .ok (.invokestatic 196, 3) := dk_184 0 196 (dk_at dksL_law_19 11 rfl rfl)
theorem dL_law_650 : decode cL_law 650 = .ok (.istore 6, 2) := dk_54 6 (dk_at dksL_law_19 14 rfl rfl)
theorem dL_law_652 : decode cL_law 652 = .ok (.aload_n 2, 1) := dk_44 (dk_at dksL_law_19 16 rfl rfl)
theorem dL_law_653 : decode cL_law 653 = .ok (.aload_n 0, 1) := dk_42 (dk_at dksL_law_19 17 rfl rfl)
theorem dL_law_654 : decode cL_law 654 = .ok (.iload 5, 2) := dk_21 5 (dk_at dksL_law_19 18 rfl rfl)
theorem dL_law_656 : decode cL_law 656 = .ok (.iconst 1, 1) := dk_4 (dk_at dksL_law_19 20 rfl rfl)
theorem dL_law_657 : decode cL_law 657 = .ok (.iadd, 1) := dk_96 (dk_at dksL_law_19 21 rfl rfl)
theorem dL_law_658 : decode cL_law 658 = .ok (.iaload, 1) := dk_46 (dk_at dksL_law_19 22 rfl rfl)
theorem dL_law_659 : decode cL_law 659 = .ok (.invokevirtual 198, 3) := dk_182 0 198 (dk_at dksL_law_20 0 rfl rfl)
theorem dL_law_662 : decode cL_law 662 = .ok (.istore 7, 2) := dk_54 7 (dk_at dksL_law_20 3 rfl rfl)
theorem dL_law_664 : decode cL_law 664 = .ok (.aload_n 2, 1) := dk_44 (dk_at dksL_law_20 5 rfl rfl)
theorem dL_law_665 : decode cL_law 665 = .ok (.invokevirtual 172, 3) := dk_182 0 172 (dk_at dksL_law_20 6 rfl rfl)
theorem dL_law_668 : decode cL_law 668 = .ok (.iload 6, 2) := dk_21 6 (dk_at dksL_law_20 9 rfl rfl)
theorem dL_law_670 : decode cL_law 670 = .ok (.if_icmp .eq 5, 3) := dk_159 0 5 (dk_at dksL_law_20 11 rfl rfl)
theorem dL_law_673 : decode cL_law 673 = .ok (.iconst 0, 1) := dk_3 (dk_at dksL_law_20 14 rfl rfl)
theorem dL_law_674 : decode cL_law 674 = .ok (.ireturn, 1) := dk_172 (dk_at dksL_law_20 15 rfl rfl)
theorem dL_law_675 : decode cL_law 675 = .ok (.iload 6, 2) := dk_21 6 (dk_at dksL_law_20 16 rfl rfl)
theorem dL_law_677 : decode cL_law 677 = .ok (.ifCond .ne 15, 3) := dk_154 0 15 (dk_at dksL_law_20 18 rfl rfl)
theorem dL_law_680 : decode cL_law 680 = .ok (.aload_n 3, 1) := dk_45 (dk_at dksL_law_20 21 rfl rfl)
theorem dL_law_681 : decode cL_law 681 = .ok (.iconst 0, 1) := dk_3 (dk_at dksL_law_20 22 rfl rfl)
theorem dL_law_682 : decode cL_law 682 = .ok (.laload, 1) := dk_47 (dk_at dksL_law_20 23 rfl rfl)
theorem dL_law_683 : decode cL_law 683 = .ok (.iload 7, 2) := dk_21 7 (dk_at dksL_law_21 0 rfl rfl)
theorem dL_law_685 : decode cL_law 685 = .ok (.i2l, 1) := dk_133 (dk_at dksL_law_21 2 rfl rfl)
theorem dL_law_686 : decode cL_law 686 = .ok (.lcmp, 1) := dk_148 (dk_at dksL_law_21 3 rfl rfl)
theorem dL_law_687 : decode cL_law 687 = .ok (.ifCond .eq 5, 3) := dk_153 0 5 (dk_at dksL_law_21 4 rfl rfl)
theorem dL_law_690 : decode cL_law 690 = .ok (.iconst 0, 1) := dk_3 (dk_at dksL_law_21 7 rfl rfl)
theorem dL_law_691 : decode cL_law 691 = .ok (.ireturn, 1) := dk_172 (dk_at dksL_law_21 8 rfl rfl)
theorem dL_law_692 : decode cL_law 692 = .ok (.goto 2531, 3) := dk_167 9 227 (dk_at dksL_law_21 9 rfl rfl)
theorem dL_law_695 : decode cL_law 695 = .ok (.aload_n 1, 1) := dk_43 (dk_at dksL_law_21 12 rfl rfl)
theorem dL_law_696 : decode cL_law 696 = .ok (.aload_n 0, 1) := dk_42 (dk_at dksL_law_21 13 rfl rfl)
theorem dL_law_697 : decode cL_law 697 = .ok (.iload 5, 2) := dk_21 5 (dk_at dksL_law_21 14 rfl rfl)
theorem dL_law_699 : decode cL_law 699 = .ok (.iconst 1, 1) := dk_4 (dk_at dksL_law_21 16 rfl rfl)
theorem dL_law_700 : decode cL_law 700 = .ok (.iadd, 1) := dk_96 (dk_at dksL_law_21 17 rfl rfl)
theorem dL_law_701 : decode cL_law 701 = .ok (.iaload, 1) := dk_46 (dk_at dksL_law_21 18 rfl rfl)
theorem dL_law_702 : decode cL_law 702 = .ok (.aload_n 3, 1) := dk_45 (dk_at dksL_law_21 19 rfl rfl)
theorem dL_law_703 : decode cL_law 703 = .ok (.invokestatic 199, 3) := dk_184 0 199 (dk_at dksL_law_21 20 rfl rfl)
theorem dL_law_706 : decode cL_law 706 = .ok (.istore 6, 2) := dk_54 6 (dk_at dksL_law_22 0 rfl rfl)
theorem dL_law_708 : decode cL_law 708 = .ok (.aload_n 2, 1) := dk_44 (dk_at dksL_law_22 2 rfl rfl)
theorem dL_law_709 : decode cL_law 709 = .ok (.aload_n 0, 1) := dk_42 (dk_at dksL_law_22 3 rfl rfl)
theorem dL_law_710 : decode cL_law 710 = .ok (.iload 5, 2) := dk_21 5 (dk_at dksL_law_22 4 rfl rfl)
theorem dL_law_712 : decode cL_law 712 = .ok (.iconst 1, 1) := dk_4 (dk_at dksL_law_22 6 rfl rfl)
theorem dL_law_713 : decode cL_law 713 = .ok (.iadd, 1) := dk_96 (dk_at dksL_law_22 7 rfl rfl)
theorem dL_law_714 : decode cL_law 714 = .ok (.iaload, 1) := dk_46 (dk_at dksL_law_22 8 rfl rfl)
theorem dL_law_715 : decode cL_law 715 = .ok (.invokevirtual 201, 3) := dk_182 0 201 (dk_at dksL_law_22 9 rfl rfl)
theorem dL_law_718 : decode cL_law 718 = .ok (.istore 7, 2) := dk_54 7 (dk_at dksL_law_22 12 rfl rfl)
theorem dL_law_720 : decode cL_law 720 = .ok (.aload_n 2, 1) := dk_44 (dk_at dksL_law_22 14 rfl rfl)
theorem dL_law_721 : decode cL_law 721 = .ok (.invokevirtual 172, 3) := dk_182 0 172 (dk_at dksL_law_22 15 rfl rfl)
theorem dL_law_724 : decode cL_law 724 = .ok (.iload 6, 2) := dk_21 6 (dk_at dksL_law_22 18 rfl rfl)
theorem dL_law_726 : decode cL_law 726 = .ok (.if_icmp .eq 5, 3) := dk_159 0 5 (dk_at dksL_law_22 20 rfl rfl)
theorem dL_law_729 : decode cL_law 729 = .ok (.iconst 0, 1) := dk_3 (dk_at dksL_law_22 23 rfl rfl)
theorem dL_law_730 : decode cL_law 730 = .ok (.ireturn, 1) := dk_172 (dk_at dksL_law_23 0 rfl rfl)
theorem dL_law_731 : decode cL_law 731 = .ok (.iload 6, 2) := dk_21 6 (dk_at dksL_law_23 1 rfl rfl)
theorem dL_law_733 : decode cL_law 733 = .ok (.ifCond .ne 15, 3) := dk_154 0 15 (dk_at dksL_law_23 3 rfl rfl)
theorem dL_law_736 : decode cL_law 736 = .ok (.aload_n 3, 1) := dk_45 (dk_at dksL_law_23 6 rfl rfl)
theorem dL_law_737 : decode cL_law 737 = .ok (.iconst 0, 1) := dk_3 (dk_at dksL_law_23 7 rfl rfl)
theorem dL_law_738 : decode cL_law 738 = .ok (.laload, 1) := dk_47 (dk_at dksL_law_23 8 rfl rfl)
theorem dL_law_739 : decode cL_law 739 = .ok (.iload 7, 2) := dk_21 7 (dk_at dksL_law_23 9 rfl rfl)
theorem dL_law_741 : decode cL_law 741 = .ok (.i2l, 1) := dk_133 (dk_at dksL_law_23 11 rfl rfl)
theorem dL_law_742 : decode cL_law 742 = .ok (.lcmp, 1) := dk_148 (dk_at dksL_law_23 12 rfl rfl)
theorem dL_law_743 : decode cL_law 743 = .ok (.ifCond .eq 5, 3) := dk_153 0 5 (dk_at dksL_law_23 13 rfl rfl)
theorem dL_law_746 : decode cL_law 746 = .ok (.iconst 0, 1) := dk_3 (dk_at dksL_law_23 16 rfl rfl)
theorem dL_law_747 : decode cL_law 747 = .ok (.ireturn, 1) := dk_172 (dk_at dksL_law_23 17 rfl rfl)
theorem dL_law_748 : decode cL_law 748 = .ok (.goto 2475, 3) := dk_167 9 171 (dk_at dksL_law_23 18 rfl rfl)
theorem dL_law_751 : decode cL_law 751 = .ok (.aload_n 1, 1) := dk_43 (dk_at dksL_law_23 21 rfl rfl)
theorem dL_law_752 : decode cL_law 752 = .ok (.aload_n 0, 1) := dk_42 (dk_at dksL_law_23 22 rfl rfl)
theorem dL_law_753 : decode cL_law 753 = .ok (.iload 5, 2) := dk_21 5 (dk_at dksL_law_24 0 rfl rfl)
theorem dL_law_755 : decode cL_law 755 = .ok (.iconst 1, 1) := dk_4 (dk_at dksL_law_24 2 rfl rfl)
theorem dL_law_756 : decode cL_law 756 = .ok (.iadd, 1) := dk_96 (dk_at dksL_law_24 3 rfl rfl)
theorem dL_law_757 : decode cL_law 757 = .ok (.iaload, 1) := dk_46 (dk_at dksL_law_24 4 rfl rfl)
theorem dL_law_758 : decode cL_law 758 = .ok (.aload_n 0, 1) := dk_42 (dk_at dksL_law_24 5 rfl rfl)
theorem dL_law_759 : decode cL_law 759 = .ok (.iload 5, 2) := dk_21 5 (dk_at dksL_law_24 6 rfl rfl)
theorem dL_law_761 : decode cL_law 761 = .ok (.iconst 2, 1) := dk_5 (dk_at dksL_law_24 8 rfl rfl)
theorem dL_law_762 : decode cL_law 762 = .ok (.iadd, 1) := dk_96 (dk_at dksL_law_24 9 rfl rfl)
theorem dL_law_763 : decode cL_law 763 = .ok (.iaload, 1) := dk_46 (dk_at dksL_law_24 10 rfl rfl)
theorem dL_law_764 : decode cL_law 764 = .ok (.aload_n 3, 1) := dk_45 (dk_at dksL_law_24 11 rfl rfl)
theorem dL_law_765 : decode cL_law 765 = .ok (.invokestatic 202, 3) := dk_184 0 202 (dk_at dksL_law_24 12 rfl rfl)
theorem dL_law_768 : decode cL_law 768 = .ok (.istore 6, 2) := dk_54 6 (dk_at dksL_law_24 15 rfl rfl)
theorem dL_law_770 : decode cL_law 770 = .ok (.aload_n 2, 1) := dk_44 (dk_at dksL_law_24 17 rfl rfl)
theorem dL_law_771 : decode cL_law 771 = .ok (.aload_n 0, 1) := dk_42 (dk_at dksL_law_24 18 rfl rfl)
theorem dL_law_772 : decode cL_law 772 = .ok (.iload 5, 2) := dk_21 5 (dk_at dksL_law_24 19 rfl rfl)
theorem dL_law_774 : decode cL_law 774 = .ok (.iconst 1, 1) := dk_4 (dk_at dksL_law_24 21 rfl rfl)
theorem dL_law_775 : decode cL_law 775 = .ok (.iadd, 1) := dk_96 (dk_at dksL_law_24 22 rfl rfl)
theorem dL_law_776 : decode cL_law 776 = .ok (.iaload, 1) := dk_46 (dk_at dksL_law_24 23 rfl rfl)
theorem dL_law_777 : decode cL_law 777 = .ok (.aload_n 0, 1) := dk_42 (dk_at dksL_law_25 0 rfl rfl)
theorem dL_law_778 : decode cL_law 778 = .ok (.iload 5, 2) := dk_21 5 (dk_at dksL_law_25 1 rfl rfl)
theorem dL_law_780 : decode cL_law 780 = .ok (.iconst 2, 1) := dk_5 (dk_at dksL_law_25 3 rfl rfl)
theorem dL_law_781 : decode cL_law 781 = .ok (.iadd, 1) := dk_96 (dk_at dksL_law_25 4 rfl rfl)
theorem dL_law_782 : decode cL_law 782 = .ok (.iaload, 1) := dk_46 (dk_at dksL_law_25 5 rfl rfl)
theorem dL_law_783 : decode cL_law 783 = .ok (.invokevirtual 205, 3) := dk_182 0 205 (dk_at dksL_law_25 6 rfl rfl)
theorem dL_law_786 : decode cL_law 786 = .ok (.istore 7, 2) := dk_54 7 (dk_at dksL_law_25 9 rfl rfl)
theorem dL_law_788 : decode cL_law 788 = .ok (.aload_n 2, 1) := dk_44 (dk_at dksL_law_25 11 rfl rfl)
theorem dL_law_789 : decode cL_law 789 = .ok (.invokevirtual 172, 3) := dk_182 0 172 (dk_at dksL_law_25 12 rfl rfl)
theorem dL_law_792 : decode cL_law 792 = .ok (.iload 6, 2) := dk_21 6 (dk_at dksL_law_25 15 rfl rfl)
theorem dL_law_794 : decode cL_law 794 = .ok (.if_icmp .eq 5, 3) := dk_159 0 5 (dk_at dksL_law_25 17 rfl rfl)
theorem dL_law_797 : decode cL_law 797 = .ok (.iconst 0, 1) := dk_3 (dk_at dksL_law_25 20 rfl rfl)
theorem dL_law_798 : decode cL_law 798 = .ok (.ireturn, 1) := dk_172 (dk_at dksL_law_25 21 rfl rfl)
theorem dL_law_799 : decode cL_law 799 = .ok (.iload 6, 2) := dk_21 6 (dk_at dksL_law_25 22 rfl rfl)
theorem dL_law_801 : decode cL_law 801 = .ok (.ifCond .ne 15, 3) := dk_154 0 15 (dk_at dksL_law_26 0 rfl rfl)
theorem dL_law_804 : decode cL_law 804 = .ok (.aload_n 3, 1) := dk_45 (dk_at dksL_law_26 3 rfl rfl)
theorem dL_law_805 : decode cL_law 805 = .ok (.iconst 0, 1) := dk_3 (dk_at dksL_law_26 4 rfl rfl)
theorem dL_law_806 : decode cL_law 806 = .ok (.laload, 1) := dk_47 (dk_at dksL_law_26 5 rfl rfl)
theorem dL_law_807 : decode cL_law 807 = .ok (.iload 7, 2) := dk_21 7 (dk_at dksL_law_26 6 rfl rfl)
theorem dL_law_809 : decode cL_law 809 = .ok (.i2l, 1) := dk_133 (dk_at dksL_law_26 8 rfl rfl)
theorem dL_law_810 : decode cL_law 810 = .ok (.lcmp, 1) := dk_148 (dk_at dksL_law_26 9 rfl rfl)
theorem dL_law_811 : decode cL_law 811 = .ok (.ifCond .eq 5, 3) := dk_153 0 5 (dk_at dksL_law_26 10 rfl rfl)
theorem dL_law_814 : decode cL_law 814 = .ok (.iconst 0, 1) := dk_3 (dk_at dksL_law_26 13 rfl rfl)
theorem dL_law_815 : decode cL_law 815 = .ok (.ireturn, 1) := dk_172 (dk_at dksL_law_26 14 rfl rfl)
theorem dL_law_816 : decode cL_law 816 = .ok (.goto 2407, 3) := dk_167 9 103 (dk_at dksL_law_26 15 rfl rfl)
theorem dL_law_819 : decode cL_law 819 = .ok (.aload_n 1, 1) := dk_43 (dk_at dksL_law_26 18 rfl rfl)
theorem dL_law_820 : decode cL_law 820 = .ok (.aload_n 0, 1) := dk_42 (dk_at dksL_law_26 19 rfl rfl)
theorem dL_law_821 : decode cL_law 821 = .ok (.iload 5, 2) := dk_21 5 (dk_at dksL_law_26 20 rfl rfl)
theorem dL_law_823 : decode cL_law 823 = .ok (.iconst 1, 1) := dk_4 (dk_at dksL_law_26 22 rfl rfl)
theorem dL_law_824 : decode cL_law 824 = .ok (.iadd, 1) := dk_96 (dk_at dksL_law_26 23 rfl rfl)
theorem dL_law_825 : decode cL_law 825 = .ok (.iaload, 1) := dk_46 (dk_at dksL_law_27 0 rfl rfl)
theorem dL_law_826 : decode cL_law 826 = .ok (.aload_n 3, 1) := dk_45 (dk_at dksL_law_27 1 rfl rfl)
theorem dL_law_827 : decode cL_law 827 = .ok (.invokestatic 206, 3) := dk_184 0 206 (dk_at dksL_law_27 2 rfl rfl)
theorem dL_law_830 : decode cL_law 830 = .ok (.istore 6, 2) := dk_54 6 (dk_at dksL_law_27 5 rfl rfl)
theorem dL_law_832 : decode cL_law 832 = .ok (.aload_n 2, 1) := dk_44 (dk_at dksL_law_27 7 rfl rfl)
theorem dL_law_833 : decode cL_law 833 = .ok (.aload_n 0, 1) := dk_42 (dk_at dksL_law_27 8 rfl rfl)
theorem dL_law_834 : decode cL_law 834 = .ok (.iload 5, 2) := dk_21 5 (dk_at dksL_law_27 9 rfl rfl)
theorem dL_law_836 : decode cL_law 836 = .ok (.iconst 1, 1) := dk_4 (dk_at dksL_law_27 11 rfl rfl)
theorem dL_law_837 : decode cL_law 837 = .ok (.iadd, 1) := dk_96 (dk_at dksL_law_27 12 rfl rfl)
theorem dL_law_838 : decode cL_law 838 = .ok (.iaload, 1) := dk_46 (dk_at dksL_law_27 13 rfl rfl)
theorem dL_law_839 : decode cL_law 839 = .ok (.invokevirtual 208, 3) := dk_182 0 208 (dk_at dksL_law_27 14 rfl rfl)
theorem dL_law_842 : decode cL_law 842 = .ok (.istore 7, 2) := dk_54 7 (dk_at dksL_law_27 17 rfl rfl)
theorem dL_law_844 : decode cL_law 844 = .ok (.aload_n 2, 1) := dk_44 (dk_at dksL_law_27 19 rfl rfl)
theorem dL_law_845 : decode cL_law 845 = .ok (.invokevirtual 172, 3) := dk_182 0 172 (dk_at dksL_law_27 20 rfl rfl)
theorem dL_law_848 : decode cL_law 848 = .ok (.iload 6, 2) := dk_21 6 (dk_at dksL_law_28 0 rfl rfl)
theorem dL_law_850 : decode cL_law 850 = .ok (.if_icmp .eq 5, 3) := dk_159 0 5 (dk_at dksL_law_28 2 rfl rfl)
theorem dL_law_853 : decode cL_law 853 = .ok (.iconst 0, 1) := dk_3 (dk_at dksL_law_28 5 rfl rfl)
theorem dL_law_854 : decode cL_law 854 = .ok (.ireturn, 1) := dk_172 (dk_at dksL_law_28 6 rfl rfl)
theorem dL_law_855 : decode cL_law 855 = .ok (.iload 6, 2) := dk_21 6 (dk_at dksL_law_28 7 rfl rfl)
theorem dL_law_857 : decode cL_law 857 = .ok (.ifCond .ne 15, 3) := dk_154 0 15 (dk_at dksL_law_28 9 rfl rfl)
theorem dL_law_860 : decode cL_law 860 = .ok (.aload_n 3, 1) := dk_45 (dk_at dksL_law_28 12 rfl rfl)
theorem dL_law_861 : decode cL_law 861 = .ok (.iconst 0, 1) := dk_3 (dk_at dksL_law_28 13 rfl rfl)
theorem dL_law_862 : decode cL_law 862 = .ok (.laload, 1) := dk_47 (dk_at dksL_law_28 14 rfl rfl)
theorem dL_law_863 : decode cL_law 863 = .ok (.iload 7, 2) := dk_21 7 (dk_at dksL_law_28 15 rfl rfl)
theorem dL_law_865 : decode cL_law 865 = .ok (.i2l, 1) := dk_133 (dk_at dksL_law_28 17 rfl rfl)
theorem dL_law_866 : decode cL_law 866 = .ok (.lcmp, 1) := dk_148 (dk_at dksL_law_28 18 rfl rfl)
theorem dL_law_867 : decode cL_law 867 = .ok (.ifCond .eq 5, 3) := dk_153 0 5 (dk_at dksL_law_28 19 rfl rfl)
theorem dL_law_870 : decode cL_law 870 = .ok (.iconst 0, 1) := dk_3 (dk_at dksL_law_28 22 rfl rfl)
theorem dL_law_871 : decode cL_law 871 = .ok (.ireturn, 1) := dk_172 (dk_at dksL_law_28 23 rfl rfl)
theorem dL_law_872 : decode cL_law 872 = .ok (.goto 2351, 3) := dk_167 9 47 (dk_at dksL_law_29 0 rfl rfl)
theorem dL_law_875 : decode cL_law 875 = .ok (.aload_n 1, 1) := dk_43 (dk_at dksL_law_29 3 rfl rfl)
theorem dL_law_876 : decode cL_law 876 = .ok (.aload_n 0, 1) := dk_42 (dk_at dksL_law_29 4 rfl rfl)
theorem dL_law_877 : decode cL_law 877 = .ok (.iload 5, 2) := dk_21 5 (dk_at dksL_law_29 5 rfl rfl)
theorem dL_law_879 : decode cL_law 879 = .ok (.iconst 1, 1) := dk_4 (dk_at dksL_law_29 7 rfl rfl)
theorem dL_law_880 : decode cL_law 880 = .ok (.iadd, 1) := dk_96 (dk_at dksL_law_29 8 rfl rfl)
theorem dL_law_881 : decode cL_law 881 = .ok (.iaload, 1) := dk_46 (dk_at dksL_law_29 9 rfl rfl)
theorem dL_law_882 : decode cL_law 882 = .ok (.aload_n 0, 1) := dk_42 (dk_at dksL_law_29 10 rfl rfl)
theorem dL_law_883 : decode cL_law 883 = .ok (.iload 5, 2) := dk_21 5 (dk_at dksL_law_29 11 rfl rfl)
theorem dL_law_885 : decode cL_law 885 = .ok (.iconst 2, 1) := dk_5 (dk_at dksL_law_29 13 rfl rfl)
theorem dL_law_886 : decode cL_law 886 = .ok (.iadd, 1) := dk_96 (dk_at dksL_law_29 14 rfl rfl)
theorem dL_law_887 : decode cL_law 887 = .ok (.iaload, 1) := dk_46 (dk_at dksL_law_29 15 rfl rfl)
theorem dL_law_888 : decode cL_law 888 = .ok (.ifCond .eq 7, 3) := dk_153 0 7 (dk_at dksL_law_29 16 rfl rfl)
theorem dL_law_891 : decode cL_law 891 = .ok (.iconst 1, 1) := dk_4 (dk_at dksL_law_29 19 rfl rfl)
theorem dL_law_892 : decode cL_law 892 = .ok (.goto 4, 3) := dk_167 0 4 (dk_at dksL_law_29 20 rfl rfl)
theorem dL_law_895 : decode cL_law 895 = .ok (.iconst 0, 1) := dk_3 (dk_at dksL_law_29 23 rfl rfl)
theorem dL_law_896 : decode cL_law 896 = .ok (.aload_n 3, 1) := dk_45 (dk_at dksL_law_30 0 rfl rfl)
theorem dL_law_897 : decode cL_law 897 = .ok (.invokestatic 209, 3) := dk_184 0 209 (dk_at dksL_law_30 1 rfl rfl)
theorem dL_law_900 : decode cL_law 900 = .ok (.istore 6, 2) := dk_54 6 (dk_at dksL_law_30 4 rfl rfl)
theorem dL_law_902 : decode cL_law 902 = .ok (.aload_n 2, 1) := dk_44 (dk_at dksL_law_30 6 rfl rfl)
theorem dL_law_903 : decode cL_law 903 = .ok (.aload_n 0, 1) := dk_42 (dk_at dksL_law_30 7 rfl rfl)
theorem dL_law_904 : decode cL_law 904 = .ok (.iload 5, 2) := dk_21 5 (dk_at dksL_law_30 8 rfl rfl)
theorem dL_law_906 : decode cL_law 906 = .ok (.iconst 1, 1) := dk_4 (dk_at dksL_law_30 10 rfl rfl)
theorem dL_law_907 : decode cL_law 907 = .ok (.iadd, 1) := dk_96 (dk_at dksL_law_30 11 rfl rfl)
theorem dL_law_908 : decode cL_law 908 = .ok (.iaload, 1) := dk_46 (dk_at dksL_law_30 12 rfl rfl)
theorem dL_law_909 : decode cL_law 909 = .ok (.aload_n 0, 1) := dk_42 (dk_at dksL_law_30 13 rfl rfl)
theorem dL_law_910 : decode cL_law 910 = .ok (.iload 5, 2) := dk_21 5 (dk_at dksL_law_30 14 rfl rfl)
theorem dL_law_912 : decode cL_law 912 = .ok (.iconst 2, 1) := dk_5 (dk_at dksL_law_30 16 rfl rfl)
theorem dL_law_913 : decode cL_law 913 = .ok (.iadd, 1) := dk_96 (dk_at dksL_law_30 17 rfl rfl)
theorem dL_law_914 : decode cL_law 914 = .ok (.iaload, 1) := dk_46 (dk_at dksL_law_30 18 rfl rfl)
theorem dL_law_915 : decode cL_law 915 = .ok (.ifCond .eq 7, 3) := dk_153 0 7 (dk_at dksL_law_30 19 rfl rfl)
theorem dL_law_918 : decode cL_law 918 = .ok (.iconst 1, 1) := dk_4 (dk_at dksL_law_30 22 rfl rfl)
theorem dL_law_919 : decode cL_law 919 = .ok (.goto 4, 3) := dk_167 0 4 (dk_at dksL_law_31 0 rfl rfl)
theorem dL_law_922 : decode cL_law 922 = .ok (.iconst 0, 1) := dk_3 (dk_at dksL_law_31 3 rfl rfl)
theorem dL_law_923 : decode cL_law 923 = .ok (.invokevirtual 212, 3) := dk_182 0 212 (dk_at dksL_law_31 4 rfl rfl)
theorem dL_law_926 : decode cL_law 926 = .ok (.istore 7, 2) := dk_54 7 (dk_at dksL_law_31 7 rfl rfl)
theorem dL_law_928 : decode cL_law 928 = .ok (.aload_n 2, 1) := dk_44 (dk_at dksL_law_31 9 rfl rfl)
theorem dL_law_929 : decode cL_law 929 = .ok (.invokevirtual 172, 3) := dk_182 0 172 (dk_at dksL_law_31 10 rfl rfl)
theorem dL_law_932 : decode cL_law 932 = .ok (.iload 6, 2) := dk_21 6 (dk_at dksL_law_31 13 rfl rfl)
theorem dL_law_934 : decode cL_law 934 = .ok (.if_icmp .eq 5, 3) := dk_159 0 5 (dk_at dksL_law_31 15 rfl rfl)
theorem dL_law_937 : decode cL_law 937 = .ok (.iconst 0, 1) := dk_3 (dk_at dksL_law_31 18 rfl rfl)
theorem dL_law_938 : decode cL_law 938 = .ok (.ireturn, 1) := dk_172 (dk_at dksL_law_31 19 rfl rfl)
theorem dL_law_939 : decode cL_law 939 = .ok (.iload 6, 2) := dk_21 6 (dk_at dksL_law_31 20 rfl rfl)
theorem dL_law_941 : decode cL_law 941 = .ok (.ifCond .ne 15, 3) := dk_154 0 15 (dk_at dksL_law_32 0 rfl rfl)
theorem dL_law_944 : decode cL_law 944 = .ok (.aload_n 3, 1) := dk_45 (dk_at dksL_law_32 3 rfl rfl)
theorem dL_law_945 : decode cL_law 945 = .ok (.iconst 0, 1) := dk_3 (dk_at dksL_law_32 4 rfl rfl)
theorem dL_law_946 : decode cL_law 946 = .ok (.laload, 1) := dk_47 (dk_at dksL_law_32 5 rfl rfl)
theorem dL_law_947 : decode cL_law 947 = .ok (.iload 7, 2) := dk_21 7 (dk_at dksL_law_32 6 rfl rfl)
theorem dL_law_949 : decode cL_law 949 = .ok (.i2l, 1) := dk_133 (dk_at dksL_law_32 8 rfl rfl)
theorem dL_law_950 : decode cL_law 950 = .ok (.lcmp, 1) := dk_148 (dk_at dksL_law_32 9 rfl rfl)
theorem dL_law_951 : decode cL_law 951 = .ok (.ifCond .eq 5, 3) := dk_153 0 5 (dk_at dksL_law_32 10 rfl rfl)
theorem dL_law_954 : decode cL_law 954 = .ok (.iconst 0, 1) := dk_3 (dk_at dksL_law_32 13 rfl rfl)
theorem dL_law_955 : decode cL_law 955 = .ok (.ireturn, 1) := dk_172 (dk_at dksL_law_32 14 rfl rfl)
theorem dL_law_956 : decode cL_law 956 = .ok (.goto 2267, 3) := dk_167 8 219 (dk_at dksL_law_32 15 rfl rfl)
theorem dL_law_959 : decode cL_law 959 = .ok (.aload_n 1, 1) := dk_43 (dk_at dksL_law_32 18 rfl rfl)
theorem dL_law_960 : decode cL_law 960 = .ok (.aload_n 0, 1) := dk_42 (dk_at dksL_law_32 19 rfl rfl)
theorem dL_law_961 : decode cL_law 961 = .ok (.iload 5, 2) := dk_21 5 (dk_at dksL_law_32 20 rfl rfl)
theorem dL_law_963 : decode cL_law 963 = .ok (.iconst 1, 1) := dk_4 (dk_at dksL_law_32 22 rfl rfl)
theorem dL_law_964 : decode cL_law 964 = .ok (.iadd, 1) := dk_96 (dk_at dksL_law_32 23 rfl rfl)
theorem dL_law_965 : decode cL_law 965 = .ok (.iaload, 1) := dk_46 (dk_at dksL_law_33 0 rfl rfl)
theorem dL_law_966 : decode cL_law 966 = .ok (.aload_n 0, 1) := dk_42 (dk_at dksL_law_33 1 rfl rfl)
theorem dL_law_967 : decode cL_law 967 = .ok (.iload 5, 2) := dk_21 5 (dk_at dksL_law_33 2 rfl rfl)
theorem dL_law_969 : decode cL_law 969 = .ok (.iconst 2, 1) := dk_5 (dk_at dksL_law_33 4 rfl rfl)
theorem dL_law_970 : decode cL_law 970 = .ok (.iadd, 1) := dk_96 (dk_at dksL_law_33 5 rfl rfl)
theorem dL_law_971 : decode cL_law 971 = .ok (.iaload, 1) := dk_46 (dk_at dksL_law_33 6 rfl rfl)
theorem dL_law_972 : decode cL_law 972 = .ok (.aload_n 0, 1) := dk_42 (dk_at dksL_law_33 7 rfl rfl)
theorem dL_law_973 : decode cL_law 973 = .ok (.iload 5, 2) := dk_21 5 (dk_at dksL_law_33 8 rfl rfl)
theorem dL_law_975 : decode cL_law 975 = .ok (.iconst 3, 1) := dk_6 (dk_at dksL_law_33 10 rfl rfl)
theorem dL_law_976 : decode cL_law 976 = .ok (.iadd, 1) := dk_96 (dk_at dksL_law_33 11 rfl rfl)
theorem dL_law_977 : decode cL_law 977 = .ok (.iaload, 1) := dk_46 (dk_at dksL_law_33 12 rfl rfl)
theorem dL_law_978 : decode cL_law 978 = .ok (.ifCond .eq 7, 3) := dk_153 0 7 (dk_at dksL_law_33 13 rfl rfl)
theorem dL_law_981 : decode cL_law 981 = .ok (.iconst 1, 1) := dk_4 (dk_at dksL_law_33 16 rfl rfl)
theorem dL_law_982 : decode cL_law 982 = .ok (.goto 4, 3) := dk_167 0 4 (dk_at dksL_law_33 17 rfl rfl)
theorem dL_law_985 : decode cL_law 985 = .ok (.iconst 0, 1) := dk_3 (dk_at dksL_law_33 20 rfl rfl)
theorem dL_law_986 : decode cL_law 986 = .ok (.aload_n 0, 1) := dk_42 (dk_at dksL_law_33 21 rfl rfl)
theorem dL_law_987 : decode cL_law 987 = .ok (.iload 5, 2) := dk_21 5 (dk_at dksL_law_33 22 rfl rfl)
theorem dL_law_989 : decode cL_law 989 = .ok (.iconst 4, 1) := dk_7 (dk_at dksL_law_34 0 rfl rfl)
theorem dL_law_990 : decode cL_law 990 = .ok (.iadd, 1) := dk_96 (dk_at dksL_law_34 1 rfl rfl)
theorem dL_law_991 : decode cL_law 991 = .ok (.iaload, 1) := dk_46 (dk_at dksL_law_34 2 rfl rfl)
theorem dL_law_992 : decode cL_law 992 = .ok (.aload_n 0, 1) := dk_42 (dk_at dksL_law_34 3 rfl rfl)
theorem dL_law_993 : decode cL_law 993 = .ok (.iload 5, 2) := dk_21 5 (dk_at dksL_law_34 4 rfl rfl)
theorem dL_law_995 : decode cL_law 995 = .ok (.iconst 5, 1) := dk_8 (dk_at dksL_law_34 6 rfl rfl)
theorem dL_law_996 : decode cL_law 996 = .ok (.iadd, 1) := dk_96 (dk_at dksL_law_34 7 rfl rfl)
theorem dL_law_997 : decode cL_law 997 = .ok (.iaload, 1) := dk_46 (dk_at dksL_law_34 8 rfl rfl)
theorem dL_law_998 : decode cL_law 998 = .ok (.aload_n 0, 1) := dk_42 (dk_at dksL_law_34 9 rfl rfl)
theorem dL_law_999 : decode cL_law 999 = .ok (.iload 5, 2) := dk_21 5 (dk_at dksL_law_34 10 rfl rfl)
theorem dL_law_1001 : decode cL_law 1001 = .ok (.bipush 6, 2) := dk_16 6 (dk_at dksL_law_34 12 rfl rfl)
theorem dL_law_1003 : decode cL_law 1003 = .ok (.iadd, 1) := dk_96 (dk_at dksL_law_34 14 rfl rfl)
theorem dL_law_1004 : decode cL_law 1004 = .ok (.iaload, 1) := dk_46 (dk_at dksL_law_34 15 rfl rfl)
theorem dL_law_1005 : decode cL_law 1005 = .ok (.ifCond .eq 7, 3) := dk_153 0 7 (dk_at dksL_law_34 16 rfl rfl)
theorem dL_law_1008 : decode cL_law 1008 = .ok (.iconst 1, 1) := dk_4 (dk_at dksL_law_34 19 rfl rfl)
theorem dL_law_1009 : decode cL_law 1009 = .ok (.goto 4, 3) := dk_167 0 4 (dk_at dksL_law_34 20 rfl rfl)
theorem dL_law_1012 : decode cL_law 1012 = .ok (.iconst 0, 1) := dk_3 (dk_at dksL_law_34 23 rfl rfl)
theorem dL_law_1013 : decode cL_law 1013 = .ok (.aload_n 3, 1) := dk_45 (dk_at dksL_law_35 0 rfl rfl)
theorem dL_law_1014 : decode cL_law 1014 = .ok (.invokestatic 213, 3) := dk_184 0 213 (dk_at dksL_law_35 1 rfl rfl)
theorem dL_law_1017 : decode cL_law 1017 = .ok (.istore 6, 2) := dk_54 6 (dk_at dksL_law_35 4 rfl rfl)
theorem dL_law_1019 : decode cL_law 1019 = .ok (.aload_n 2, 1) := dk_44 (dk_at dksL_law_35 6 rfl rfl)
theorem dL_law_1020 : decode cL_law 1020 = .ok (.aload_n 0, 1) := dk_42 (dk_at dksL_law_35 7 rfl rfl)
theorem dL_law_1021 : decode cL_law 1021 = .ok (.iload 5, 2) := dk_21 5 (dk_at dksL_law_35 8 rfl rfl)
theorem dL_law_1023 : decode cL_law 1023 = .ok (.iconst 1, 1) := dk_4 (dk_at dksL_law_35 10 rfl rfl)
theorem dL_law_1024 : decode cL_law 1024 = .ok (.iadd, 1) := dk_96 (dk_at dksL_law_35 11 rfl rfl)
theorem dL_law_1025 : decode cL_law 1025 = .ok (.iaload, 1) := dk_46 (dk_at dksL_law_35 12 rfl rfl)
theorem dL_law_1026 : decode cL_law 1026 = .ok (.aload_n 0, 1) := dk_42 (dk_at dksL_law_35 13 rfl rfl)
theorem dL_law_1027 : decode cL_law 1027 = .ok (.iload 5, 2) := dk_21 5 (dk_at dksL_law_35 14 rfl rfl)
theorem dL_law_1029 : decode cL_law 1029 = .ok (.iconst 2, 1) := dk_5 (dk_at dksL_law_35 16 rfl rfl)
theorem dL_law_1030 : decode cL_law 1030 = .ok (.iadd, 1) := dk_96 (dk_at dksL_law_35 17 rfl rfl)
theorem dL_law_1031 : decode cL_law 1031 = .ok (.iaload, 1) := dk_46 (dk_at dksL_law_35 18 rfl rfl)
theorem dL_law_1032 : decode cL_law 1032 = .ok (.aload_n 0, 1) := dk_42 (dk_at dksL_law_35 19 rfl rfl)
theorem dL_law_1033 : decode cL_law 1033 = .ok (.iload 5, 2) := dk_21 5 (dk_at dksL_law_35 20 rfl rfl)
theorem dL_law_1035 : decode cL_law 1035 = .ok (.iconst 3, 1) := dk_6 (dk_at dksL_law_35 22 rfl rfl)
theorem dL_law_1036 : decode cL_law 1036 = .ok (.iadd, 1) := dk_96 (dk_at dksL_law_35 23 rfl rfl)
theorem dL_law_1037 : decode cL_law 1037 = .ok (.iaload, 1) := dk_46 (dk_at dksL_law_36 0 rfl rfl)
theorem dL_law_1038 : decode cL_law 1038 = .ok (.ifCond .eq 7, 3) := dk_153 0 7 (dk_at dksL_law_36 1 rfl rfl)
theorem dL_law_1041 : decode cL_law 1041 = .ok (.iconst 1, 1) := dk_4 (dk_at dksL_law_36 4 rfl rfl)
theorem dL_law_1042 : decode cL_law 1042 = .ok (.goto 4, 3) := dk_167 0 4 (dk_at dksL_law_36 5 rfl rfl)
theorem dL_law_1045 : decode cL_law 1045 = .ok (.iconst 0, 1) := dk_3 (dk_at dksL_law_36 8 rfl rfl)
theorem dL_law_1046 : decode cL_law 1046 = .ok (.aload_n 0, 1) := dk_42 (dk_at dksL_law_36 9 rfl rfl)
theorem dL_law_1047 : decode cL_law 1047 = .ok (.iload 5, 2) := dk_21 5 (dk_at dksL_law_36 10 rfl rfl)
theorem dL_law_1049 : decode cL_law 1049 = .ok (.iconst 4, 1) := dk_7 (dk_at dksL_law_36 12 rfl rfl)
theorem dL_law_1050 : decode cL_law 1050 = .ok (.iadd, 1) := dk_96 (dk_at dksL_law_36 13 rfl rfl)
theorem dL_law_1051 : decode cL_law 1051 = .ok (.iaload, 1) := dk_46 (dk_at dksL_law_36 14 rfl rfl)
theorem dL_law_1052 : decode cL_law 1052 = .ok (.aload_n 0, 1) := dk_42 (dk_at dksL_law_36 15 rfl rfl)
theorem dL_law_1053 : decode cL_law 1053 = .ok (.iload 5, 2) := dk_21 5 (dk_at dksL_law_36 16 rfl rfl)
theorem dL_law_1055 : decode cL_law 1055 = .ok (.iconst 5, 1) := dk_8 (dk_at dksL_law_36 18 rfl rfl)
theorem dL_law_1056 : decode cL_law 1056 = .ok (.iadd, 1) := dk_96 (dk_at dksL_law_36 19 rfl rfl)
theorem dL_law_1057 : decode cL_law 1057 = .ok (.iaload, 1) := dk_46 (dk_at dksL_law_36 20 rfl rfl)
theorem dL_law_1058 : decode cL_law 1058 = .ok (.aload_n 0, 1) := dk_42 (dk_at dksL_law_36 21 rfl rfl)
theorem dL_law_1059 : decode cL_law 1059 = .ok (.iload 5, 2) := dk_21 5 (dk_at dksL_law_36 22 rfl rfl)
theorem dL_law_1061 : decode cL_law 1061 = .ok (.bipush 6, 2) := dk_16 6 (dk_at dksL_law_37 0 rfl rfl)
theorem dL_law_1063 : decode cL_law 1063 = .ok (.iadd, 1) := dk_96 (dk_at dksL_law_37 2 rfl rfl)
theorem dL_law_1064 : decode cL_law 1064 = .ok (.iaload, 1) := dk_46 (dk_at dksL_law_37 3 rfl rfl)
theorem dL_law_1065 : decode cL_law 1065 = .ok (.ifCond .eq 7, 3) := dk_153 0 7 (dk_at dksL_law_37 4 rfl rfl)
theorem dL_law_1068 : decode cL_law 1068 = .ok (.iconst 1, 1) := dk_4 (dk_at dksL_law_37 7 rfl rfl)
theorem dL_law_1069 : decode cL_law 1069 = .ok (.goto 4, 3) := dk_167 0 4 (dk_at dksL_law_37 8 rfl rfl)
theorem dL_law_1072 : decode cL_law 1072 = .ok (.iconst 0, 1) := dk_3 (dk_at dksL_law_37 11 rfl rfl)
theorem dL_law_1073 : decode cL_law 1073 = .ok (.invokevirtual 216, 3) := dk_182 0 216 (dk_at dksL_law_37 12 rfl rfl)
theorem dL_law_1076 : decode cL_law 1076 = .ok (.istore 7, 2) := dk_54 7 (dk_at dksL_law_37 15 rfl rfl)
theorem dL_law_1078 : decode cL_law 1078 = .ok (.aload_n 2, 1) := dk_44 (dk_at dksL_law_37 17 rfl rfl)
theorem dL_law_1079 : decode cL_law 1079 = .ok (.invokevirtual 172, 3) := dk_182 0 172 (dk_at dksL_law_37 18 rfl rfl)
theorem dL_law_1082 : decode cL_law 1082 = .ok (.iload 6, 2) := dk_21 6 (dk_at dksL_law_37 21 rfl rfl)
theorem dL_law_1084 : decode cL_law 1084 = .ok (.if_icmp .eq 5, 3) := dk_159 0 5 (dk_at dksL_law_38 0 rfl rfl)
theorem dL_law_1087 : decode cL_law 1087 = .ok (.iconst 0, 1) := dk_3 (dk_at dksL_law_38 3 rfl rfl)
theorem dL_law_1088 : decode cL_law 1088 = .ok (.ireturn, 1) := dk_172 (dk_at dksL_law_38 4 rfl rfl)
theorem dL_law_1089 : decode cL_law 1089 = .ok (.iload 6, 2) := dk_21 6 (dk_at dksL_law_38 5 rfl rfl)
theorem dL_law_1091 : decode cL_law 1091 = .ok (.ifCond .ne 22, 3) := dk_154 0 22 (dk_at dksL_law_38 7 rfl rfl)
theorem dL_law_1094 : decode cL_law 1094 = .ok (.aload_n 3, 1) := dk_45 (dk_at dksL_law_38 10 rfl rfl)
theorem dL_law_1095 : decode cL_law 1095 = .ok (.iconst 0, 1) := dk_3 (dk_at dksL_law_38 11 rfl rfl)
theorem dL_law_1096 : decode cL_law 1096 = .ok (.laload, 1) := dk_47 (dk_at dksL_law_38 12 rfl rfl)
theorem dL_law_1097 : decode cL_law 1097 = .ok (.iload 7, 2) := dk_21 7 (dk_at dksL_law_38 13 rfl rfl)
theorem dL_law_1099 : decode cL_law 1099 = .ok (.ifCond .eq 7, 3) := dk_153 0 7 (dk_at dksL_law_38 15 rfl rfl)
theorem dL_law_1102 : decode cL_law 1102 = .ok (.lconst 1, 1) := dk_10 (dk_at dksL_law_38 18 rfl rfl)
theorem dL_law_1103 : decode cL_law 1103 = .ok (.goto 4, 3) := dk_167 0 4 (dk_at dksL_law_38 19 rfl rfl)
theorem dL_law_1106 : decode cL_law 1106 = .ok (.lconst 0, 1) := dk_9 (dk_at dksL_law_38 22 rfl rfl)
theorem dL_law_1107 : decode cL_law 1107 = .ok (.lcmp, 1) := dk_148 (dk_at dksL_law_38 23 rfl rfl)
theorem dL_law_1108 : decode cL_law 1108 = .ok (.ifCond .eq 5, 3) := dk_153 0 5 (dk_at dksL_law_39 0 rfl rfl)
theorem dL_law_1111 : decode cL_law 1111 = .ok (.iconst 0, 1) := dk_3 (dk_at dksL_law_39 3 rfl rfl)
theorem dL_law_1112 : decode cL_law 1112 = .ok (.ireturn, 1) := dk_172 (dk_at dksL_law_39 4 rfl rfl)
theorem dL_law_1113 : decode cL_law 1113 = .ok (.goto 2110, 3) := dk_167 8 62 (dk_at dksL_law_39 5 rfl rfl)
theorem dL_law_1116 : decode cL_law 1116 = .ok (.aload_n 1, 1) := dk_43 (dk_at dksL_law_39 8 rfl rfl)
theorem dL_law_1117 : decode cL_law 1117 = .ok (.aload_n 0, 1) := dk_42 (dk_at dksL_law_39 9 rfl rfl)
theorem dL_law_1118 : decode cL_law 1118 = .ok (.iload 5, 2) := dk_21 5 (dk_at dksL_law_39 10 rfl rfl)
theorem dL_law_1120 : decode cL_law 1120 = .ok (.iconst 1, 1) := dk_4 (dk_at dksL_law_39 12 rfl rfl)
theorem dL_law_1121 : decode cL_law 1121 = .ok (.iadd, 1) := dk_96 (dk_at dksL_law_39 13 rfl rfl)
theorem dL_law_1122 : decode cL_law 1122 = .ok (.iaload, 1) := dk_46 (dk_at dksL_law_39 14 rfl rfl)
theorem dL_law_1123 : decode cL_law 1123 = .ok (.aload_n 0, 1) := dk_42 (dk_at dksL_law_39 15 rfl rfl)
theorem dL_law_1124 : decode cL_law 1124 = .ok (.iload 5, 2) := dk_21 5 (dk_at dksL_law_39 16 rfl rfl)
theorem dL_law_1126 : decode cL_law 1126 = .ok (.iconst 2, 1) := dk_5 (dk_at dksL_law_39 18 rfl rfl)
theorem dL_law_1127 : decode cL_law 1127 = .ok (.iadd, 1) := dk_96 (dk_at dksL_law_39 19 rfl rfl)
theorem dL_law_1128 : decode cL_law 1128 = .ok (.iaload, 1) := dk_46 (dk_at dksL_law_39 20 rfl rfl)
theorem dL_law_1129 : decode cL_law 1129 = .ok (.aload_n 3, 1) := dk_45 (dk_at dksL_law_39 21 rfl rfl)
theorem dL_law_1130 : decode cL_law 1130 = .ok (.invokestatic 217, 3) := dk_184 0 217 (dk_at dksL_law_40 0 rfl rfl)
theorem dL_law_1133 : decode cL_law 1133 = .ok (.istore 6, 2) := dk_54 6 (dk_at dksL_law_40 3 rfl rfl)
theorem dL_law_1135 : decode cL_law 1135 = .ok (.aload_n 2, 1) := dk_44 (dk_at dksL_law_40 5 rfl rfl)
theorem dL_law_1136 : decode cL_law 1136 = .ok (.aload_n 0, 1) := dk_42 (dk_at dksL_law_40 6 rfl rfl)
theorem dL_law_1137 : decode cL_law 1137 = .ok (.iload 5, 2) := dk_21 5 (dk_at dksL_law_40 7 rfl rfl)
theorem dL_law_1139 : decode cL_law 1139 = .ok (.iconst 1, 1) := dk_4 (dk_at dksL_law_40 9 rfl rfl)
theorem dL_law_1140 : decode cL_law 1140 = .ok (.iadd, 1) := dk_96 (dk_at dksL_law_40 10 rfl rfl)
theorem dL_law_1141 : decode cL_law 1141 = .ok (.iaload, 1) := dk_46 (dk_at dksL_law_40 11 rfl rfl)
theorem dL_law_1142 : decode cL_law 1142 = .ok (.aload_n 0, 1) := dk_42 (dk_at dksL_law_40 12 rfl rfl)
theorem dL_law_1143 : decode cL_law 1143 = .ok (.iload 5, 2) := dk_21 5 (dk_at dksL_law_40 13 rfl rfl)
theorem dL_law_1145 : decode cL_law 1145 = .ok (.iconst 2, 1) := dk_5 (dk_at dksL_law_40 15 rfl rfl)
theorem dL_law_1146 : decode cL_law 1146 = .ok (.iadd, 1) := dk_96 (dk_at dksL_law_40 16 rfl rfl)
theorem dL_law_1147 : decode cL_law 1147 = .ok (.iaload, 1) := dk_46 (dk_at dksL_law_40 17 rfl rfl)
theorem dL_law_1148 : decode cL_law 1148 = .ok (.invokevirtual 219, 3) := dk_182 0 219 (dk_at dksL_law_40 18 rfl rfl)
theorem dL_law_1151 : decode cL_law 1151 = .ok (.istore 7, 2) := dk_54 7 (dk_at dksL_law_40 21 rfl rfl)
theorem dL_law_1153 : decode cL_law 1153 = .ok (.aload_n 2, 1) := dk_44 (dk_at dksL_law_40 23 rfl rfl)
theorem dL_law_1154 : decode cL_law 1154 = .ok (.invokevirtual 172, 3) := dk_182 0 172 (dk_at dksL_law_41 0 rfl rfl)
theorem dL_law_1157 : decode cL_law 1157 = .ok (.iload 6, 2) := dk_21 6 (dk_at dksL_law_41 3 rfl rfl)
theorem dL_law_1159 : decode cL_law 1159 = .ok (.if_icmp .eq 5, 3) := dk_159 0 5 (dk_at dksL_law_41 5 rfl rfl)
theorem dL_law_1162 : decode cL_law 1162 = .ok (.iconst 0, 1) := dk_3 (dk_at dksL_law_41 8 rfl rfl)
theorem dL_law_1163 : decode cL_law 1163 = .ok (.ireturn, 1) := dk_172 (dk_at dksL_law_41 9 rfl rfl)
theorem dL_law_1164 : decode cL_law 1164 = .ok (.iload 6, 2) := dk_21 6 (dk_at dksL_law_41 10 rfl rfl)
theorem dL_law_1166 : decode cL_law 1166 = .ok (.ifCond .ne 15, 3) := dk_154 0 15 (dk_at dksL_law_41 12 rfl rfl)
theorem dL_law_1169 : decode cL_law 1169 = .ok (.aload_n 3, 1) := dk_45 (dk_at dksL_law_41 15 rfl rfl)
theorem dL_law_1170 : decode cL_law 1170 = .ok (.iconst 0, 1) := dk_3 (dk_at dksL_law_41 16 rfl rfl)
theorem dL_law_1171 : decode cL_law 1171 = .ok (.laload, 1) := dk_47 (dk_at dksL_law_41 17 rfl rfl)
theorem dL_law_1172 : decode cL_law 1172 = .ok (.iload 7, 2) := dk_21 7 (dk_at dksL_law_41 18 rfl rfl)
theorem dL_law_1174 : decode cL_law 1174 = .ok (.i2l, 1) := dk_133 (dk_at dksL_law_41 20 rfl rfl)
theorem dL_law_1175 : decode cL_law 1175 = .ok (.lcmp, 1) := dk_148 (dk_at dksL_law_41 21 rfl rfl)
theorem dL_law_1176 : decode cL_law 1176 = .ok (.ifCond .eq 5, 3) := dk_153 0 5 (dk_at dksL_law_42 0 rfl rfl)
theorem dL_law_1179 : decode cL_law 1179 = .ok (.iconst 0, 1) := dk_3 (dk_at dksL_law_42 3 rfl rfl)
theorem dL_law_1180 : decode cL_law 1180 = .ok (.ireturn, 1) := dk_172 (dk_at dksL_law_42 4 rfl rfl)
theorem dL_law_1181 : decode cL_law 1181 = .ok (.goto 2042, 3) := dk_167 7 250 (dk_at dksL_law_42 5 rfl rfl)
theorem dL_law_1184 : decode cL_law 1184 = .ok (.aload_n 1, 1) := dk_43 (dk_at dksL_law_42 8 rfl rfl)
theorem dL_law_1185 : decode cL_law 1185 = .ok (.aload_n 0, 1) := dk_42 (dk_at dksL_law_42 9 rfl rfl)
theorem dL_law_1186 : decode cL_law 1186 = .ok (.iload 5, 2) := dk_21 5 (dk_at dksL_law_42 10 rfl rfl)
theorem dL_law_1188 : decode cL_law 1188 = .ok (.iconst 1, 1) := dk_4 (dk_at dksL_law_42 12 rfl rfl)
theorem dL_law_1189 : decode cL_law 1189 = .ok (.iadd, 1) := dk_96 (dk_at dksL_law_42 13 rfl rfl)
theorem dL_law_1190 : decode cL_law 1190 = .ok (.iaload, 1) := dk_46 (dk_at dksL_law_42 14 rfl rfl)
theorem dL_law_1191 : decode cL_law 1191 = .ok (.aload_n 0, 1) := dk_42 (dk_at dksL_law_42 15 rfl rfl)
theorem dL_law_1192 : decode cL_law 1192 = .ok (.iload 5, 2) := dk_21 5 (dk_at dksL_law_42 16 rfl rfl)
theorem dL_law_1194 : decode cL_law 1194 = .ok (.iconst 2, 1) := dk_5 (dk_at dksL_law_42 18 rfl rfl)
theorem dL_law_1195 : decode cL_law 1195 = .ok (.iadd, 1) := dk_96 (dk_at dksL_law_42 19 rfl rfl)
theorem dL_law_1196 : decode cL_law 1196 = .ok (.iaload, 1) := dk_46 (dk_at dksL_law_42 20 rfl rfl)
theorem dL_law_1197 : decode cL_law 1197 = .ok (.aload_n 3, 1) := dk_45 (dk_at dksL_law_42 21 rfl rfl)
theorem dL_law_1198 : decode cL_law 1198 = .ok (.invokestatic 220, 3) := dk_184 0 220 (dk_at dksL_law_43 0 rfl rfl)
theorem dL_law_1201 : decode cL_law 1201 = .ok (.istore 6, 2) := dk_54 6 (dk_at dksL_law_43 3 rfl rfl)
theorem dL_law_1203 : decode cL_law 1203 = .ok (.aload_n 2, 1) := dk_44 (dk_at dksL_law_43 5 rfl rfl)
theorem dL_law_1204 : decode cL_law 1204 = .ok (.aload_n 0, 1) := dk_42 (dk_at dksL_law_43 6 rfl rfl)
theorem dL_law_1205 : decode cL_law 1205 = .ok (.iload 5, 2) := dk_21 5 (dk_at dksL_law_43 7 rfl rfl)
theorem dL_law_1207 : decode cL_law 1207 = .ok (.iconst 1, 1) := dk_4 (dk_at dksL_law_43 9 rfl rfl)
theorem dL_law_1208 : decode cL_law 1208 = .ok (.iadd, 1) := dk_96 (dk_at dksL_law_43 10 rfl rfl)
theorem dL_law_1209 : decode cL_law 1209 = .ok (.iaload, 1) := dk_46 (dk_at dksL_law_43 11 rfl rfl)
theorem dL_law_1210 : decode cL_law 1210 = .ok (.aload_n 0, 1) := dk_42 (dk_at dksL_law_43 12 rfl rfl)
theorem dL_law_1211 : decode cL_law 1211 = .ok (.iload 5, 2) := dk_21 5 (dk_at dksL_law_43 13 rfl rfl)
theorem dL_law_1213 : decode cL_law 1213 = .ok (.iconst 2, 1) := dk_5 (dk_at dksL_law_43 15 rfl rfl)
theorem dL_law_1214 : decode cL_law 1214 = .ok (.iadd, 1) := dk_96 (dk_at dksL_law_43 16 rfl rfl)
theorem dL_law_1215 : decode cL_law 1215 = .ok (.iaload, 1) := dk_46 (dk_at dksL_law_43 17 rfl rfl)
theorem dL_law_1216 : decode cL_law 1216 = .ok (.invokevirtual 222, 3) := dk_182 0 222 (dk_at dksL_law_43 18 rfl rfl)
theorem dL_law_1219 : decode cL_law 1219 = .ok (.istore 7, 2) := dk_54 7 (dk_at dksL_law_43 21 rfl rfl)
theorem dL_law_1221 : decode cL_law 1221 = .ok (.aload_n 2, 1) := dk_44 (dk_at dksL_law_43 23 rfl rfl)
theorem dL_law_1222 : decode cL_law 1222 = .ok (.invokevirtual 172, 3) := dk_182 0 172 (dk_at dksL_law_44 0 rfl rfl)
theorem dL_law_1225 : decode cL_law 1225 = .ok (.iload 6, 2) := dk_21 6 (dk_at dksL_law_44 3 rfl rfl)
theorem dL_law_1227 : decode cL_law 1227 = .ok (.if_icmp .eq 5, 3) := dk_159 0 5 (dk_at dksL_law_44 5 rfl rfl)
theorem dL_law_1230 : decode cL_law 1230 = .ok (.iconst 0, 1) := dk_3 (dk_at dksL_law_44 8 rfl rfl)
theorem dL_law_1231 : decode cL_law 1231 = .ok (.ireturn, 1) := dk_172 (dk_at dksL_law_44 9 rfl rfl)
theorem dL_law_1232 : decode cL_law 1232 = .ok (.iload 6, 2) := dk_21 6 (dk_at dksL_law_44 10 rfl rfl)
theorem dL_law_1234 : decode cL_law 1234 = .ok (.ifCond .ne 15, 3) := dk_154 0 15 (dk_at dksL_law_44 12 rfl rfl)
theorem dL_law_1237 : decode cL_law 1237 = .ok (.aload_n 3, 1) := dk_45 (dk_at dksL_law_44 15 rfl rfl)
theorem dL_law_1238 : decode cL_law 1238 = .ok (.iconst 0, 1) := dk_3 (dk_at dksL_law_44 16 rfl rfl)
theorem dL_law_1239 : decode cL_law 1239 = .ok (.laload, 1) := dk_47 (dk_at dksL_law_44 17 rfl rfl)
theorem dL_law_1240 : decode cL_law 1240 = .ok (.iload 7, 2) := dk_21 7 (dk_at dksL_law_44 18 rfl rfl)
theorem dL_law_1242 : decode cL_law 1242 = .ok (.i2l, 1) := dk_133 (dk_at dksL_law_44 20 rfl rfl)
theorem dL_law_1243 : decode cL_law 1243 = .ok (.lcmp, 1) := dk_148 (dk_at dksL_law_44 21 rfl rfl)
theorem dL_law_1244 : decode cL_law 1244 = .ok (.ifCond .eq 5, 3) := dk_153 0 5 (dk_at dksL_law_45 0 rfl rfl)
theorem dL_law_1247 : decode cL_law 1247 = .ok (.iconst 0, 1) := dk_3 (dk_at dksL_law_45 3 rfl rfl)
theorem dL_law_1248 : decode cL_law 1248 = .ok (.ireturn, 1) := dk_172 (dk_at dksL_law_45 4 rfl rfl)
theorem dL_law_1249 : decode cL_law 1249 = .ok (.goto 1974, 3) := dk_167 7 182 (dk_at dksL_law_45 5 rfl rfl)
theorem dL_law_1252 : decode cL_law 1252 = .ok (.aload_n 1, 1) := dk_43 (dk_at dksL_law_45 8 rfl rfl)
theorem dL_law_1253 : decode cL_law 1253 = .ok (.aload_n 0, 1) := dk_42 (dk_at dksL_law_45 9 rfl rfl)
theorem dL_law_1254 : decode cL_law 1254 = .ok (.iload 5, 2) := dk_21 5 (dk_at dksL_law_45 10 rfl rfl)
theorem dL_law_1256 : decode cL_law 1256 = .ok (.iconst 1, 1) := dk_4 (dk_at dksL_law_45 12 rfl rfl)
theorem dL_law_1257 : decode cL_law 1257 = .ok (.iadd, 1) := dk_96 (dk_at dksL_law_45 13 rfl rfl)
theorem dL_law_1258 : decode cL_law 1258 = .ok (.iaload, 1) := dk_46 (dk_at dksL_law_45 14 rfl rfl)
theorem dL_law_1259 : decode cL_law 1259 = .ok (.aload_n 3, 1) := dk_45 (dk_at dksL_law_45 15 rfl rfl)
theorem dL_law_1260 : decode cL_law 1260 = .ok (.invokestatic 223, 3) := dk_184 0 223 (dk_at dksL_law_45 16 rfl rfl)
theorem dL_law_1263 : decode cL_law 1263 = .ok (.istore 6, 2) := dk_54 6 (dk_at dksL_law_45 19 rfl rfl)
theorem dL_law_1265 : decode cL_law 1265 = .ok (.aload_n 2, 1) := dk_44 (dk_at dksL_law_45 21 rfl rfl)
theorem dL_law_1266 : decode cL_law 1266 = .ok (.aload_n 0, 1) := dk_42 (dk_at dksL_law_45 22 rfl rfl)
theorem dL_law_1267 : decode cL_law 1267 = .ok (.iload 5, 2) := dk_21 5 (dk_at dksL_law_46 0 rfl rfl)
theorem dL_law_1269 : decode cL_law 1269 = .ok (.iconst 1, 1) := dk_4 (dk_at dksL_law_46 2 rfl rfl)
theorem dL_law_1270 : decode cL_law 1270 = .ok (.iadd, 1) := dk_96 (dk_at dksL_law_46 3 rfl rfl)
theorem dL_law_1271 : decode cL_law 1271 = .ok (.iaload, 1) := dk_46 (dk_at dksL_law_46 4 rfl rfl)
theorem dL_law_1272 : decode cL_law 1272 = .ok (.invokevirtual 225, 3) := dk_182 0 225 (dk_at dksL_law_46 5 rfl rfl)
theorem dL_law_1275 : decode cL_law 1275 = .ok (.istore 7, 2) := dk_54 7 (dk_at dksL_law_46 8 rfl rfl)
theorem dL_law_1277 : decode cL_law 1277 = .ok (.aload_n 2, 1) := dk_44 (dk_at dksL_law_46 10 rfl rfl)
theorem dL_law_1278 : decode cL_law 1278 = .ok (.invokevirtual 172, 3) := dk_182 0 172 (dk_at dksL_law_46 11 rfl rfl)
theorem dL_law_1281 : decode cL_law 1281 = .ok (.iload 6, 2) := dk_21 6 (dk_at dksL_law_46 14 rfl rfl)
theorem dL_law_1283 : decode cL_law 1283 = .ok (.if_icmp .eq 5, 3) := dk_159 0 5 (dk_at dksL_law_46 16 rfl rfl)
theorem dL_law_1286 : decode cL_law 1286 = .ok (.iconst 0, 1) := dk_3 (dk_at dksL_law_46 19 rfl rfl)
theorem dL_law_1287 : decode cL_law 1287 = .ok (.ireturn, 1) := dk_172 (dk_at dksL_law_46 20 rfl rfl)
theorem dL_law_1288 : decode cL_law 1288 = .ok (.iload 6, 2) := dk_21 6 (dk_at dksL_law_46 21 rfl rfl)
theorem dL_law_1290 : decode cL_law 1290 = .ok (.ifCond .ne 15, 3) := dk_154 0 15 (dk_at dksL_law_47 0 rfl rfl)
theorem dL_law_1293 : decode cL_law 1293 = .ok (.aload_n 3, 1) := dk_45 (dk_at dksL_law_47 3 rfl rfl)
theorem dL_law_1294 : decode cL_law 1294 = .ok (.iconst 0, 1) := dk_3 (dk_at dksL_law_47 4 rfl rfl)
theorem dL_law_1295 : decode cL_law 1295 = .ok (.laload, 1) := dk_47 (dk_at dksL_law_47 5 rfl rfl)
theorem dL_law_1296 : decode cL_law 1296 = .ok (.iload 7, 2) := dk_21 7 (dk_at dksL_law_47 6 rfl rfl)
theorem dL_law_1298 : decode cL_law 1298 = .ok (.i2l, 1) := dk_133 (dk_at dksL_law_47 8 rfl rfl)
theorem dL_law_1299 : decode cL_law 1299 = .ok (.lcmp, 1) := dk_148 (dk_at dksL_law_47 9 rfl rfl)
theorem dL_law_1300 : decode cL_law 1300 = .ok (.ifCond .eq 5, 3) := dk_153 0 5 (dk_at dksL_law_47 10 rfl rfl)
theorem dL_law_1303 : decode cL_law 1303 = .ok (.iconst 0, 1) := dk_3 (dk_at dksL_law_47 13 rfl rfl)
theorem dL_law_1304 : decode cL_law 1304 = .ok (.ireturn, 1) := dk_172 (dk_at dksL_law_47 14 rfl rfl)
theorem dL_law_1305 : decode cL_law 1305 = .ok (.goto 1918, 3) := dk_167 7 126 (dk_at dksL_law_47 15 rfl rfl)
theorem dL_law_1308 : decode cL_law 1308 = .ok (.aload_n 1, 1) := dk_43 (dk_at dksL_law_47 18 rfl rfl)
theorem dL_law_1309 : decode cL_law 1309 = .ok (.aload_n 0, 1) := dk_42 (dk_at dksL_law_47 19 rfl rfl)
theorem dL_law_1310 : decode cL_law 1310 = .ok (.iload 5, 2) := dk_21 5 (dk_at dksL_law_47 20 rfl rfl)
theorem dL_law_1312 : decode cL_law 1312 = .ok (.iconst 1, 1) := dk_4 (dk_at dksL_law_47 22 rfl rfl)
theorem dL_law_1313 : decode cL_law 1313 = .ok (.iadd, 1) := dk_96 (dk_at dksL_law_47 23 rfl rfl)
theorem dL_law_1314 : decode cL_law 1314 = .ok (.iaload, 1) := dk_46 (dk_at dksL_law_48 0 rfl rfl)
theorem dL_law_1315 : decode cL_law 1315 = .ok (.aload_n 3, 1) := dk_45 (dk_at dksL_law_48 1 rfl rfl)
theorem dL_law_1316 : decode cL_law 1316 = .ok (.invokestatic 226, 3) := dk_184 0 226 (dk_at dksL_law_48 2 rfl rfl)
theorem dL_law_1319 : decode cL_law 1319 = .ok (.istore 6, 2) := dk_54 6 (dk_at dksL_law_48 5 rfl rfl)
theorem dL_law_1321 : decode cL_law 1321 = .ok (.aload_n 2, 1) := dk_44 (dk_at dksL_law_48 7 rfl rfl)
theorem dL_law_1322 : decode cL_law 1322 = .ok (.aload_n 0, 1) := dk_42 (dk_at dksL_law_48 8 rfl rfl)
theorem dL_law_1323 : decode cL_law 1323 = .ok (.iload 5, 2) := dk_21 5 (dk_at dksL_law_48 9 rfl rfl)
theorem dL_law_1325 : decode cL_law 1325 = .ok (.iconst 1, 1) := dk_4 (dk_at dksL_law_48 11 rfl rfl)
theorem dL_law_1326 : decode cL_law 1326 = .ok (.iadd, 1) := dk_96 (dk_at dksL_law_48 12 rfl rfl)
theorem dL_law_1327 : decode cL_law 1327 = .ok (.iaload, 1) := dk_46 (dk_at dksL_law_48 13 rfl rfl)
theorem dL_law_1328 : decode cL_law 1328 = .ok (.invokevirtual 228, 3) := dk_182 0 228 (dk_at dksL_law_48 14 rfl rfl)
theorem dL_law_1331 : decode cL_law 1331 = .ok (.istore 7, 2) := dk_54 7 (dk_at dksL_law_48 17 rfl rfl)
theorem dL_law_1333 : decode cL_law 1333 = .ok (.aload_n 2, 1) := dk_44 (dk_at dksL_law_48 19 rfl rfl)
theorem dL_law_1334 : decode cL_law 1334 = .ok (.invokevirtual 172, 3) := dk_182 0 172 (dk_at dksL_law_48 20 rfl rfl)
theorem dL_law_1337 : decode cL_law 1337 = .ok (.iload 6, 2) := dk_21 6 (dk_at dksL_law_49 0 rfl rfl)
theorem dL_law_1339 : decode cL_law 1339 = .ok (.if_icmp .eq 5, 3) := dk_159 0 5 (dk_at dksL_law_49 2 rfl rfl)
theorem dL_law_1342 : decode cL_law 1342 = .ok (.iconst 0, 1) := dk_3 (dk_at dksL_law_49 5 rfl rfl)
theorem dL_law_1343 : decode cL_law 1343 = .ok (.ireturn, 1) := dk_172 (dk_at dksL_law_49 6 rfl rfl)
theorem dL_law_1344 : decode cL_law 1344 = .ok (.iload 6, 2) := dk_21 6 (dk_at dksL_law_49 7 rfl rfl)
theorem dL_law_1346 : decode cL_law 1346 = .ok (.ifCond .ne 15, 3) := dk_154 0 15 (dk_at dksL_law_49 9 rfl rfl)
theorem dL_law_1349 : decode cL_law 1349 = .ok (.aload_n 3, 1) := dk_45 (dk_at dksL_law_49 12 rfl rfl)
theorem dL_law_1350 : decode cL_law 1350 = .ok (.iconst 0, 1) := dk_3 (dk_at dksL_law_49 13 rfl rfl)
theorem dL_law_1351 : decode cL_law 1351 = .ok (.laload, 1) := dk_47 (dk_at dksL_law_49 14 rfl rfl)
theorem dL_law_1352 : decode cL_law 1352 = .ok (.iload 7, 2) := dk_21 7 (dk_at dksL_law_49 15 rfl rfl)
theorem dL_law_1354 : decode cL_law 1354 = .ok (.i2l, 1) := dk_133 (dk_at dksL_law_49 17 rfl rfl)
theorem dL_law_1355 : decode cL_law 1355 = .ok (.lcmp, 1) := dk_148 (dk_at dksL_law_49 18 rfl rfl)
theorem dL_law_1356 : decode cL_law 1356 = .ok (.ifCond .eq 5, 3) := dk_153 0 5 (dk_at dksL_law_49 19 rfl rfl)
theorem dL_law_1359 : decode cL_law 1359 = .ok (.iconst 0, 1) := dk_3 (dk_at dksL_law_49 22 rfl rfl)
theorem dL_law_1360 : decode cL_law 1360 = .ok (.ireturn, 1) := dk_172 (dk_at dksL_law_49 23 rfl rfl)
theorem dL_law_1361 : decode cL_law 1361 = .ok (.goto 1862, 3) := dk_167 7 70 (dk_at dksL_law_50 0 rfl rfl)
theorem dL_law_1364 : decode cL_law 1364 = .ok (.aload_n 1, 1) := dk_43 (dk_at dksL_law_50 3 rfl rfl)
theorem dL_law_1365 : decode cL_law 1365 = .ok (.aload_n 0, 1) := dk_42 (dk_at dksL_law_50 4 rfl rfl)
theorem dL_law_1366 : decode cL_law 1366 = .ok (.iload 5, 2) := dk_21 5 (dk_at dksL_law_50 5 rfl rfl)
theorem dL_law_1368 : decode cL_law 1368 = .ok (.iconst 1, 1) := dk_4 (dk_at dksL_law_50 7 rfl rfl)
theorem dL_law_1369 : decode cL_law 1369 = .ok (.iadd, 1) := dk_96 (dk_at dksL_law_50 8 rfl rfl)
theorem dL_law_1370 : decode cL_law 1370 = .ok (.iaload, 1) := dk_46 (dk_at dksL_law_50 9 rfl rfl)
theorem dL_law_1371 : decode cL_law 1371 = .ok (.aload_n 3, 1) := dk_45 (dk_at dksL_law_50 10 rfl rfl)
theorem dL_law_1372 : decode cL_law 1372 = .ok (.invokestatic 229, 3) := dk_184 0 229 (dk_at dksL_law_50 11 rfl rfl)
theorem dL_law_1375 : decode cL_law 1375 = .ok (.istore 6, 2) := dk_54 6 (dk_at dksL_law_50 14 rfl rfl)
theorem dL_law_1377 : decode cL_law 1377 = .ok (.aload_n 2, 1) := dk_44 (dk_at dksL_law_50 16 rfl rfl)
theorem dL_law_1378 : decode cL_law 1378 = .ok (.aload_n 0, 1) := dk_42 (dk_at dksL_law_50 17 rfl rfl)
theorem dL_law_1379 : decode cL_law 1379 = .ok (.iload 5, 2) := dk_21 5 (dk_at dksL_law_50 18 rfl rfl)
theorem dL_law_1381 : decode cL_law 1381 = .ok (.iconst 1, 1) := dk_4 (dk_at dksL_law_50 20 rfl rfl)
theorem dL_law_1382 : decode cL_law 1382 = .ok (.iadd, 1) := dk_96 (dk_at dksL_law_50 21 rfl rfl)
theorem dL_law_1383 : decode cL_law 1383 = .ok (.iaload, 1) := dk_46 (dk_at dksL_law_50 22 rfl rfl)
theorem dL_law_1384 : decode cL_law 1384 = .ok (.invokevirtual 231, 3) := dk_182 0 231 (dk_at dksL_law_51 0 rfl rfl)
theorem dL_law_1387 : decode cL_law 1387 = .ok (.istore 7, 2) := dk_54 7 (dk_at dksL_law_51 3 rfl rfl)
theorem dL_law_1389 : decode cL_law 1389 = .ok (.aload_n 2, 1) := dk_44 (dk_at dksL_law_51 5 rfl rfl)
theorem dL_law_1390 : decode cL_law 1390 = .ok (.invokevirtual 172, 3) := dk_182 0 172 (dk_at dksL_law_51 6 rfl rfl)
theorem dL_law_1393 : decode cL_law 1393 = .ok (.iload 6, 2) := dk_21 6 (dk_at dksL_law_51 9 rfl rfl)
theorem dL_law_1395 : decode cL_law 1395 = .ok (.if_icmp .eq 5, 3) := dk_159 0 5 (dk_at dksL_law_51 11 rfl rfl)
theorem dL_law_1398 : decode cL_law 1398 = .ok (.iconst 0, 1) := dk_3 (dk_at dksL_law_51 14 rfl rfl)
theorem dL_law_1399 : decode cL_law 1399 = .ok (.ireturn, 1) := dk_172 (dk_at dksL_law_51 15 rfl rfl)
theorem dL_law_1400 : decode cL_law 1400 = .ok (.iload 6, 2) := dk_21 6 (dk_at dksL_law_51 16 rfl rfl)
theorem dL_law_1402 : decode cL_law 1402 = .ok (.ifCond .ne 15, 3) := dk_154 0 15 (dk_at dksL_law_51 18 rfl rfl)
theorem dL_law_1405 : decode cL_law 1405 = .ok (.aload_n 3, 1) := dk_45 (dk_at dksL_law_51 21 rfl rfl)
theorem dL_law_1406 : decode cL_law 1406 = .ok (.iconst 0, 1) := dk_3 (dk_at dksL_law_51 22 rfl rfl)
theorem dL_law_1407 : decode cL_law 1407 = .ok (.laload, 1) := dk_47 (dk_at dksL_law_51 23 rfl rfl)
theorem dL_law_1408 : decode cL_law 1408 = .ok (.iload 7, 2) := dk_21 7 (dk_at dksL_law_52 0 rfl rfl)
theorem dL_law_1410 : decode cL_law 1410 = .ok (.i2l, 1) := dk_133 (dk_at dksL_law_52 2 rfl rfl)
theorem dL_law_1411 : decode cL_law 1411 = .ok (.lcmp, 1) := dk_148 (dk_at dksL_law_52 3 rfl rfl)
theorem dL_law_1412 : decode cL_law 1412 = .ok (.ifCond .eq 5, 3) := dk_153 0 5 (dk_at dksL_law_52 4 rfl rfl)
theorem dL_law_1415 : decode cL_law 1415 = .ok (.iconst 0, 1) := dk_3 (dk_at dksL_law_52 7 rfl rfl)
theorem dL_law_1416 : decode cL_law 1416 = .ok (.ireturn, 1) := dk_172 (dk_at dksL_law_52 8 rfl rfl)
theorem dL_law_1417 : decode cL_law 1417 = .ok (.goto 1806, 3) := dk_167 7 14 (dk_at dksL_law_52 9 rfl rfl)
theorem dL_law_1420 : decode cL_law 1420 = .ok (.aload_n 1, 1) := dk_43 (dk_at dksL_law_52 12 rfl rfl)
theorem dL_law_1421 : decode cL_law 1421 = .ok (.aload_n 0, 1) := dk_42 (dk_at dksL_law_52 13 rfl rfl)
theorem dL_law_1422 : decode cL_law 1422 = .ok (.iload 5, 2) := dk_21 5 (dk_at dksL_law_52 14 rfl rfl)
theorem dL_law_1424 : decode cL_law 1424 = .ok (.iconst 1, 1) := dk_4 (dk_at dksL_law_52 16 rfl rfl)
theorem dL_law_1425 : decode cL_law 1425 = .ok (.iadd, 1) := dk_96 (dk_at dksL_law_52 17 rfl rfl)
theorem dL_law_1426 : decode cL_law 1426 = .ok (.iaload, 1) := dk_46 (dk_at dksL_law_52 18 rfl rfl)
theorem dL_law_1427 : decode cL_law 1427 = .ok (.aload_n 0, 1) := dk_42 (dk_at dksL_law_52 19 rfl rfl)
theorem dL_law_1428 : decode cL_law 1428 = .ok (.iload 5, 2) := dk_21 5 (dk_at dksL_law_52 20 rfl rfl)
theorem dL_law_1430 : decode cL_law 1430 = .ok (.iconst 2, 1) := dk_5 (dk_at dksL_law_52 22 rfl rfl)
theorem dL_law_1431 : decode cL_law 1431 = .ok (.iadd, 1) := dk_96 (dk_at dksL_law_52 23 rfl rfl)
theorem dL_law_1432 : decode cL_law 1432 = .ok (.iaload, 1) := dk_46 (dk_at dksL_law_53 0 rfl rfl)
theorem dL_law_1433 : decode cL_law 1433 = .ok (.aload_n 3, 1) := dk_45 (dk_at dksL_law_53 1 rfl rfl)
theorem dL_law_1434 : decode cL_law 1434 = .ok (.invokestatic 232, 3) := dk_184 0 232 (dk_at dksL_law_53 2 rfl rfl)
theorem dL_law_1437 : decode cL_law 1437 = .ok (.istore 6, 2) := dk_54 6 (dk_at dksL_law_53 5 rfl rfl)
theorem dL_law_1439 : decode cL_law 1439 = .ok (.aload_n 2, 1) := dk_44 (dk_at dksL_law_53 7 rfl rfl)
theorem dL_law_1440 : decode cL_law 1440 = .ok (.aload_n 0, 1) := dk_42 (dk_at dksL_law_53 8 rfl rfl)
theorem dL_law_1441 : decode cL_law 1441 = .ok (.iload 5, 2) := dk_21 5 (dk_at dksL_law_53 9 rfl rfl)
theorem dL_law_1443 : decode cL_law 1443 = .ok (.iconst 1, 1) := dk_4 (dk_at dksL_law_53 11 rfl rfl)
theorem dL_law_1444 : decode cL_law 1444 = .ok (.iadd, 1) := dk_96 (dk_at dksL_law_53 12 rfl rfl)
theorem dL_law_1445 : decode cL_law 1445 = .ok (.iaload, 1) := dk_46 (dk_at dksL_law_53 13 rfl rfl)
theorem dL_law_1446 : decode cL_law 1446 = .ok (.aload_n 0, 1) := dk_42 (dk_at dksL_law_53 14 rfl rfl)
theorem dL_law_1447 : decode cL_law 1447 = .ok (.iload 5, 2) := dk_21 5 (dk_at dksL_law_53 15 rfl rfl)
theorem dL_law_1449 : decode cL_law 1449 = .ok (.iconst 2, 1) := dk_5 (dk_at dksL_law_53 17 rfl rfl)
theorem dL_law_1450 : decode cL_law 1450 = .ok (.iadd, 1) := dk_96 (dk_at dksL_law_53 18 rfl rfl)
theorem dL_law_1451 : decode cL_law 1451 = .ok (.iaload, 1) := dk_46 (dk_at dksL_law_53 19 rfl rfl)
theorem dL_law_1452 : decode cL_law 1452 = .ok (.invokevirtual 234, 3) := dk_182 0 234 (dk_at dksL_law_53 20 rfl rfl)
theorem dL_law_1455 : decode cL_law 1455 = .ok (.istore 7, 2) := dk_54 7 (dk_at dksL_law_54 0 rfl rfl)
theorem dL_law_1457 : decode cL_law 1457 = .ok (.aload_n 2, 1) := dk_44 (dk_at dksL_law_54 2 rfl rfl)
theorem dL_law_1458 : decode cL_law 1458 = .ok (.invokevirtual 172, 3) := dk_182 0 172 (dk_at dksL_law_54 3 rfl rfl)
theorem dL_law_1461 : decode cL_law 1461 = .ok (.iload 6, 2) := dk_21 6 (dk_at dksL_law_54 6 rfl rfl)
theorem dL_law_1463 : decode cL_law 1463 = .ok (.if_icmp .eq 5, 3) := dk_159 0 5 (dk_at dksL_law_54 8 rfl rfl)
theorem dL_law_1466 : decode cL_law 1466 = .ok (.iconst 0, 1) := dk_3 (dk_at dksL_law_54 11 rfl rfl)
theorem dL_law_1467 : decode cL_law 1467 = .ok (.ireturn, 1) := dk_172 (dk_at dksL_law_54 12 rfl rfl)
theorem dL_law_1468 : decode cL_law 1468 = .ok (.iload 6, 2) := dk_21 6 (dk_at dksL_law_54 13 rfl rfl)
theorem dL_law_1470 : decode cL_law 1470 = .ok (.ifCond .ne 15, 3) := dk_154 0 15 (dk_at dksL_law_54 15 rfl rfl)
theorem dL_law_1473 : decode cL_law 1473 = .ok (.aload_n 3, 1) := dk_45 (dk_at dksL_law_54 18 rfl rfl)
theorem dL_law_1474 : decode cL_law 1474 = .ok (.iconst 0, 1) := dk_3 (dk_at dksL_law_54 19 rfl rfl)
theorem dL_law_1475 : decode cL_law 1475 = .ok (.laload, 1) := dk_47 (dk_at dksL_law_54 20 rfl rfl)
theorem dL_law_1476 : decode cL_law 1476 = .ok (.iload 7, 2) := dk_21 7 (dk_at dksL_law_54 21 rfl rfl)
theorem dL_law_1478 : decode cL_law 1478 = .ok (.i2l, 1) := dk_133 (dk_at dksL_law_54 23 rfl rfl)
theorem dL_law_1479 : decode cL_law 1479 = .ok (.lcmp, 1) := dk_148 (dk_at dksL_law_55 0 rfl rfl)
theorem dL_law_1480 : decode cL_law 1480 = .ok (.ifCond .eq 5, 3) := dk_153 0 5 (dk_at dksL_law_55 1 rfl rfl)
theorem dL_law_1483 : decode cL_law 1483 = .ok (.iconst 0, 1) := dk_3 (dk_at dksL_law_55 4 rfl rfl)
theorem dL_law_1484 : decode cL_law 1484 = .ok (.ireturn, 1) := dk_172 (dk_at dksL_law_55 5 rfl rfl)
theorem dL_law_1485 : decode cL_law 1485 = .ok (.goto 1738, 3) := dk_167 6 202 (dk_at dksL_law_55 6 rfl rfl)
theorem dL_law_1488 : decode cL_law 1488 = .ok (.aload_n 1, 1) := dk_43 (dk_at dksL_law_55 9 rfl rfl)
theorem dL_law_1489 : decode cL_law 1489 = .ok (.aload_n 0, 1) := dk_42 (dk_at dksL_law_55 10 rfl rfl)
theorem dL_law_1490 : decode cL_law 1490 = .ok (.iload 5, 2) := dk_21 5 (dk_at dksL_law_55 11 rfl rfl)
theorem dL_law_1492 : decode cL_law 1492 = .ok (.iconst 1, 1) := dk_4 (dk_at dksL_law_55 13 rfl rfl)
theorem dL_law_1493 : decode cL_law 1493 = .ok (.iadd, 1) := dk_96 (dk_at dksL_law_55 14 rfl rfl)
theorem dL_law_1494 : decode cL_law 1494 = .ok (.iaload, 1) := dk_46 (dk_at dksL_law_55 15 rfl rfl)
theorem dL_law_1495 : decode cL_law 1495 = .ok (.aload_n 3, 1) := dk_45 (dk_at dksL_law_55 16 rfl rfl)
theorem dL_law_1496 : decode cL_law 1496 = .ok (.invokestatic 235, 3) := dk_184 0 235 (dk_at dksL_law_55 17 rfl rfl)
theorem dL_law_1499 : decode cL_law 1499 = .ok (.istore 6, 2) := dk_54 6 (dk_at dksL_law_55 20 rfl rfl)
theorem dL_law_1501 : decode cL_law 1501 = .ok (.aload_n 2, 1) := dk_44 (dk_at dksL_law_55 22 rfl rfl)
theorem dL_law_1502 : decode cL_law 1502 = .ok (.aload_n 0, 1) := dk_42 (dk_at dksL_law_55 23 rfl rfl)
theorem dL_law_1503 : decode cL_law 1503 = .ok (.iload 5, 2) := dk_21 5 (dk_at dksL_law_56 0 rfl rfl)
theorem dL_law_1505 : decode cL_law 1505 = .ok (.iconst 1, 1) := dk_4 (dk_at dksL_law_56 2 rfl rfl)
theorem dL_law_1506 : decode cL_law 1506 = .ok (.iadd, 1) := dk_96 (dk_at dksL_law_56 3 rfl rfl)
theorem dL_law_1507 : decode cL_law 1507 = .ok (.iaload, 1) := dk_46 (dk_at dksL_law_56 4 rfl rfl)
theorem dL_law_1508 : decode cL_law 1508 = .ok (.invokevirtual 237, 3) := dk_182 0 237 (dk_at dksL_law_56 5 rfl rfl)
theorem dL_law_1511 : decode cL_law 1511 = .ok (.istore 7, 2) := dk_54 7 (dk_at dksL_law_56 8 rfl rfl)
theorem dL_law_1513 : decode cL_law 1513 = .ok (.aload_n 2, 1) := dk_44 (dk_at dksL_law_56 10 rfl rfl)
theorem dL_law_1514 : decode cL_law 1514 = .ok (.invokevirtual 172, 3) := dk_182 0 172 (dk_at dksL_law_56 11 rfl rfl)
theorem dL_law_1517 : decode cL_law 1517 = .ok (.iload 6, 2) := dk_21 6 (dk_at dksL_law_56 14 rfl rfl)
theorem dL_law_1519 : decode cL_law 1519 = .ok (.if_icmp .eq 5, 3) := dk_159 0 5 (dk_at dksL_law_56 16 rfl rfl)
theorem dL_law_1522 : decode cL_law 1522 = .ok (.iconst 0, 1) := dk_3 (dk_at dksL_law_56 19 rfl rfl)
theorem dL_law_1523 : decode cL_law 1523 = .ok (.ireturn, 1) := dk_172 (dk_at dksL_law_56 20 rfl rfl)
theorem dL_law_1524 : decode cL_law 1524 = .ok (.iload 6, 2) := dk_21 6 (dk_at dksL_law_56 21 rfl rfl)
theorem dL_law_1526 : decode cL_law 1526 = .ok (.ifCond .ne 15, 3) := dk_154 0 15 (dk_at dksL_law_57 0 rfl rfl)
theorem dL_law_1529 : decode cL_law 1529 = .ok (.aload_n 3, 1) := dk_45 (dk_at dksL_law_57 3 rfl rfl)
theorem dL_law_1530 : decode cL_law 1530 = .ok (.iconst 0, 1) := dk_3 (dk_at dksL_law_57 4 rfl rfl)
theorem dL_law_1531 : decode cL_law 1531 = .ok (.laload, 1) := dk_47 (dk_at dksL_law_57 5 rfl rfl)
theorem dL_law_1532 : decode cL_law 1532 = .ok (.iload 7, 2) := dk_21 7 (dk_at dksL_law_57 6 rfl rfl)
theorem dL_law_1534 : decode cL_law 1534 = .ok (.i2l, 1) := dk_133 (dk_at dksL_law_57 8 rfl rfl)
theorem dL_law_1535 : decode cL_law 1535 = .ok (.lcmp, 1) := dk_148 (dk_at dksL_law_57 9 rfl rfl)
theorem dL_law_1536 : decode cL_law 1536 = .ok (.ifCond .eq 5, 3) := dk_153 0 5 (dk_at dksL_law_57 10 rfl rfl)
theorem dL_law_1539 : decode cL_law 1539 = .ok (.iconst 0, 1) := dk_3 (dk_at dksL_law_57 13 rfl rfl)
theorem dL_law_1540 : decode cL_law 1540 = .ok (.ireturn, 1) := dk_172 (dk_at dksL_law_57 14 rfl rfl)
theorem dL_law_1541 : decode cL_law 1541 = .ok (.goto 1682, 3) := dk_167 6 146 (dk_at dksL_law_57 15 rfl rfl)
theorem dL_law_1544 : decode cL_law 1544 = .ok (.aload_n 1, 1) := dk_43 (dk_at dksL_law_57 18 rfl rfl)
theorem dL_law_1545 : decode cL_law 1545 = .ok (.aload_n 0, 1) := dk_42 (dk_at dksL_law_57 19 rfl rfl)
theorem dL_law_1546 : decode cL_law 1546 = .ok (.iload 5, 2) := dk_21 5 (dk_at dksL_law_57 20 rfl rfl)
theorem dL_law_1548 : decode cL_law 1548 = .ok (.iconst 1, 1) := dk_4 (dk_at dksL_law_57 22 rfl rfl)
theorem dL_law_1549 : decode cL_law 1549 = .ok (.iadd, 1) := dk_96 (dk_at dksL_law_57 23 rfl rfl)
theorem dL_law_1550 : decode cL_law 1550 = .ok (.iaload, 1) := dk_46 (dk_at dksL_law_58 0 rfl rfl)
theorem dL_law_1551 : decode cL_law 1551 = .ok (.aload_n 0, 1) := dk_42 (dk_at dksL_law_58 1 rfl rfl)
theorem dL_law_1552 : decode cL_law 1552 = .ok (.iload 5, 2) := dk_21 5 (dk_at dksL_law_58 2 rfl rfl)
theorem dL_law_1554 : decode cL_law 1554 = .ok (.iconst 2, 1) := dk_5 (dk_at dksL_law_58 4 rfl rfl)
theorem dL_law_1555 : decode cL_law 1555 = .ok (.iadd, 1) := dk_96 (dk_at dksL_law_58 5 rfl rfl)
theorem dL_law_1556 : decode cL_law 1556 = .ok (.iaload, 1) := dk_46 (dk_at dksL_law_58 6 rfl rfl)
theorem dL_law_1557 : decode cL_law 1557 = .ok (.aload_n 3, 1) := dk_45 (dk_at dksL_law_58 7 rfl rfl)
theorem dL_law_1558 : decode cL_law 1558 = .ok (.invokestatic 238, 3) := dk_184 0 238 (dk_at dksL_law_58 8 rfl rfl)
theorem dL_law_1561 : decode cL_law 1561 = .ok (.istore 6, 2) := dk_54 6 (dk_at dksL_law_58 11 rfl rfl)
theorem dL_law_1563 : decode cL_law 1563 = .ok (.aload_n 2, 1) := dk_44 (dk_at dksL_law_58 13 rfl rfl)
theorem dL_law_1564 : decode cL_law 1564 = .ok (.aload_n 0, 1) := dk_42 (dk_at dksL_law_58 14 rfl rfl)
theorem dL_law_1565 : decode cL_law 1565 = .ok (.iload 5, 2) := dk_21 5 (dk_at dksL_law_58 15 rfl rfl)
theorem dL_law_1567 : decode cL_law 1567 = .ok (.iconst 1, 1) := dk_4 (dk_at dksL_law_58 17 rfl rfl)
theorem dL_law_1568 : decode cL_law 1568 = .ok (.iadd, 1) := dk_96 (dk_at dksL_law_58 18 rfl rfl)
theorem dL_law_1569 : decode cL_law 1569 = .ok (.iaload, 1) := dk_46 (dk_at dksL_law_58 19 rfl rfl)
theorem dL_law_1570 : decode cL_law 1570 = .ok (.aload_n 0, 1) := dk_42 (dk_at dksL_law_58 20 rfl rfl)
theorem dL_law_1571 : decode cL_law 1571 = .ok (.iload 5, 2) := dk_21 5 (dk_at dksL_law_58 21 rfl rfl)
theorem dL_law_1573 : decode cL_law 1573 = .ok (.iconst 2, 1) := dk_5 (dk_at dksL_law_58 23 rfl rfl)
theorem dL_law_1574 : decode cL_law 1574 = .ok (.iadd, 1) := dk_96 (dk_at dksL_law_59 0 rfl rfl)
theorem dL_law_1575 : decode cL_law 1575 = .ok (.iaload, 1) := dk_46 (dk_at dksL_law_59 1 rfl rfl)
theorem dL_law_1576 : decode cL_law 1576 = .ok (.invokevirtual 240, 3) := dk_182 0 240 (dk_at dksL_law_59 2 rfl rfl)
theorem dL_law_1579 : decode cL_law 1579 = .ok (.istore 7, 2) := dk_54 7 (dk_at dksL_law_59 5 rfl rfl)
theorem dL_law_1581 : decode cL_law 1581 = .ok (.aload_n 2, 1) := dk_44 (dk_at dksL_law_59 7 rfl rfl)
theorem dL_law_1582 : decode cL_law 1582 = .ok (.invokevirtual 172, 3) := dk_182 0 172 (dk_at dksL_law_59 8 rfl rfl)
theorem dL_law_1585 : decode cL_law 1585 = .ok (.iload 6, 2) := dk_21 6 (dk_at dksL_law_59 11 rfl rfl)
theorem dL_law_1587 : decode cL_law 1587 = .ok (.if_icmp .eq 5, 3) := dk_159 0 5 (dk_at dksL_law_59 13 rfl rfl)
theorem dL_law_1590 : decode cL_law 1590 = .ok (.iconst 0, 1) := dk_3 (dk_at dksL_law_59 16 rfl rfl)
theorem dL_law_1591 : decode cL_law 1591 = .ok (.ireturn, 1) := dk_172 (dk_at dksL_law_59 17 rfl rfl)
theorem dL_law_1592 : decode cL_law 1592 = .ok (.iload 6, 2) := dk_21 6 (dk_at dksL_law_59 18 rfl rfl)
theorem dL_law_1594 : decode cL_law 1594 = .ok (.ifCond .ne 15, 3) := dk_154 0 15 (dk_at dksL_law_59 20 rfl rfl)
theorem dL_law_1597 : decode cL_law 1597 = .ok (.aload_n 3, 1) := dk_45 (dk_at dksL_law_59 23 rfl rfl)
theorem dL_law_1598 : decode cL_law 1598 = .ok (.iconst 0, 1) := dk_3 (dk_at dksL_law_60 0 rfl rfl)
theorem dL_law_1599 : decode cL_law 1599 = .ok (.laload, 1) := dk_47 (dk_at dksL_law_60 1 rfl rfl)
theorem dL_law_1600 : decode cL_law 1600 = .ok (.iload 7, 2) := dk_21 7 (dk_at dksL_law_60 2 rfl rfl)
theorem dL_law_1602 : decode cL_law 1602 = .ok (.i2l, 1) := dk_133 (dk_at dksL_law_60 4 rfl rfl)
theorem dL_law_1603 : decode cL_law 1603 = .ok (.lcmp, 1) := dk_148 (dk_at dksL_law_60 5 rfl rfl)
theorem dL_law_1604 : decode cL_law 1604 = .ok (.ifCond .eq 5, 3) := dk_153 0 5 (dk_at dksL_law_60 6 rfl rfl)
theorem dL_law_1607 : decode cL_law 1607 = .ok (.iconst 0, 1) := dk_3 (dk_at dksL_law_60 9 rfl rfl)
theorem dL_law_1608 : decode cL_law 1608 = .ok (.ireturn, 1) := dk_172 (dk_at dksL_law_60 10 rfl rfl)
theorem dL_law_1609 : decode cL_law 1609 = .ok (.goto 1614, 3) := dk_167 6 78 (dk_at dksL_law_60 11 rfl rfl)
theorem dL_law_1612 : decode cL_law 1612 = .ok (.aload_n 1, 1) := dk_43 (dk_at dksL_law_60 14 rfl rfl)
theorem dL_law_1613 : decode cL_law 1613 = .ok (.aload_n 0, 1) := dk_42 (dk_at dksL_law_60 15 rfl rfl)
theorem dL_law_1614 : decode cL_law 1614 = .ok (.iload 5, 2) := dk_21 5 (dk_at dksL_law_60 16 rfl rfl)
theorem dL_law_1616 : decode cL_law 1616 = .ok (.iconst 1, 1) := dk_4 (dk_at dksL_law_60 18 rfl rfl)
theorem dL_law_1617 : decode cL_law 1617 = .ok (.iadd, 1) := dk_96 (dk_at dksL_law_60 19 rfl rfl)
theorem dL_law_1618 : decode cL_law 1618 = .ok (.iaload, 1) := dk_46 (dk_at dksL_law_60 20 rfl rfl)
theorem dL_law_1619 : decode cL_law 1619 = .ok (.aload_n 3, 1) := dk_45 (dk_at dksL_law_60 21 rfl rfl)
theorem dL_law_1620 : decode cL_law 1620 = .ok (.invokestatic 241, 3) := dk_184 0 241 (dk_at dksL_law_61 0 rfl rfl)
theorem dL_law_1623 : decode cL_law 1623 = .ok (.istore 6, 2) := dk_54 6 (dk_at dksL_law_61 3 rfl rfl)
theorem dL_law_1625 : decode cL_law 1625 = .ok (.aload_n 2, 1) := dk_44 (dk_at dksL_law_61 5 rfl rfl)
theorem dL_law_1626 : decode cL_law 1626 = .ok (.aload_n 0, 1) := dk_42 (dk_at dksL_law_61 6 rfl rfl)
theorem dL_law_1627 : decode cL_law 1627 = .ok (.iload 5, 2) := dk_21 5 (dk_at dksL_law_61 7 rfl rfl)
theorem dL_law_1629 : decode cL_law 1629 = .ok (.iconst 1, 1) := dk_4 (dk_at dksL_law_61 9 rfl rfl)
theorem dL_law_1630 : decode cL_law 1630 = .ok (.iadd, 1) := dk_96 (dk_at dksL_law_61 10 rfl rfl)
theorem dL_law_1631 : decode cL_law 1631 = .ok (.iaload, 1) := dk_46 (dk_at dksL_law_61 11 rfl rfl)
theorem dL_law_1632 : decode cL_law 1632 = .ok (.invokevirtual 243, 3) := dk_182 0 243 (dk_at dksL_law_61 12 rfl rfl)
theorem dL_law_1635 : decode cL_law 1635 = .ok (.istore 7, 2) := dk_54 7 (dk_at dksL_law_61 15 rfl rfl)
theorem dL_law_1637 : decode cL_law 1637 = .ok (.aload_n 2, 1) := dk_44 (dk_at dksL_law_61 17 rfl rfl)
theorem dL_law_1638 : decode cL_law 1638 = .ok (.invokevirtual 172, 3) := dk_182 0 172 (dk_at dksL_law_61 18 rfl rfl)
theorem dL_law_1641 : decode cL_law 1641 = .ok (.iload 6, 2) := dk_21 6 (dk_at dksL_law_61 21 rfl rfl)
theorem dL_law_1643 : decode cL_law 1643 = .ok (.if_icmp .eq 5, 3) := dk_159 0 5 (dk_at dksL_law_62 0 rfl rfl)
theorem dL_law_1646 : decode cL_law 1646 = .ok (.iconst 0, 1) := dk_3 (dk_at dksL_law_62 3 rfl rfl)
theorem dL_law_1647 : decode cL_law 1647 = .ok (.ireturn, 1) := dk_172 (dk_at dksL_law_62 4 rfl rfl)
theorem dL_law_1648 : decode cL_law 1648 = .ok (.iload 6, 2) := dk_21 6 (dk_at dksL_law_62 5 rfl rfl)
theorem dL_law_1650 : decode cL_law 1650 = .ok (.ifCond .ne 15, 3) := dk_154 0 15 (dk_at dksL_law_62 7 rfl rfl)
theorem dL_law_1653 : decode cL_law 1653 = .ok (.aload_n 3, 1) := dk_45 (dk_at dksL_law_62 10 rfl rfl)
theorem dL_law_1654 : decode cL_law 1654 = .ok (.iconst 0, 1) := dk_3 (dk_at dksL_law_62 11 rfl rfl)
theorem dL_law_1655 : decode cL_law 1655 = .ok (.laload, 1) := dk_47 (dk_at dksL_law_62 12 rfl rfl)
theorem dL_law_1656 : decode cL_law 1656 = .ok (.iload 7, 2) := dk_21 7 (dk_at dksL_law_62 13 rfl rfl)
theorem dL_law_1658 : decode cL_law 1658 = .ok (.i2l, 1) := dk_133 (dk_at dksL_law_62 15 rfl rfl)
theorem dL_law_1659 : decode cL_law 1659 = .ok (.lcmp, 1) := dk_148 (dk_at dksL_law_62 16 rfl rfl)
theorem dL_law_1660 : decode cL_law 1660 = .ok (.ifCond .eq 5, 3) := dk_153 0 5 (dk_at dksL_law_62 17 rfl rfl)
theorem dL_law_1663 : decode cL_law 1663 = .ok (.iconst 0, 1) := dk_3 (dk_at dksL_law_62 20 rfl rfl)
theorem dL_law_1664 : decode cL_law 1664 = .ok (.ireturn, 1) := dk_172 (dk_at dksL_law_62 21 rfl rfl)
theorem dL_law_1665 : decode cL_law 1665 = .ok (.goto 1558, 3) := dk_167 6 22 (dk_at dksL_law_63 0 rfl rfl)
theorem dL_law_1668 : decode cL_law 1668 = .ok (.aload_n 1, 1) := dk_43 (dk_at dksL_law_63 3 rfl rfl)
theorem dL_law_1669 : decode cL_law 1669 = .ok (.invokevirtual 244, 3) := dk_182 0 244 (dk_at dksL_law_63 4 rfl rfl)
theorem dL_law_1672 : decode cL_law 1672 = .ok (.aload_n 2, 1) := dk_44 (dk_at dksL_law_63 7 rfl rfl)
theorem dL_law_1673 : decode cL_law 1673 = .ok (.invokevirtual 247, 3) := dk_182 0 247 (dk_at dksL_law_63 8 rfl rfl)
theorem dL_law_1676 : decode cL_law 1676 = .ok (.if_icmp .eq 1547, 3) := dk_159 6 11 (dk_at dksL_law_63 11 rfl rfl)
theorem dL_law_1679 : decode cL_law 1679 = .ok (.iconst 0, 1) := dk_3 (dk_at dksL_law_63 14 rfl rfl)
theorem dL_law_1680 : decode cL_law 1680 = .ok (.ireturn, 1) := dk_172 (dk_at dksL_law_63 15 rfl rfl)
theorem dL_law_1681 : decode cL_law 1681 = .ok (.aload_n 1, 1) := dk_43 (dk_at dksL_law_63 16 rfl rfl)
theorem dL_law_1682 : decode cL_law 1682 = .ok (.aload_n 0, 1) := dk_42 (dk_at dksL_law_63 17 rfl rfl)
theorem dL_law_1683 : decode cL_law 1683 = .ok (.iload 5, 2) := dk_21 5 (dk_at dksL_law_63 18 rfl rfl)
theorem dL_law_1685 : decode cL_law 1685 = .ok (.iconst 1, 1) := dk_4 (dk_at dksL_law_63 20 rfl rfl)
theorem dL_law_1686 : decode cL_law 1686 = .ok (.iadd, 1) := dk_96 (dk_at dksL_law_63 21 rfl rfl)
theorem dL_law_1687 : decode cL_law 1687 = .ok (.iaload, 1) := dk_46 (dk_at dksL_law_63 22 rfl rfl)
theorem dL_law_1688 : decode cL_law 1688 = .ok (.aload 4, 2) := dk_25 4 (dk_at dksL_law_64 0 rfl rfl)
theorem dL_law_1690 : decode cL_law 1690 = .ok (.invokestatic 248, 3) := dk_184 0 248 (dk_at dksL_law_64 2 rfl rfl)
theorem dL_law_1693 : decode cL_law 1693 = .ok (.istore 6, 2) := dk_54 6 (dk_at dksL_law_64 5 rfl rfl)
theorem dL_law_1695 : decode cL_law 1695 = .ok (.aload_n 2, 1) := dk_44 (dk_at dksL_law_64 7 rfl rfl)
theorem dL_law_1696 : decode cL_law 1696 = .ok (.aload_n 0, 1) := dk_42 (dk_at dksL_law_64 8 rfl rfl)
theorem dL_law_1697 : decode cL_law 1697 = .ok (.iload 5, 2) := dk_21 5 (dk_at dksL_law_64 9 rfl rfl)
theorem dL_law_1699 : decode cL_law 1699 = .ok (.iconst 1, 1) := dk_4 (dk_at dksL_law_64 11 rfl rfl)
theorem dL_law_1700 : decode cL_law 1700 = .ok (.iadd, 1) := dk_96 (dk_at dksL_law_64 12 rfl rfl)
theorem dL_law_1701 : decode cL_law 1701 = .ok (.iaload, 1) := dk_46 (dk_at dksL_law_64 13 rfl rfl)
theorem dL_law_1702 : decode cL_law 1702 = .ok (.invokevirtual 251, 3) := dk_182 0 251 (dk_at dksL_law_64 14 rfl rfl)
theorem dL_law_1705 : decode cL_law 1705 = .ok (.dstore 7, 2) := dk_57 7 (dk_at dksL_law_64 17 rfl rfl)
theorem dL_law_1707 : decode cL_law 1707 = .ok (.aload_n 2, 1) := dk_44 (dk_at dksL_law_64 19 rfl rfl)
theorem dL_law_1708 : decode cL_law 1708 = .ok (.invokevirtual 172, 3) := dk_182 0 172 (dk_at dksL_law_64 20 rfl rfl)
theorem dL_law_1711 : decode cL_law 1711 = .ok (.iload 6, 2) := dk_21 6 (dk_at dksL_law_65 0 rfl rfl)
theorem dL_law_1713 : decode cL_law 1713 = .ok (.if_icmp .eq 5, 3) := dk_159 0 5 (dk_at dksL_law_65 2 rfl rfl)
theorem dL_law_1716 : decode cL_law 1716 = .ok (.iconst 0, 1) := dk_3 (dk_at dksL_law_65 5 rfl rfl)
theorem dL_law_1717 : decode cL_law 1717 = .ok (.ireturn, 1) := dk_172 (dk_at dksL_law_65 6 rfl rfl)
theorem dL_law_1718 : decode cL_law 1718 = .ok (.iload 6, 2) := dk_21 6 (dk_at dksL_law_65 7 rfl rfl)
theorem dL_law_1720 : decode cL_law 1720 = .ok (.ifCond .ne 35, 3) := dk_154 0 35 (dk_at dksL_law_65 9 rfl rfl)
theorem dL_law_1723 : decode cL_law 1723 = .ok (.aload 4, 2) := dk_25 4 (dk_at dksL_law_65 12 rfl rfl)
theorem dL_law_1725 : decode cL_law 1725 = .ok (.iconst 0, 1) := dk_3 (dk_at dksL_law_65 14 rfl rfl)
theorem dL_law_1726 : decode cL_law 1726 = .ok (.daload, 1) := dk_49 (dk_at dksL_law_65 15 rfl rfl)
theorem dL_law_1727 : decode cL_law 1727 = .ok (.dload 7, 2) := dk_24 7 (dk_at dksL_law_65 16 rfl rfl)
theorem dL_law_1729 : decode cL_law 1729 = .ok (.dcmp .l, 1) := dk_151 (dk_at dksL_law_65 18 rfl rfl)
theorem dL_law_1730 : decode cL_law 1730 = .ok (.ifCond .eq 25, 3) := dk_153 0 25 (dk_at dksL_law_65 19 rfl rfl)
theorem dL_law_1733 : decode cL_law 1733 = .ok (.aload 4, 2) := dk_25 4 (dk_at dksL_law_65 22 rfl rfl)
theorem dL_law_1735 : decode cL_law 1735 = .ok (.iconst 0, 1) := dk_3 (dk_at dksL_law_66 0 rfl rfl)
theorem dL_law_1736 : decode cL_law 1736 = .ok (.daload, 1) := dk_49 (dk_at dksL_law_66 1 rfl rfl)
theorem dL_law_1737 : decode cL_law 1737 = .ok (.aload 4, 2) := dk_25 4 (dk_at dksL_law_66 2 rfl rfl)
theorem dL_law_1739 : decode cL_law 1739 = .ok (.iconst 0, 1) := dk_3 (dk_at dksL_law_66 4 rfl rfl)
theorem dL_law_1740 : decode cL_law 1740 = .ok (.daload, 1) := dk_49 (dk_at dksL_law_66 5 rfl rfl)
theorem dL_law_1741 : decode cL_law 1741 = .ok (.dcmp .l, 1) := dk_151 (dk_at dksL_law_66 6 rfl rfl)
theorem dL_law_1742 : decode cL_law 1742 = .ok (.ifCond .eq 11, 3) := dk_153 0 11 (dk_at dksL_law_66 7 rfl rfl)
theorem dL_law_1745 : decode cL_law 1745 = .ok (.dload 7, 2) := dk_24 7 (dk_at dksL_law_66 10 rfl rfl)
theorem dL_law_1747 : decode cL_law 1747 = .ok (.dload 7, 2) := dk_24 7 (dk_at dksL_law_66 12 rfl rfl)
theorem dL_law_1749 : decode cL_law 1749 = .ok (.dcmp .l, 1) := dk_151 (dk_at dksL_law_66 14 rfl rfl)
theorem dL_law_1750 : decode cL_law 1750 = .ok (.ifCond .ne 5, 3) := dk_154 0 5 (dk_at dksL_law_66 15 rfl rfl)
theorem dL_law_1753 : decode cL_law 1753 = .ok (.iconst 0, 1) := dk_3 (dk_at dksL_law_66 18 rfl rfl)
theorem dL_law_1754 : decode cL_law 1754 = .ok (.ireturn, 1) := dk_172 (dk_at dksL_law_66 19 rfl rfl)
theorem dL_law_1755 : decode cL_law 1755 = .ok (.goto 1468, 3) := dk_167 5 188 (dk_at dksL_law_66 20 rfl rfl)
theorem dL_law_1758 : decode cL_law 1758 = .ok (.aload_n 1, 1) := dk_43 (dk_at dksL_law_66 23 rfl rfl)
theorem dL_law_1759 : decode cL_law 1759 = .ok (.aload_n 0, 1) := dk_42 (dk_at dksL_law_67 0 rfl rfl)
theorem dL_law_1760 : decode cL_law 1760 = .ok (.iload 5, 2) := dk_21 5 (dk_at dksL_law_67 1 rfl rfl)
theorem dL_law_1762 : decode cL_law 1762 = .ok (.iconst 1, 1) := dk_4 (dk_at dksL_law_67 3 rfl rfl)
theorem dL_law_1763 : decode cL_law 1763 = .ok (.iadd, 1) := dk_96 (dk_at dksL_law_67 4 rfl rfl)
theorem dL_law_1764 : decode cL_law 1764 = .ok (.iaload, 1) := dk_46 (dk_at dksL_law_67 5 rfl rfl)
theorem dL_law_1765 : decode cL_law 1765 = .ok (.aload_n 3, 1) := dk_45 (dk_at dksL_law_67 6 rfl rfl)
theorem dL_law_1766 : decode cL_law 1766 = .ok (.invokestatic 252, 3) := dk_184 0 252 (dk_at dksL_law_67 7 rfl rfl)
theorem dL_law_1769 : decode cL_law 1769 = .ok (.istore 6, 2) := dk_54 6 (dk_at dksL_law_67 10 rfl rfl)
theorem dL_law_1771 : decode cL_law 1771 = .ok (.aload_n 2, 1) := dk_44 (dk_at dksL_law_67 12 rfl rfl)
theorem dL_law_1772 : decode cL_law 1772 = .ok (.aload_n 0, 1) := dk_42 (dk_at dksL_law_67 13 rfl rfl)
theorem dL_law_1773 : decode cL_law 1773 = .ok (.iload 5, 2) := dk_21 5 (dk_at dksL_law_67 14 rfl rfl)
theorem dL_law_1775 : decode cL_law 1775 = .ok (.iconst 1, 1) := dk_4 (dk_at dksL_law_67 16 rfl rfl)
theorem dL_law_1776 : decode cL_law 1776 = .ok (.iadd, 1) := dk_96 (dk_at dksL_law_67 17 rfl rfl)
theorem dL_law_1777 : decode cL_law 1777 = .ok (.iaload, 1) := dk_46 (dk_at dksL_law_67 18 rfl rfl)
theorem dL_law_1778 : decode cL_law 1778 = .ok (.invokevirtual 254, 3) := dk_182 0 254 (dk_at dksL_law_67 19 rfl rfl)
theorem dL_law_1781 : decode cL_law 1781 = .ok (.istore 7, 2) := dk_54 7 (dk_at dksL_law_67 22 rfl rfl)
theorem dL_law_1783 : decode cL_law 1783 = .ok (.aload_n 2, 1) := dk_44 (dk_at dksL_law_68 0 rfl rfl)
theorem dL_law_1784 : decode cL_law 1784 = .ok (.invokevirtual 172, 3) := dk_182 0 172 (dk_at dksL_law_68 1 rfl rfl)
theorem dL_law_1787 : decode cL_law 1787 = .ok (.iload 6, 2) := dk_21 6 (dk_at dksL_law_68 4 rfl rfl)
theorem dL_law_1789 : decode cL_law 1789 = .ok (.if_icmp .eq 5, 3) := dk_159 0 5 (dk_at dksL_law_68 6 rfl rfl)
theorem dL_law_1792 : decode cL_law 1792 = .ok (.iconst 0, 1) := dk_3 (dk_at dksL_law_68 9 rfl rfl)
theorem dL_law_1793 : decode cL_law 1793 = .ok (.ireturn, 1) := dk_172 (dk_at dksL_law_68 10 rfl rfl)
theorem dL_law_1794 : decode cL_law 1794 = .ok (.iload 6, 2) := dk_21 6 (dk_at dksL_law_68 11 rfl rfl)
theorem dL_law_1796 : decode cL_law 1796 = .ok (.ifCond .ne 15, 3) := dk_154 0 15 (dk_at dksL_law_68 13 rfl rfl)
theorem dL_law_1799 : decode cL_law 1799 = .ok (.aload_n 3, 1) := dk_45 (dk_at dksL_law_68 16 rfl rfl)
theorem dL_law_1800 : decode cL_law 1800 = .ok (.iconst 0, 1) := dk_3 (dk_at dksL_law_68 17 rfl rfl)
theorem dL_law_1801 : decode cL_law 1801 = .ok (.laload, 1) := dk_47 (dk_at dksL_law_68 18 rfl rfl)
theorem dL_law_1802 : decode cL_law 1802 = .ok (.iload 7, 2) := dk_21 7 (dk_at dksL_law_68 19 rfl rfl)
theorem dL_law_1804 : decode cL_law 1804 = .ok (.i2l, 1) := dk_133 (dk_at dksL_law_68 21 rfl rfl)
theorem dL_law_1805 : decode cL_law 1805 = .ok (.lcmp, 1) := dk_148 (dk_at dksL_law_68 22 rfl rfl)
theorem dL_law_1806 : decode cL_law 1806 = .ok (.ifCond .eq 5, 3) := dk_153 0 5 (dk_at dksL_law_69 0 rfl rfl)
theorem dL_law_1809 : decode cL_law 1809 = .ok (.iconst 0, 1) := dk_3 (dk_at dksL_law_69 3 rfl rfl)
theorem dL_law_1810 : decode cL_law 1810 = .ok (.ireturn, 1) := dk_172 (dk_at dksL_law_69 4 rfl rfl)
theorem dL_law_1811 : decode cL_law 1811 = .ok (.goto 1412, 3) := dk_167 5 132 (dk_at dksL_law_69 5 rfl rfl)
theorem dL_law_1814 : decode cL_law 1814 = .ok (.aload_n 1, 1) := dk_43 (dk_at dksL_law_69 8 rfl rfl)
theorem dL_law_1815 : decode cL_law 1815 = .ok (.aload_n 0, 1) := dk_42 (dk_at dksL_law_69 9 rfl rfl)
theorem dL_law_1816 : decode cL_law 1816 = .ok (.iload 5, 2) := dk_21 5 (dk_at dksL_law_69 10 rfl rfl)
theorem dL_law_1818 : decode cL_law 1818 = .ok (.iconst 1, 1) := dk_4 (dk_at dksL_law_69 12 rfl rfl)
theorem dL_law_1819 : decode cL_law 1819 = .ok (.iadd, 1) := dk_96 (dk_at dksL_law_69 13 rfl rfl)
theorem dL_law_1820 : decode cL_law 1820 = .ok (.iaload, 1) := dk_46 (dk_at dksL_law_69 14 rfl rfl)
theorem dL_law_1821 : decode cL_law 1821 = .ok (.aload_n 3, 1) := dk_45 (dk_at dksL_law_69 15 rfl rfl)
theorem dL_law_1822 : decode cL_law 1822 = .ok (.invokestatic 255, 3) := dk_184 0 255 (dk_at dksL_law_69 16 rfl rfl)
theorem dL_law_1825 : decode cL_law 1825 = .ok (.istore 6, 2) := dk_54 6 (dk_at dksL_law_69 19 rfl rfl)
theorem dL_law_1827 : decode cL_law 1827 = .ok (.aload_n 2, 1) := dk_44 (dk_at dksL_law_69 21 rfl rfl)
theorem dL_law_1828 : decode cL_law 1828 = .ok (.aload_n 0, 1) := dk_42 (dk_at dksL_law_69 22 rfl rfl)
theorem dL_law_1829 : decode cL_law 1829 = .ok (.iload 5, 2) := dk_21 5 (dk_at dksL_law_70 0 rfl rfl)
theorem dL_law_1831 : decode cL_law 1831 = .ok (.iconst 1, 1) := dk_4 (dk_at dksL_law_70 2 rfl rfl)
theorem dL_law_1832 : decode cL_law 1832 = .ok (.iadd, 1) := dk_96 (dk_at dksL_law_70 3 rfl rfl)
theorem dL_law_1833 : decode cL_law 1833 = .ok (.iaload, 1) := dk_46 (dk_at dksL_law_70 4 rfl rfl)
theorem dL_law_1834 : decode cL_law 1834 = .ok (.invokevirtual 257, 3) := dk_182 1 1 (dk_at dksL_law_70 5 rfl rfl)
theorem dL_law_1837 : decode cL_law 1837 = .ok (.istore 7, 2) := dk_54 7 (dk_at dksL_law_70 8 rfl rfl)
theorem dL_law_1839 : decode cL_law 1839 = .ok (.aload_n 2, 1) := dk_44 (dk_at dksL_law_70 10 rfl rfl)
theorem dL_law_1840 : decode cL_law 1840 = .ok (.invokevirtual 172, 3) := dk_182 0 172 (dk_at dksL_law_70 11 rfl rfl)
theorem dL_law_1843 : decode cL_law 1843 = .ok (.iload 6, 2) := dk_21 6 (dk_at dksL_law_70 14 rfl rfl)
theorem dL_law_1845 : decode cL_law 1845 = .ok (.if_icmp .eq 5, 3) := dk_159 0 5 (dk_at dksL_law_70 16 rfl rfl)
theorem dL_law_1848 : decode cL_law 1848 = .ok (.iconst 0, 1) := dk_3 (dk_at dksL_law_70 19 rfl rfl)
theorem dL_law_1849 : decode cL_law 1849 = .ok (.ireturn, 1) := dk_172 (dk_at dksL_law_70 20 rfl rfl)
theorem dL_law_1850 : decode cL_law 1850 = .ok (.iload 6, 2) := dk_21 6 (dk_at dksL_law_70 21 rfl rfl)
theorem dL_law_1852 : decode cL_law 1852 = .ok (.ifCond .ne 22, 3) := dk_154 0 22 (dk_at dksL_law_71 0 rfl rfl)
theorem dL_law_1855 : decode cL_law 1855 = .ok (.aload_n 3, 1) := dk_45 (dk_at dksL_law_71 3 rfl rfl)
theorem dL_law_1856 : decode cL_law 1856 = .ok (.iconst 0, 1) := dk_3 (dk_at dksL_law_71 4 rfl rfl)
theorem dL_law_1857 : decode cL_law 1857 = .ok (.laload, 1) := dk_47 (dk_at dksL_law_71 5 rfl rfl)
theorem dL_law_1858 : decode cL_law 1858 = .ok (.iload 7, 2) := dk_21 7 (dk_at dksL_law_71 6 rfl rfl)
theorem dL_law_1860 : decode cL_law 1860 = .ok (.ifCond .eq 7, 3) := dk_153 0 7 (dk_at dksL_law_71 8 rfl rfl)
theorem dL_law_1863 : decode cL_law 1863 = .ok (.lconst 1, 1) := dk_10 (dk_at dksL_law_71 11 rfl rfl)
theorem dL_law_1864 : decode cL_law 1864 = .ok (.goto 4, 3) := dk_167 0 4 (dk_at dksL_law_71 12 rfl rfl)
theorem dL_law_1867 : decode cL_law 1867 = .ok (.lconst 0, 1) := dk_9 (dk_at dksL_law_71 15 rfl rfl)
theorem dL_law_1868 : decode cL_law 1868 = .ok (.lcmp, 1) := dk_148 (dk_at dksL_law_71 16 rfl rfl)
theorem dL_law_1869 : decode cL_law 1869 = .ok (.ifCond .eq 5, 3) := dk_153 0 5 (dk_at dksL_law_71 17 rfl rfl)
theorem dL_law_1872 : decode cL_law 1872 = .ok (.iconst 0, 1) := dk_3 (dk_at dksL_law_71 20 rfl rfl)
theorem dL_law_1873 : decode cL_law 1873 = .ok (.ireturn, 1) := dk_172 (dk_at dksL_law_71 21 rfl rfl)
theorem dL_law_1874 : decode cL_law 1874 = .ok (.goto 1349, 3) := dk_167 5 69 (dk_at dksL_law_72 0 rfl rfl)
theorem dL_law_1877 : decode cL_law 1877 = .ok (.aload_n 1, 1) := dk_43 (dk_at dksL_law_72 3 rfl rfl)
theorem dL_law_1878 : decode cL_law 1878 = .ok (.aload_n 0, 1) := dk_42 (dk_at dksL_law_72 4 rfl rfl)
theorem dL_law_1879 : decode cL_law 1879 = .ok (.iload 5, 2) := dk_21 5 (dk_at dksL_law_72 5 rfl rfl)
theorem dL_law_1881 : decode cL_law 1881 = .ok (.iconst 1, 1) := dk_4 (dk_at dksL_law_72 7 rfl rfl)
theorem dL_law_1882 : decode cL_law 1882 = .ok (.iadd, 1) := dk_96 (dk_at dksL_law_72 8 rfl rfl)
theorem dL_law_1883 : decode cL_law 1883 = .ok (.iaload, 1) := dk_46 (dk_at dksL_law_72 9 rfl rfl)
theorem dL_law_1884 : decode cL_law 1884 = .ok (.aload_n 0, 1) := dk_42 (dk_at dksL_law_72 10 rfl rfl)
theorem dL_law_1885 : decode cL_law 1885 = .ok (.iload 5, 2) := dk_21 5 (dk_at dksL_law_72 11 rfl rfl)
theorem dL_law_1887 : decode cL_law 1887 = .ok (.iconst 2, 1) := dk_5 (dk_at dksL_law_72 13 rfl rfl)
theorem dL_law_1888 : decode cL_law 1888 = .ok (.iadd, 1) := dk_96 (dk_at dksL_law_72 14 rfl rfl)
theorem dL_law_1889 : decode cL_law 1889 = .ok (.iaload, 1) := dk_46 (dk_at dksL_law_72 15 rfl rfl)
theorem dL_law_1890 : decode cL_law 1890 = .ok (.aload_n 3, 1) := dk_45 (dk_at dksL_law_72 16 rfl rfl)
theorem dL_law_1891 : decode cL_law 1891 = .ok (.invokestatic 258, 3) := dk_184 1 2 (dk_at dksL_law_72 17 rfl rfl)
theorem dL_law_1894 : decode cL_law 1894 = .ok (.istore 6, 2) := dk_54 6 (dk_at dksL_law_72 20 rfl rfl)
theorem dL_law_1896 : decode cL_law 1896 = .ok (.aload_n 2, 1) := dk_44 (dk_at dksL_law_72 22 rfl rfl)
theorem dL_law_1897 : decode cL_law 1897 = .ok (.aload_n 0, 1) := dk_42 (dk_at dksL_law_72 23 rfl rfl)
theorem dL_law_1898 : decode cL_law 1898 = .ok (.iload 5, 2) := dk_21 5 (dk_at dksL_law_73 0 rfl rfl)
theorem dL_law_1900 : decode cL_law 1900 = .ok (.iconst 1, 1) := dk_4 (dk_at dksL_law_73 2 rfl rfl)
theorem dL_law_1901 : decode cL_law 1901 = .ok (.iadd, 1) := dk_96 (dk_at dksL_law_73 3 rfl rfl)
theorem dL_law_1902 : decode cL_law 1902 = .ok (.iaload, 1) := dk_46 (dk_at dksL_law_73 4 rfl rfl)
theorem dL_law_1903 : decode cL_law 1903 = .ok (.aload_n 0, 1) := dk_42 (dk_at dksL_law_73 5 rfl rfl)
theorem dL_law_1904 : decode cL_law 1904 = .ok (.iload 5, 2) := dk_21 5 (dk_at dksL_law_73 6 rfl rfl)
theorem dL_law_1906 : decode cL_law 1906 = .ok (.iconst 2, 1) := dk_5 (dk_at dksL_law_73 8 rfl rfl)
theorem dL_law_1907 : decode cL_law 1907 = .ok (.iadd, 1) := dk_96 (dk_at dksL_law_73 9 rfl rfl)
theorem dL_law_1908 : decode cL_law 1908 = .ok (.iaload, 1) := dk_46 (dk_at dksL_law_73 10 rfl rfl)
theorem dL_law_1909 : decode cL_law 1909 = .ok (.invokevirtual 260, 3) := dk_182 1 4 (dk_at dksL_law_73 11 rfl rfl)
theorem dL_law_1912 : decode cL_law 1912 = .ok (.istore 7, 2) := dk_54 7 (dk_at dksL_law_73 14 rfl rfl)
theorem dL_law_1914 : decode cL_law 1914 = .ok (.aload_n 2, 1) := dk_44 (dk_at dksL_law_73 16 rfl rfl)
theorem dL_law_1915 : decode cL_law 1915 = .ok (.invokevirtual 172, 3) := dk_182 0 172 (dk_at dksL_law_73 17 rfl rfl)
theorem dL_law_1918 : decode cL_law 1918 = .ok (.iload 6, 2) := dk_21 6 (dk_at dksL_law_73 20 rfl rfl)
theorem dL_law_1920 : decode cL_law 1920 = .ok (.if_icmp .eq 5, 3) := dk_159 0 5 (dk_at dksL_law_74 0 rfl rfl)
theorem dL_law_1923 : decode cL_law 1923 = .ok (.iconst 0, 1) := dk_3 (dk_at dksL_law_74 3 rfl rfl)
theorem dL_law_1924 : decode cL_law 1924 = .ok (.ireturn, 1) := dk_172 (dk_at dksL_law_74 4 rfl rfl)
theorem dL_law_1925 : decode cL_law 1925 = .ok (.iload 6, 2) := dk_21 6 (dk_at dksL_law_74 5 rfl rfl)
theorem dL_law_1927 : decode cL_law 1927 = .ok (.ifCond .ne 15, 3) := dk_154 0 15 (dk_at dksL_law_74 7 rfl rfl)
theorem dL_law_1930 : decode cL_law 1930 = .ok (.aload_n 3, 1) := dk_45 (dk_at dksL_law_74 10 rfl rfl)
theorem dL_law_1931 : decode cL_law 1931 = .ok (.iconst 0, 1) := dk_3 (dk_at dksL_law_74 11 rfl rfl)
theorem dL_law_1932 : decode cL_law 1932 = .ok (.laload, 1) := dk_47 (dk_at dksL_law_74 12 rfl rfl)
theorem dL_law_1933 : decode cL_law 1933 = .ok (.iload 7, 2) := dk_21 7 (dk_at dksL_law_74 13 rfl rfl)
theorem dL_law_1935 : decode cL_law 1935 = .ok (.i2l, 1) := dk_133 (dk_at dksL_law_74 15 rfl rfl)
theorem dL_law_1936 : decode cL_law 1936 = .ok (.lcmp, 1) := dk_148 (dk_at dksL_law_74 16 rfl rfl)
theorem dL_law_1937 : decode cL_law 1937 = .ok (.ifCond .eq 5, 3) := dk_153 0 5 (dk_at dksL_law_74 17 rfl rfl)
theorem dL_law_1940 : decode cL_law 1940 = .ok (.iconst 0, 1) := dk_3 (dk_at dksL_law_74 20 rfl rfl)
theorem dL_law_1941 : decode cL_law 1941 = .ok (.ireturn, 1) := dk_172 (dk_at dksL_law_74 21 rfl rfl)
theorem dL_law_1942 : decode cL_law 1942 = .ok (.goto 1281, 3) := dk_167 5 1 (dk_at dksL_law_75 0 rfl rfl)
theorem dL_law_1945 : decode cL_law 1945 = .ok (.aload_n 1, 1) := dk_43 (dk_at dksL_law_75 3 rfl rfl)
theorem dL_law_1946 : decode cL_law 1946 = .ok (.invokevirtual 261, 3) := dk_182 1 5 (dk_at dksL_law_75 4 rfl rfl)
theorem dL_law_1949 : decode cL_law 1949 = .ok (.aload_n 2, 1) := dk_44 (dk_at dksL_law_75 7 rfl rfl)
theorem dL_law_1950 : decode cL_law 1950 = .ok (.invokevirtual 264, 3) := dk_182 1 8 (dk_at dksL_law_75 8 rfl rfl)
theorem dL_law_1953 : decode cL_law 1953 = .ok (.if_icmp .eq 1270, 3) := dk_159 4 246 (dk_at dksL_law_75 11 rfl rfl)
theorem dL_law_1956 : decode cL_law 1956 = .ok (.iconst 0, 1) := dk_3 (dk_at dksL_law_75 14 rfl rfl)
theorem dL_law_1957 : decode cL_law 1957 = .ok (.ireturn, 1) := dk_172 (dk_at dksL_law_75 15 rfl rfl)
theorem dL_law_1958 : decode cL_law 1958 = .ok (.aload_n 1, 1) := dk_43 (dk_at dksL_law_75 16 rfl rfl)
theorem dL_law_1959 : decode cL_law 1959 = .ok (.aload_n 0, 1) := dk_42 (dk_at dksL_law_75 17 rfl rfl)
theorem dL_law_1960 : decode cL_law 1960 = .ok (.iload 5, 2) := dk_21 5 (dk_at dksL_law_75 18 rfl rfl)
theorem dL_law_1962 : decode cL_law 1962 = .ok (.iconst 1, 1) := dk_4 (dk_at dksL_law_75 20 rfl rfl)
theorem dL_law_1963 : decode cL_law 1963 = .ok (.iadd, 1) := dk_96 (dk_at dksL_law_75 21 rfl rfl)
theorem dL_law_1964 : decode cL_law 1964 = .ok (.iaload, 1) := dk_46 (dk_at dksL_law_75 22 rfl rfl)
theorem dL_law_1965 : decode cL_law 1965 = .ok (.aload_n 3, 1) := dk_45 (dk_at dksL_law_75 23 rfl rfl)
theorem dL_law_1966 : decode cL_law 1966 = .ok (.invokestatic 265, 3) := dk_184 1 9 (dk_at dksL_law_76 0 rfl rfl)
theorem dL_law_1969 : decode cL_law 1969 = .ok (.istore 6, 2) := dk_54 6 (dk_at dksL_law_76 3 rfl rfl)
theorem dL_law_1971 : decode cL_law 1971 = .ok (.aload_n 2, 1) := dk_44 (dk_at dksL_law_76 5 rfl rfl)
theorem dL_law_1972 : decode cL_law 1972 = .ok (.aload_n 0, 1) := dk_42 (dk_at dksL_law_76 6 rfl rfl)
theorem dL_law_1973 : decode cL_law 1973 = .ok (.iload 5, 2) := dk_21 5 (dk_at dksL_law_76 7 rfl rfl)
theorem dL_law_1975 : decode cL_law 1975 = .ok (.iconst 1, 1) := dk_4 (dk_at dksL_law_76 9 rfl rfl)
theorem dL_law_1976 : decode cL_law 1976 = .ok (.iadd, 1) := dk_96 (dk_at dksL_law_76 10 rfl rfl)
theorem dL_law_1977 : decode cL_law 1977 = .ok (.iaload, 1) := dk_46 (dk_at dksL_law_76 11 rfl rfl)
theorem dL_law_1978 : decode cL_law 1978 = .ok (.invokevirtual 267, 3) := dk_182 1 11 (dk_at dksL_law_76 12 rfl rfl)
theorem dL_law_1981 : decode cL_law 1981 = .ok (.istore 7, 2) := dk_54 7 (dk_at dksL_law_76 15 rfl rfl)
theorem dL_law_1983 : decode cL_law 1983 = .ok (.aload_n 2, 1) := dk_44 (dk_at dksL_law_76 17 rfl rfl)
theorem dL_law_1984 : decode cL_law 1984 = .ok (.invokevirtual 172, 3) := dk_182 0 172 (dk_at dksL_law_76 18 rfl rfl)
theorem dL_law_1987 : decode cL_law 1987 = .ok (.iload 6, 2) := dk_21 6 (dk_at dksL_law_76 21 rfl rfl)
theorem dL_law_1989 : decode cL_law 1989 = .ok (.if_icmp .eq 5, 3) := dk_159 0 5 (dk_at dksL_law_77 0 rfl rfl)
theorem dL_law_1992 : decode cL_law 1992 = .ok (.iconst 0, 1) := dk_3 (dk_at dksL_law_77 3 rfl rfl)
theorem dL_law_1993 : decode cL_law 1993 = .ok (.ireturn, 1) := dk_172 (dk_at dksL_law_77 4 rfl rfl)
theorem dL_law_1994 : decode cL_law 1994 = .ok (.iload 6, 2) := dk_21 6 (dk_at dksL_law_77 5 rfl rfl)
theorem dL_law_1996 : decode cL_law 1996 = .ok (.ifCond .ne 15, 3) := dk_154 0 15 (dk_at dksL_law_77 7 rfl rfl)
theorem dL_law_1999 : decode cL_law 1999 = .ok (.aload_n 3, 1) := dk_45 (dk_at dksL_law_77 10 rfl rfl)
theorem dL_law_2000 : decode cL_law 2000 = .ok (.iconst 0, 1) := dk_3 (dk_at dksL_law_77 11 rfl rfl)
theorem dL_law_2001 : decode cL_law 2001 = .ok (.laload, 1) := dk_47 (dk_at dksL_law_77 12 rfl rfl)
theorem dL_law_2002 : decode cL_law 2002 = .ok (.iload 7, 2) := dk_21 7 (dk_at dksL_law_77 13 rfl rfl)
theorem dL_law_2004 : decode cL_law 2004 = .ok (.i2l, 1) := dk_133 (dk_at dksL_law_77 15 rfl rfl)
theorem dL_law_2005 : decode cL_law 2005 = .ok (.lcmp, 1) := dk_148 (dk_at dksL_law_77 16 rfl rfl)
theorem dL_law_2006 : decode cL_law 2006 = .ok (.ifCond .eq 5, 3) := dk_153 0 5 (dk_at dksL_law_77 17 rfl rfl)
theorem dL_law_2009 : decode cL_law 2009 = .ok (.iconst 0, 1) := dk_3 (dk_at dksL_law_77 20 rfl rfl)
theorem dL_law_2010 : decode cL_law 2010 = .ok (.ireturn, 1) := dk_172 (dk_at dksL_law_77 21 rfl rfl)
theorem dL_law_2011 : decode cL_law 2011 = .ok (.goto 1212, 3) := dk_167 4 188 (dk_at dksL_law_78 0 rfl rfl)
theorem dL_law_2014 : decode cL_law 2014 = .ok (.aload_n 1, 1) := dk_43 (dk_at dksL_law_78 3 rfl rfl)
theorem dL_law_2015 : decode cL_law 2015 = .ok (.aload_n 0, 1) := dk_42 (dk_at dksL_law_78 4 rfl rfl)
theorem dL_law_2016 : decode cL_law 2016 = .ok (.iload 5, 2) := dk_21 5 (dk_at dksL_law_78 5 rfl rfl)
theorem dL_law_2018 : decode cL_law 2018 = .ok (.iconst 1, 1) := dk_4 (dk_at dksL_law_78 7 rfl rfl)
theorem dL_law_2019 : decode cL_law 2019 = .ok (.iadd, 1) := dk_96 (dk_at dksL_law_78 8 rfl rfl)
theorem dL_law_2020 : decode cL_law 2020 = .ok (.iaload, 1) := dk_46 (dk_at dksL_law_78 9 rfl rfl)
theorem dL_law_2021 : decode cL_law 2021 = .ok (.aload_n 3, 1) := dk_45 (dk_at dksL_law_78 10 rfl rfl)
theorem dL_law_2022 : decode cL_law 2022 = .ok (.invokestatic 268, 3) := dk_184 1 12 (dk_at dksL_law_78 11 rfl rfl)
theorem dL_law_2025 : decode cL_law 2025 = .ok (.istore 6, 2) := dk_54 6 (dk_at dksL_law_78 14 rfl rfl)
theorem dL_law_2027 : decode cL_law 2027 = .ok (.aload_n 2, 1) := dk_44 (dk_at dksL_law_78 16 rfl rfl)
theorem dL_law_2028 : decode cL_law 2028 = .ok (.aload_n 0, 1) := dk_42 (dk_at dksL_law_78 17 rfl rfl)
theorem dL_law_2029 : decode cL_law 2029 = .ok (.iload 5, 2) := dk_21 5 (dk_at dksL_law_78 18 rfl rfl)
theorem dL_law_2031 : decode cL_law 2031 = .ok (.iconst 1, 1) := dk_4 (dk_at dksL_law_78 20 rfl rfl)
theorem dL_law_2032 : decode cL_law 2032 = .ok (.iadd, 1) := dk_96 (dk_at dksL_law_78 21 rfl rfl)
theorem dL_law_2033 : decode cL_law 2033 = .ok (.iaload, 1) := dk_46 (dk_at dksL_law_78 22 rfl rfl)
theorem dL_law_2034 : decode cL_law 2034 = .ok (.invokevirtual 270, 3) := dk_182 1 14 (dk_at dksL_law_79 0 rfl rfl)
theorem dL_law_2037 : decode cL_law 2037 = .ok (.istore 7, 2) := dk_54 7 (dk_at dksL_law_79 3 rfl rfl)
theorem dL_law_2039 : decode cL_law 2039 = .ok (.aload_n 2, 1) := dk_44 (dk_at dksL_law_79 5 rfl rfl)
theorem dL_law_2040 : decode cL_law 2040 = .ok (.invokevirtual 172, 3) := dk_182 0 172 (dk_at dksL_law_79 6 rfl rfl)
theorem dL_law_2043 : decode cL_law 2043 = .ok (.iload 6, 2) := dk_21 6 (dk_at dksL_law_79 9 rfl rfl)
theorem dL_law_2045 : decode cL_law 2045 = .ok (.if_icmp .eq 5, 3) := dk_159 0 5 (dk_at dksL_law_79 11 rfl rfl)
theorem dL_law_2048 : decode cL_law 2048 = .ok (.iconst 0, 1) := dk_3 (dk_at dksL_law_79 14 rfl rfl)
theorem dL_law_2049 : decode cL_law 2049 = .ok (.ireturn, 1) := dk_172 (dk_at dksL_law_79 15 rfl rfl)
theorem dL_law_2050 : decode cL_law 2050 = .ok (.iload 6, 2) := dk_21 6 (dk_at dksL_law_79 16 rfl rfl)
theorem dL_law_2052 : decode cL_law 2052 = .ok (.ifCond .ne 15, 3) := dk_154 0 15 (dk_at dksL_law_79 18 rfl rfl)
theorem dL_law_2055 : decode cL_law 2055 = .ok (.aload_n 3, 1) := dk_45 (dk_at dksL_law_79 21 rfl rfl)
theorem dL_law_2056 : decode cL_law 2056 = .ok (.iconst 0, 1) := dk_3 (dk_at dksL_law_79 22 rfl rfl)
theorem dL_law_2057 : decode cL_law 2057 = .ok (.laload, 1) := dk_47 (dk_at dksL_law_79 23 rfl rfl)
theorem dL_law_2058 : decode cL_law 2058 = .ok (.iload 7, 2) := dk_21 7 (dk_at dksL_law_80 0 rfl rfl)
theorem dL_law_2060 : decode cL_law 2060 = .ok (.i2l, 1) := dk_133 (dk_at dksL_law_80 2 rfl rfl)
theorem dL_law_2061 : decode cL_law 2061 = .ok (.lcmp, 1) := dk_148 (dk_at dksL_law_80 3 rfl rfl)
theorem dL_law_2062 : decode cL_law 2062 = .ok (.ifCond .eq 5, 3) := dk_153 0 5 (dk_at dksL_law_80 4 rfl rfl)
theorem dL_law_2065 : decode cL_law 2065 = .ok (.iconst 0, 1) := dk_3 (dk_at dksL_law_80 7 rfl rfl)
theorem dL_law_2066 : decode cL_law 2066 = .ok (.ireturn, 1) := dk_172 (dk_at dksL_law_80 8 rfl rfl)
theorem dL_law_2067 : decode cL_law 2067 = .ok (.goto 1156, 3) := dk_167 4 132 (dk_at dksL_law_80 9 rfl rfl)
theorem dL_law_2070 : decode cL_law 2070 = .ok (.aload_n 1, 1) := dk_43 (dk_at dksL_law_80 12 rfl rfl)
theorem dL_law_2071 : decode cL_law 2071 = .ok (.aload_n 0, 1) := dk_42 (dk_at dksL_law_80 13 rfl rfl)
theorem dL_law_2072 : decode cL_law 2072 = .ok (.iload 5, 2) := dk_21 5 (dk_at dksL_law_80 14 rfl rfl)
theorem dL_law_2074 : decode cL_law 2074 = .ok (.iconst 1, 1) := dk_4 (dk_at dksL_law_80 16 rfl rfl)
theorem dL_law_2075 : decode cL_law 2075 = .ok (.iadd, 1) := dk_96 (dk_at dksL_law_80 17 rfl rfl)
theorem dL_law_2076 : decode cL_law 2076 = .ok (.iaload, 1) := dk_46 (dk_at dksL_law_80 18 rfl rfl)
theorem dL_law_2077 : decode cL_law 2077 = .ok (.aload_n 0, 1) := dk_42 (dk_at dksL_law_80 19 rfl rfl)
theorem dL_law_2078 : decode cL_law 2078 = .ok (.iload 5, 2) := dk_21 5 (dk_at dksL_law_80 20 rfl rfl)
theorem dL_law_2080 : decode cL_law 2080 = .ok (.iconst 2, 1) := dk_5 (dk_at dksL_law_80 22 rfl rfl)
theorem dL_law_2081 : decode cL_law 2081 = .ok (.iadd, 1) := dk_96 (dk_at dksL_law_80 23 rfl rfl)
theorem dL_law_2082 : decode cL_law 2082 = .ok (.iaload, 1) := dk_46 (dk_at dksL_law_81 0 rfl rfl)
theorem dL_law_2083 : decode cL_law 2083 = .ok (.aload_n 3, 1) := dk_45 (dk_at dksL_law_81 1 rfl rfl)
theorem dL_law_2084 : decode cL_law 2084 = .ok (.invokestatic 271, 3) := dk_184 1 15 (dk_at dksL_law_81 2 rfl rfl)
theorem dL_law_2087 : decode cL_law 2087 = .ok (.istore 6, 2) := dk_54 6 (dk_at dksL_law_81 5 rfl rfl)
theorem dL_law_2089 : decode cL_law 2089 = .ok (.aload_n 2, 1) := dk_44 (dk_at dksL_law_81 7 rfl rfl)
theorem dL_law_2090 : decode cL_law 2090 = .ok (.aload_n 0, 1) := dk_42 (dk_at dksL_law_81 8 rfl rfl)
theorem dL_law_2091 : decode cL_law 2091 = .ok (.iload 5, 2) := dk_21 5 (dk_at dksL_law_81 9 rfl rfl)
theorem dL_law_2093 : decode cL_law 2093 = .ok (.iconst 1, 1) := dk_4 (dk_at dksL_law_81 11 rfl rfl)
theorem dL_law_2094 : decode cL_law 2094 = .ok (.iadd, 1) := dk_96 (dk_at dksL_law_81 12 rfl rfl)
theorem dL_law_2095 : decode cL_law 2095 = .ok (.iaload, 1) := dk_46 (dk_at dksL_law_81 13 rfl rfl)
theorem dL_law_2096 : decode cL_law 2096 = .ok (.aload_n 0, 1) := dk_42 (dk_at dksL_law_81 14 rfl rfl)
theorem dL_law_2097 : decode cL_law 2097 = .ok (.iload 5, 2) := dk_21 5 (dk_at dksL_law_81 15 rfl rfl)
theorem dL_law_2099 : decode cL_law 2099 = .ok (.iconst 2, 1) := dk_5 (dk_at dksL_law_81 17 rfl rfl)
theorem dL_law_2100 : decode cL_law 2100 = .ok (.iadd, 1) := dk_96 (dk_at dksL_law_81 18 rfl rfl)
theorem dL_law_2101 : decode cL_law 2101 = .ok (.iaload, 1) := dk_46 (dk_at dksL_law_81 19 rfl rfl)
theorem dL_law_2102 : decode cL_law 2102 = .ok (.invokevirtual 273, 3) := dk_182 1 17 (dk_at dksL_law_81 20 rfl rfl)
theorem dL_law_2105 : decode cL_law 2105 = .ok (.istore 7, 2) := dk_54 7 (dk_at dksL_law_82 0 rfl rfl)
theorem dL_law_2107 : decode cL_law 2107 = .ok (.aload_n 2, 1) := dk_44 (dk_at dksL_law_82 2 rfl rfl)
theorem dL_law_2108 : decode cL_law 2108 = .ok (.invokevirtual 172, 3) := dk_182 0 172 (dk_at dksL_law_82 3 rfl rfl)
theorem dL_law_2111 : decode cL_law 2111 = .ok (.iload 6, 2) := dk_21 6 (dk_at dksL_law_82 6 rfl rfl)
theorem dL_law_2113 : decode cL_law 2113 = .ok (.if_icmp .eq 5, 3) := dk_159 0 5 (dk_at dksL_law_82 8 rfl rfl)
theorem dL_law_2116 : decode cL_law 2116 = .ok (.iconst 0, 1) := dk_3 (dk_at dksL_law_82 11 rfl rfl)
theorem dL_law_2117 : decode cL_law 2117 = .ok (.ireturn, 1) := dk_172 (dk_at dksL_law_82 12 rfl rfl)
theorem dL_law_2118 : decode cL_law 2118 = .ok (.iload 6, 2) := dk_21 6 (dk_at dksL_law_82 13 rfl rfl)
theorem dL_law_2120 : decode cL_law 2120 = .ok (.ifCond .ne 15, 3) := dk_154 0 15 (dk_at dksL_law_82 15 rfl rfl)
theorem dL_law_2123 : decode cL_law 2123 = .ok (.aload_n 3, 1) := dk_45 (dk_at dksL_law_82 18 rfl rfl)
theorem dL_law_2124 : decode cL_law 2124 = .ok (.iconst 0, 1) := dk_3 (dk_at dksL_law_82 19 rfl rfl)
theorem dL_law_2125 : decode cL_law 2125 = .ok (.laload, 1) := dk_47 (dk_at dksL_law_82 20 rfl rfl)
theorem dL_law_2126 : decode cL_law 2126 = .ok (.iload 7, 2) := dk_21 7 (dk_at dksL_law_82 21 rfl rfl)
theorem dL_law_2128 : decode cL_law 2128 = .ok (.i2l, 1) := dk_133 (dk_at dksL_law_82 23 rfl rfl)
theorem dL_law_2129 : decode cL_law 2129 = .ok (.lcmp, 1) := dk_148 (dk_at dksL_law_83 0 rfl rfl)
theorem dL_law_2130 : decode cL_law 2130 = .ok (.ifCond .eq 5, 3) := dk_153 0 5 (dk_at dksL_law_83 1 rfl rfl)
theorem dL_law_2133 : decode cL_law 2133 = .ok (.iconst 0, 1) := dk_3 (dk_at dksL_law_83 4 rfl rfl)
theorem dL_law_2134 : decode cL_law 2134 = .ok (.ireturn, 1) := dk_172 (dk_at dksL_law_83 5 rfl rfl)
theorem dL_law_2135 : decode cL_law 2135 = .ok (.goto 1088, 3) := dk_167 4 64 (dk_at dksL_law_83 6 rfl rfl)
theorem dL_law_2138 : decode cL_law 2138 = .ok (.aload_n 1, 1) := dk_43 (dk_at dksL_law_83 9 rfl rfl)
theorem dL_law_2139 : decode cL_law 2139 = .ok (.aload_n 0, 1) := dk_42 (dk_at dksL_law_83 10 rfl rfl)
theorem dL_law_2140 : decode cL_law 2140 = .ok (.iload 5, 2) := dk_21 5 (dk_at dksL_law_83 11 rfl rfl)
theorem dL_law_2142 : decode cL_law 2142 = .ok (.iconst 1, 1) := dk_4 (dk_at dksL_law_83 13 rfl rfl)
theorem dL_law_2143 : decode cL_law 2143 = .ok (.iadd, 1) := dk_96 (dk_at dksL_law_83 14 rfl rfl)
theorem dL_law_2144 : decode cL_law 2144 = .ok (.iaload, 1) := dk_46 (dk_at dksL_law_83 15 rfl rfl)
theorem dL_law_2145 : decode cL_law 2145 = .ok (.aload_n 3, 1) := dk_45 (dk_at dksL_law_83 16 rfl rfl)
theorem dL_law_2146 : decode cL_law 2146 = .ok (.invokestatic 274, 3) := dk_184 1 18 (dk_at dksL_law_83 17 rfl rfl)
theorem dL_law_2149 : decode cL_law 2149 = .ok (.istore 6, 2) := dk_54 6 (dk_at dksL_law_83 20 rfl rfl)
theorem dL_law_2151 : decode cL_law 2151 = .ok (.aload_n 2, 1) := dk_44 (dk_at dksL_law_83 22 rfl rfl)
theorem dL_law_2152 : decode cL_law 2152 = .ok (.aload_n 0, 1) := dk_42 (dk_at dksL_law_83 23 rfl rfl)
theorem dL_law_2153 : decode cL_law 2153 = .ok (.iload 5, 2) := dk_21 5 (dk_at dksL_law_84 0 rfl rfl)
theorem dL_law_2155 : decode cL_law 2155 = .ok (.iconst 1, 1) := dk_4 (dk_at dksL_law_84 2 rfl rfl)
theorem dL_law_2156 : decode cL_law 2156 = .ok (.iadd, 1) := dk_96 (dk_at dksL_law_84 3 rfl rfl)
theorem dL_law_2157 : decode cL_law 2157 = .ok (.iaload, 1) := dk_46 (dk_at dksL_law_84 4 rfl rfl)
theorem dL_law_2158 : decode cL_law 2158 = .ok (.invokevirtual 276, 3) := dk_182 1 20 (dk_at dksL_law_84 5 rfl rfl)
theorem dL_law_2161 : decode cL_law 2161 = .ok (.istore 7, 2) := dk_54 7 (dk_at dksL_law_84 8 rfl rfl)
theorem dL_law_2163 : decode cL_law 2163 = .ok (.aload_n 2, 1) := dk_44 (dk_at dksL_law_84 10 rfl rfl)
theorem dL_law_2164 : decode cL_law 2164 = .ok (.invokevirtual 172, 3) := dk_182 0 172 (dk_at dksL_law_84 11 rfl rfl)
theorem dL_law_2167 : decode cL_law 2167 = .ok (.iload 6, 2) := dk_21 6 (dk_at dksL_law_84 14 rfl rfl)
theorem dL_law_2169 : decode cL_law 2169 = .ok (.if_icmp .eq 5, 3) := dk_159 0 5 (dk_at dksL_law_84 16 rfl rfl)
theorem dL_law_2172 : decode cL_law 2172 = .ok (.iconst 0, 1) := dk_3 (dk_at dksL_law_84 19 rfl rfl)
theorem dL_law_2173 : decode cL_law 2173 = .ok (.ireturn, 1) := dk_172 (dk_at dksL_law_84 20 rfl rfl)
theorem dL_law_2174 : decode cL_law 2174 = .ok (.iload 6, 2) := dk_21 6 (dk_at dksL_law_84 21 rfl rfl)
theorem dL_law_2176 : decode cL_law 2176 = .ok (.ifCond .ne 15, 3) := dk_154 0 15 (dk_at dksL_law_85 0 rfl rfl)
theorem dL_law_2179 : decode cL_law 2179 = .ok (.aload_n 3, 1) := dk_45 (dk_at dksL_law_85 3 rfl rfl)
theorem dL_law_2180 : decode cL_law 2180 = .ok (.iconst 0, 1) := dk_3 (dk_at dksL_law_85 4 rfl rfl)
theorem dL_law_2181 : decode cL_law 2181 = .ok (.laload, 1) := dk_47 (dk_at dksL_law_85 5 rfl rfl)
theorem dL_law_2182 : decode cL_law 2182 = .ok (.iload 7, 2) := dk_21 7 (dk_at dksL_law_85 6 rfl rfl)
theorem dL_law_2184 : decode cL_law 2184 = .ok (.i2l, 1) := dk_133 (dk_at dksL_law_85 8 rfl rfl)
theorem dL_law_2185 : decode cL_law 2185 = .ok (.lcmp, 1) := dk_148 (dk_at dksL_law_85 9 rfl rfl)
theorem dL_law_2186 : decode cL_law 2186 = .ok (.ifCond .eq 5, 3) := dk_153 0 5 (dk_at dksL_law_85 10 rfl rfl)
theorem dL_law_2189 : decode cL_law 2189 = .ok (.iconst 0, 1) := dk_3 (dk_at dksL_law_85 13 rfl rfl)
theorem dL_law_2190 : decode cL_law 2190 = .ok (.ireturn, 1) := dk_172 (dk_at dksL_law_85 14 rfl rfl)
theorem dL_law_2191 : decode cL_law 2191 = .ok (.goto 1032, 3) := dk_167 4 8 (dk_at dksL_law_85 15 rfl rfl)
theorem dL_law_2194 : decode cL_law 2194 = .ok (.aload_n 1, 1) := dk_43 (dk_at dksL_law_85 18 rfl rfl)
theorem dL_law_2195 : decode cL_law 2195 = .ok (.aload_n 0, 1) := dk_42 (dk_at dksL_law_85 19 rfl rfl)
theorem dL_law_2196 : decode cL_law 2196 = .ok (.iload 5, 2) := dk_21 5 (dk_at dksL_law_85 20 rfl rfl)
theorem dL_law_2198 : decode cL_law 2198 = .ok (.iconst 1, 1) := dk_4 (dk_at dksL_law_85 22 rfl rfl)
theorem dL_law_2199 : decode cL_law 2199 = .ok (.iadd, 1) := dk_96 (dk_at dksL_law_85 23 rfl rfl)
theorem dL_law_2200 : decode cL_law 2200 = .ok (.iaload, 1) := dk_46 (dk_at dksL_law_86 0 rfl rfl)
theorem dL_law_2201 : decode cL_law 2201 = .ok (.aload_n 0, 1) := dk_42 (dk_at dksL_law_86 1 rfl rfl)
theorem dL_law_2202 : decode cL_law 2202 = .ok (.iload 5, 2) := dk_21 5 (dk_at dksL_law_86 2 rfl rfl)
theorem dL_law_2204 : decode cL_law 2204 = .ok (.iconst 2, 1) := dk_5 (dk_at dksL_law_86 4 rfl rfl)
theorem dL_law_2205 : decode cL_law 2205 = .ok (.iadd, 1) := dk_96 (dk_at dksL_law_86 5 rfl rfl)
theorem dL_law_2206 : decode cL_law 2206 = .ok (.iaload, 1) := dk_46 (dk_at dksL_law_86 6 rfl rfl)
theorem dL_law_2207 : decode cL_law 2207 = .ok (.aload_n 3, 1) := dk_45 (dk_at dksL_law_86 7 rfl rfl)
theorem dL_law_2208 : decode cL_law 2208 = .ok (.invokestatic 277, 3) := dk_184 1 21 (dk_at dksL_law_86 8 rfl rfl)
theorem dL_law_2211 : decode cL_law 2211 = .ok (.istore 6, 2) := dk_54 6 (dk_at dksL_law_86 11 rfl rfl)
theorem dL_law_2213 : decode cL_law 2213 = .ok (.aload_n 2, 1) := dk_44 (dk_at dksL_law_86 13 rfl rfl)
theorem dL_law_2214 : decode cL_law 2214 = .ok (.aload_n 0, 1) := dk_42 (dk_at dksL_law_86 14 rfl rfl)
theorem dL_law_2215 : decode cL_law 2215 = .ok (.iload 5, 2) := dk_21 5 (dk_at dksL_law_86 15 rfl rfl)
theorem dL_law_2217 : decode cL_law 2217 = .ok (.iconst 1, 1) := dk_4 (dk_at dksL_law_86 17 rfl rfl)
theorem dL_law_2218 : decode cL_law 2218 = .ok (.iadd, 1) := dk_96 (dk_at dksL_law_86 18 rfl rfl)
theorem dL_law_2219 : decode cL_law 2219 = .ok (.iaload, 1) := dk_46 (dk_at dksL_law_86 19 rfl rfl)
theorem dL_law_2220 : decode cL_law 2220 = .ok (.aload_n 0, 1) := dk_42 (dk_at dksL_law_86 20 rfl rfl)
theorem dL_law_2221 : decode cL_law 2221 = .ok (.iload 5, 2) := dk_21 5 (dk_at dksL_law_86 21 rfl rfl)
theorem dL_law_2223 : decode cL_law 2223 = .ok (.iconst 2, 1) := dk_5 (dk_at dksL_law_86 23 rfl rfl)
theorem dL_law_2224 : decode cL_law 2224 = .ok (.iadd, 1) := dk_96 (dk_at dksL_law_87 0 rfl rfl)
theorem dL_law_2225 : decode cL_law 2225 = .ok (.iaload, 1) := dk_46 (dk_at dksL_law_87 1 rfl rfl)
theorem dL_law_2226 : decode cL_law 2226 = .ok (.invokevirtual 279, 3) := dk_182 1 23 (dk_at dksL_law_87 2 rfl rfl)
theorem dL_law_2229 : decode cL_law 2229 = .ok (.istore 7, 2) := dk_54 7 (dk_at dksL_law_87 5 rfl rfl)
theorem dL_law_2231 : decode cL_law 2231 = .ok (.aload_n 2, 1) := dk_44 (dk_at dksL_law_87 7 rfl rfl)
theorem dL_law_2232 : decode cL_law 2232 = .ok (.invokevirtual 172, 3) := dk_182 0 172 (dk_at dksL_law_87 8 rfl rfl)
theorem dL_law_2235 : decode cL_law 2235 = .ok (.iload 6, 2) := dk_21 6 (dk_at dksL_law_87 11 rfl rfl)
theorem dL_law_2237 : decode cL_law 2237 = .ok (.if_icmp .eq 5, 3) := dk_159 0 5 (dk_at dksL_law_87 13 rfl rfl)
theorem dL_law_2240 : decode cL_law 2240 = .ok (.iconst 0, 1) := dk_3 (dk_at dksL_law_87 16 rfl rfl)
theorem dL_law_2241 : decode cL_law 2241 = .ok (.ireturn, 1) := dk_172 (dk_at dksL_law_87 17 rfl rfl)
theorem dL_law_2242 : decode cL_law 2242 = .ok (.iload 6, 2) := dk_21 6 (dk_at dksL_law_87 18 rfl rfl)
theorem dL_law_2244 : decode cL_law 2244 = .ok (.ifCond .ne 15, 3) := dk_154 0 15 (dk_at dksL_law_87 20 rfl rfl)
theorem dL_law_2247 : decode cL_law 2247 = .ok (.aload_n 3, 1) := dk_45 (dk_at dksL_law_87 23 rfl rfl)
theorem dL_law_2248 : decode cL_law 2248 = .ok (.iconst 0, 1) := dk_3 (dk_at dksL_law_88 0 rfl rfl)
theorem dL_law_2249 : decode cL_law 2249 = .ok (.laload, 1) := dk_47 (dk_at dksL_law_88 1 rfl rfl)
theorem dL_law_2250 : decode cL_law 2250 = .ok (.iload 7, 2) := dk_21 7 (dk_at dksL_law_88 2 rfl rfl)
theorem dL_law_2252 : decode cL_law 2252 = .ok (.i2l, 1) := dk_133 (dk_at dksL_law_88 4 rfl rfl)
theorem dL_law_2253 : decode cL_law 2253 = .ok (.lcmp, 1) := dk_148 (dk_at dksL_law_88 5 rfl rfl)
theorem dL_law_2254 : decode cL_law 2254 = .ok (.ifCond .eq 5, 3) := dk_153 0 5 (dk_at dksL_law_88 6 rfl rfl)
theorem dL_law_2257 : decode cL_law 2257 = .ok (.iconst 0, 1) := dk_3 (dk_at dksL_law_88 9 rfl rfl)
theorem dL_law_2258 : decode cL_law 2258 = .ok (.ireturn, 1) := dk_172 (dk_at dksL_law_88 10 rfl rfl)
theorem dL_law_2259 : decode cL_law 2259 = .ok (.goto 964, 3) := dk_167 3 196 (dk_at dksL_law_88 11 rfl rfl)
theorem dL_law_2262 : decode cL_law 2262 = .ok (.aload_n 1, 1) := dk_43 (dk_at dksL_law_88 14 rfl rfl)
theorem dL_law_2263 : decode cL_law 2263 = .ok (.aload_n 0, 1) := dk_42 (dk_at dksL_law_88 15 rfl rfl)
theorem dL_law_2264 : decode cL_law 2264 = .ok (.iload 5, 2) := dk_21 5 (dk_at dksL_law_88 16 rfl rfl)
theorem dL_law_2266 : decode cL_law 2266 = .ok (.iconst 1, 1) := dk_4 (dk_at dksL_law_88 18 rfl rfl)
theorem dL_law_2267 : decode cL_law 2267 = .ok (.iadd, 1) := dk_96 (dk_at dksL_law_88 19 rfl rfl)
theorem dL_law_2268 : decode cL_law 2268 = .ok (.iaload, 1) := dk_46 (dk_at dksL_law_88 20 rfl rfl)
theorem dL_law_2269 : decode cL_law 2269 = .ok (.aload_n 0, 1) := dk_42 (dk_at dksL_law_88 21 rfl rfl)
theorem dL_law_2270 : decode cL_law 2270 = .ok (.iload 5, 2) := dk_21 5 (dk_at dksL_law_88 22 rfl rfl)
theorem dL_law_2272 : decode cL_law 2272 = .ok (.iconst 2, 1) := dk_5 (dk_at dksL_law_89 0 rfl rfl)
theorem dL_law_2273 : decode cL_law 2273 = .ok (.iadd, 1) := dk_96 (dk_at dksL_law_89 1 rfl rfl)
theorem dL_law_2274 : decode cL_law 2274 = .ok (.iaload, 1) := dk_46 (dk_at dksL_law_89 2 rfl rfl)
theorem dL_law_2275 : decode cL_law 2275 = .ok (.aload_n 3, 1) := dk_45 (dk_at dksL_law_89 3 rfl rfl)
theorem dL_law_2276 : decode cL_law 2276 = .ok (.invokestatic 280, 3) := dk_184 1 24 (dk_at dksL_law_89 4 rfl rfl)
theorem dL_law_2279 : decode cL_law 2279 = .ok (.istore 6, 2) := dk_54 6 (dk_at dksL_law_89 7 rfl rfl)
theorem dL_law_2281 : decode cL_law 2281 = .ok (.aload_n 2, 1) := dk_44 (dk_at dksL_law_89 9 rfl rfl)
theorem dL_law_2282 : decode cL_law 2282 = .ok (.aload_n 0, 1) := dk_42 (dk_at dksL_law_89 10 rfl rfl)
theorem dL_law_2283 : decode cL_law 2283 = .ok (.iload 5, 2) := dk_21 5 (dk_at dksL_law_89 11 rfl rfl)
theorem dL_law_2285 : decode cL_law 2285 = .ok (.iconst 1, 1) := dk_4 (dk_at dksL_law_89 13 rfl rfl)
theorem dL_law_2286 : decode cL_law 2286 = .ok (.iadd, 1) := dk_96 (dk_at dksL_law_89 14 rfl rfl)
theorem dL_law_2287 : decode cL_law 2287 = .ok (.iaload, 1) := dk_46 (dk_at dksL_law_89 15 rfl rfl)
theorem dL_law_2288 : decode cL_law 2288 = .ok (.aload_n 0, 1) := dk_42 (dk_at dksL_law_89 16 rfl rfl)
theorem dL_law_2289 : decode cL_law 2289 = .ok (.iload 5, 2) := dk_21 5 (dk_at dksL_law_89 17 rfl rfl)
theorem dL_law_2291 : decode cL_law 2291 = .ok (.iconst 2, 1) := dk_5 (dk_at dksL_law_89 19 rfl rfl)
theorem dL_law_2292 : decode cL_law 2292 = .ok (.iadd, 1) := dk_96 (dk_at dksL_law_89 20 rfl rfl)
theorem dL_law_2293 : decode cL_law 2293 = .ok (.iaload, 1) := dk_46 (dk_at dksL_law_89 21 rfl rfl)
theorem dL_law_2294 : decode cL_law 2294 = .ok (.invokevirtual 282, 3) := dk_182 1 26 (dk_at dksL_law_90 0 rfl rfl)
theorem dL_law_2297 : decode cL_law 2297 = .ok (.istore 7, 2) := dk_54 7 (dk_at dksL_law_90 3 rfl rfl)
theorem dL_law_2299 : decode cL_law 2299 = .ok (.aload_n 2, 1) := dk_44 (dk_at dksL_law_90 5 rfl rfl)
theorem dL_law_2300 : decode cL_law 2300 = .ok (.invokevirtual 172, 3) := dk_182 0 172 (dk_at dksL_law_90 6 rfl rfl)
theorem dL_law_2303 : decode cL_law 2303 = .ok (.iload 6, 2) := dk_21 6 (dk_at dksL_law_90 9 rfl rfl)
theorem dL_law_2305 : decode cL_law 2305 = .ok (.if_icmp .eq 5, 3) := dk_159 0 5 (dk_at dksL_law_90 11 rfl rfl)
theorem dL_law_2308 : decode cL_law 2308 = .ok (.iconst 0, 1) := dk_3 (dk_at dksL_law_90 14 rfl rfl)
theorem dL_law_2309 : decode cL_law 2309 = .ok (.ireturn, 1) := dk_172 (dk_at dksL_law_90 15 rfl rfl)
theorem dL_law_2310 : decode cL_law 2310 = .ok (.iload 6, 2) := dk_21 6 (dk_at dksL_law_90 16 rfl rfl)
theorem dL_law_2312 : decode cL_law 2312 = .ok (.ifCond .ne 15, 3) := dk_154 0 15 (dk_at dksL_law_90 18 rfl rfl)
theorem dL_law_2315 : decode cL_law 2315 = .ok (.aload_n 3, 1) := dk_45 (dk_at dksL_law_90 21 rfl rfl)
theorem dL_law_2316 : decode cL_law 2316 = .ok (.iconst 0, 1) := dk_3 (dk_at dksL_law_90 22 rfl rfl)
theorem dL_law_2317 : decode cL_law 2317 = .ok (.laload, 1) := dk_47 (dk_at dksL_law_90 23 rfl rfl)
theorem dL_law_2318 : decode cL_law 2318 = .ok (.iload 7, 2) := dk_21 7 (dk_at dksL_law_91 0 rfl rfl)
theorem dL_law_2320 : decode cL_law 2320 = .ok (.i2l, 1) := dk_133 (dk_at dksL_law_91 2 rfl rfl)
theorem dL_law_2321 : decode cL_law 2321 = .ok (.lcmp, 1) := dk_148 (dk_at dksL_law_91 3 rfl rfl)
theorem dL_law_2322 : decode cL_law 2322 = .ok (.ifCond .eq 5, 3) := dk_153 0 5 (dk_at dksL_law_91 4 rfl rfl)
theorem dL_law_2325 : decode cL_law 2325 = .ok (.iconst 0, 1) := dk_3 (dk_at dksL_law_91 7 rfl rfl)
theorem dL_law_2326 : decode cL_law 2326 = .ok (.ireturn, 1) := dk_172 (dk_at dksL_law_91 8 rfl rfl)
theorem dL_law_2327 : decode cL_law 2327 = .ok (.goto 896, 3) := dk_167 3 128 (dk_at dksL_law_91 9 rfl rfl)
theorem dL_law_2330 : decode cL_law 2330 = .ok (.aload_n 1, 1) := dk_43 (dk_at dksL_law_91 12 rfl rfl)
theorem dL_law_2331 : decode cL_law 2331 = .ok (.aload_n 0, 1) := dk_42 (dk_at dksL_law_91 13 rfl rfl)
theorem dL_law_2332 : decode cL_law 2332 = .ok (.iload 5, 2) := dk_21 5 (dk_at dksL_law_91 14 rfl rfl)
theorem dL_law_2334 : decode cL_law 2334 = .ok (.iconst 1, 1) := dk_4 (dk_at dksL_law_91 16 rfl rfl)
theorem dL_law_2335 : decode cL_law 2335 = .ok (.iadd, 1) := dk_96 (dk_at dksL_law_91 17 rfl rfl)
theorem dL_law_2336 : decode cL_law 2336 = .ok (.iaload, 1) := dk_46 (dk_at dksL_law_91 18 rfl rfl)
theorem dL_law_2337 : decode cL_law 2337 = .ok (.aload_n 3, 1) := dk_45 (dk_at dksL_law_91 19 rfl rfl)
theorem dL_law_2338 : decode cL_law 2338 = .ok (.invokestatic 283, 3) := dk_184 1 27 (dk_at dksL_law_91 20 rfl rfl)
theorem dL_law_2341 : decode cL_law 2341 = .ok (.istore 6, 2) := dk_54 6 (dk_at dksL_law_92 0 rfl rfl)
theorem dL_law_2343 : decode cL_law 2343 = .ok (.aload_n 2, 1) := dk_44 (dk_at dksL_law_92 2 rfl rfl)
theorem dL_law_2344 : decode cL_law 2344 = .ok (.aload_n 0, 1) := dk_42 (dk_at dksL_law_92 3 rfl rfl)
theorem dL_law_2345 : decode cL_law 2345 = .ok (.iload 5, 2) := dk_21 5 (dk_at dksL_law_92 4 rfl rfl)
theorem dL_law_2347 : decode cL_law 2347 = .ok (.iconst 1, 1) := dk_4 (dk_at dksL_law_92 6 rfl rfl)
theorem dL_law_2348 : decode cL_law 2348 = .ok (.iadd, 1) := dk_96 (dk_at dksL_law_92 7 rfl rfl)
theorem dL_law_2349 : decode cL_law 2349 = .ok (.iaload, 1) := dk_46 (dk_at dksL_law_92 8 rfl rfl)
theorem dL_law_2350 : decode cL_law 2350 = .ok (.invokevirtual 285, 3) := dk_182 1 29 (dk_at dksL_law_92 9 rfl rfl)
theorem dL_law_2353 : decode cL_law 2353 = .ok (.istore 7, 2) := dk_54 7 (dk_at dksL_law_92 12 rfl rfl)
theorem dL_law_2355 : decode cL_law 2355 = .ok (.aload_n 2, 1) := dk_44 (dk_at dksL_law_92 14 rfl rfl)
theorem dL_law_2356 : decode cL_law 2356 = .ok (.invokevirtual 172, 3) := dk_182 0 172 (dk_at dksL_law_92 15 rfl rfl)
theorem dL_law_2359 : decode cL_law 2359 = .ok (.iload 6, 2) := dk_21 6 (dk_at dksL_law_92 18 rfl rfl)
theorem dL_law_2361 : decode cL_law 2361 = .ok (.if_icmp .eq 5, 3) := dk_159 0 5 (dk_at dksL_law_92 20 rfl rfl)
theorem dL_law_2364 : decode cL_law 2364 = .ok (.iconst 0, 1) := dk_3 (dk_at dksL_law_92 23 rfl rfl)
theorem dL_law_2365 : decode cL_law 2365 = .ok (.ireturn, 1) := dk_172 (dk_at dksL_law_93 0 rfl rfl)
theorem dL_law_2366 : decode cL_law 2366 = .ok (.iload 6, 2) := dk_21 6 (dk_at dksL_law_93 1 rfl rfl)
theorem dL_law_2368 : decode cL_law 2368 = .ok (.ifCond .ne 15, 3) := dk_154 0 15 (dk_at dksL_law_93 3 rfl rfl)
theorem dL_law_2371 : decode cL_law 2371 = .ok (.aload_n 3, 1) := dk_45 (dk_at dksL_law_93 6 rfl rfl)
theorem dL_law_2372 : decode cL_law 2372 = .ok (.iconst 0, 1) := dk_3 (dk_at dksL_law_93 7 rfl rfl)
theorem dL_law_2373 : decode cL_law 2373 = .ok (.laload, 1) := dk_47 (dk_at dksL_law_93 8 rfl rfl)
theorem dL_law_2374 : decode cL_law 2374 = .ok (.iload 7, 2) := dk_21 7 (dk_at dksL_law_93 9 rfl rfl)
theorem dL_law_2376 : decode cL_law 2376 = .ok (.i2l, 1) := dk_133 (dk_at dksL_law_93 11 rfl rfl)
theorem dL_law_2377 : decode cL_law 2377 = .ok (.lcmp, 1) := dk_148 (dk_at dksL_law_93 12 rfl rfl)
theorem dL_law_2378 : decode cL_law 2378 = .ok (.ifCond .eq 5, 3) := dk_153 0 5 (dk_at dksL_law_93 13 rfl rfl)
theorem dL_law_2381 : decode cL_law 2381 = .ok (.iconst 0, 1) := dk_3 (dk_at dksL_law_93 16 rfl rfl)
theorem dL_law_2382 : decode cL_law 2382 = .ok (.ireturn, 1) := dk_172 (dk_at dksL_law_93 17 rfl rfl)
theorem dL_law_2383 : decode cL_law 2383 = .ok (.goto 840, 3) := dk_167 3 72 (dk_at dksL_law_93 18 rfl rfl)
theorem dL_law_2386 : decode cL_law 2386 = .ok (.aload_n 1, 1) := dk_43 (dk_at dksL_law_93 21 rfl rfl)
theorem dL_law_2387 : decode cL_law 2387 = .ok (.aload_n 0, 1) := dk_42 (dk_at dksL_law_93 22 rfl rfl)
theorem dL_law_2388 : decode cL_law 2388 = .ok (.iload 5, 2) := dk_21 5 (dk_at dksL_law_94 0 rfl rfl)
theorem dL_law_2390 : decode cL_law 2390 = .ok (.iconst 1, 1) := dk_4 (dk_at dksL_law_94 2 rfl rfl)
theorem dL_law_2391 : decode cL_law 2391 = .ok (.iadd, 1) := dk_96 (dk_at dksL_law_94 3 rfl rfl)
theorem dL_law_2392 : decode cL_law 2392 = .ok (.iaload, 1) := dk_46 (dk_at dksL_law_94 4 rfl rfl)
theorem dL_law_2393 : decode cL_law 2393 = .ok (.aload_n 3, 1) := dk_45 (dk_at dksL_law_94 5 rfl rfl)
theorem dL_law_2394 : decode cL_law 2394 = .ok (.invokestatic 286, 3) := dk_184 1 30 (dk_at dksL_law_94 6 rfl rfl)
theorem dL_law_2397 : decode cL_law 2397 = .ok (.istore 6, 2) := dk_54 6 (dk_at dksL_law_94 9 rfl rfl)
theorem dL_law_2399 : decode cL_law 2399 = .ok (.aload_n 2, 1) := dk_44 (dk_at dksL_law_94 11 rfl rfl)
theorem dL_law_2400 : decode cL_law 2400 = .ok (.aload_n 0, 1) := dk_42 (dk_at dksL_law_94 12 rfl rfl)
theorem dL_law_2401 : decode cL_law 2401 = .ok (.iload 5, 2) := dk_21 5 (dk_at dksL_law_94 13 rfl rfl)
theorem dL_law_2403 : decode cL_law 2403 = .ok (.iconst 1, 1) := dk_4 (dk_at dksL_law_94 15 rfl rfl)
theorem dL_law_2404 : decode cL_law 2404 = .ok (.iadd, 1) := dk_96 (dk_at dksL_law_94 16 rfl rfl)
theorem dL_law_2405 : decode cL_law 2405 = .ok (.iaload, 1) := dk_46 (dk_at dksL_law_94 17 rfl rfl)
theorem dL_law_2406 : decode cL_law 2406 = .ok (.invokevirtual 288, 3) := dk_182 1 32 (dk_at dksL_law_94 18 rfl rfl)
theorem dL_law_2409 : decode cL_law 2409 = .ok (.istore 7, 2) := dk_54 7 (dk_at dksL_law_94 21 rfl rfl)
theorem dL_law_2411 : decode cL_law 2411 = .ok (.aload_n 2, 1) := dk_44 (dk_at dksL_law_94 23 rfl rfl)
theorem dL_law_2412 : decode cL_law 2412 = .ok (.invokevirtual 172, 3) := dk_182 0 172 (dk_at dksL_law_95 0 rfl rfl)
theorem dL_law_2415 : decode cL_law 2415 = .ok (.iload 6, 2) := dk_21 6 (dk_at dksL_law_95 3 rfl rfl)
theorem dL_law_2417 : decode cL_law 2417 = .ok (.if_icmp .eq 5, 3) := dk_159 0 5 (dk_at dksL_law_95 5 rfl rfl)
theorem dL_law_2420 : decode cL_law 2420 = .ok (.iconst 0, 1) := dk_3 (dk_at dksL_law_95 8 rfl rfl)
theorem dL_law_2421 : decode cL_law 2421 = .ok (.ireturn, 1) := dk_172 (dk_at dksL_law_95 9 rfl rfl)
theorem dL_law_2422 : decode cL_law 2422 = .ok (.iload 6, 2) := dk_21 6 (dk_at dksL_law_95 10 rfl rfl)
theorem dL_law_2424 : decode cL_law 2424 = .ok (.ifCond .ne 15, 3) := dk_154 0 15 (dk_at dksL_law_95 12 rfl rfl)
theorem dL_law_2427 : decode cL_law 2427 = .ok (.aload_n 3, 1) := dk_45 (dk_at dksL_law_95 15 rfl rfl)
theorem dL_law_2428 : decode cL_law 2428 = .ok (.iconst 0, 1) := dk_3 (dk_at dksL_law_95 16 rfl rfl)
theorem dL_law_2429 : decode cL_law 2429 = .ok (.laload, 1) := dk_47 (dk_at dksL_law_95 17 rfl rfl)
theorem dL_law_2430 : decode cL_law 2430 = .ok (.iload 7, 2) := dk_21 7 (dk_at dksL_law_95 18 rfl rfl)
theorem dL_law_2432 : decode cL_law 2432 = .ok (.i2l, 1) := dk_133 (dk_at dksL_law_95 20 rfl rfl)
theorem dL_law_2433 : decode cL_law 2433 = .ok (.lcmp, 1) := dk_148 (dk_at dksL_law_95 21 rfl rfl)
theorem dL_law_2434 : decode cL_law 2434 = .ok (.ifCond .eq 5, 3) := dk_153 0 5 (dk_at dksL_law_96 0 rfl rfl)
theorem dL_law_2437 : decode cL_law 2437 = .ok (.iconst 0, 1) := dk_3 (dk_at dksL_law_96 3 rfl rfl)
theorem dL_law_2438 : decode cL_law 2438 = .ok (.ireturn, 1) := dk_172 (dk_at dksL_law_96 4 rfl rfl)
theorem dL_law_2439 : decode cL_law 2439 = .ok (.goto 784, 3) := dk_167 3 16 (dk_at dksL_law_96 5 rfl rfl)
theorem dL_law_2442 : decode cL_law 2442 = .ok (.aload_n 1, 1) := dk_43 (dk_at dksL_law_96 8 rfl rfl)
theorem dL_law_2443 : decode cL_law 2443 = .ok (.aload_n 0, 1) := dk_42 (dk_at dksL_law_96 9 rfl rfl)
theorem dL_law_2444 : decode cL_law 2444 = .ok (.iload 5, 2) := dk_21 5 (dk_at dksL_law_96 10 rfl rfl)
theorem dL_law_2446 : decode cL_law 2446 = .ok (.iconst 1, 1) := dk_4 (dk_at dksL_law_96 12 rfl rfl)
theorem dL_law_2447 : decode cL_law 2447 = .ok (.iadd, 1) := dk_96 (dk_at dksL_law_96 13 rfl rfl)
theorem dL_law_2448 : decode cL_law 2448 = .ok (.iaload, 1) := dk_46 (dk_at dksL_law_96 14 rfl rfl)
theorem dL_law_2449 : decode cL_law 2449 = .ok (.aload_n 3, 1) := dk_45 (dk_at dksL_law_96 15 rfl rfl)
theorem dL_law_2450 : decode cL_law 2450 = .ok (.invokestatic 289, 3) := dk_184 1 33 (dk_at dksL_law_96 16 rfl rfl)
theorem dL_law_2453 : decode cL_law 2453 = .ok (.istore 6, 2) := dk_54 6 (dk_at dksL_law_96 19 rfl rfl)
theorem dL_law_2455 : decode cL_law 2455 = .ok (.aload_n 2, 1) := dk_44 (dk_at dksL_law_96 21 rfl rfl)
theorem dL_law_2456 : decode cL_law 2456 = .ok (.aload_n 0, 1) := dk_42 (dk_at dksL_law_96 22 rfl rfl)
theorem dL_law_2457 : decode cL_law 2457 = .ok (.iload 5, 2) := dk_21 5 (dk_at dksL_law_97 0 rfl rfl)
theorem dL_law_2459 : decode cL_law 2459 = .ok (.iconst 1, 1) := dk_4 (dk_at dksL_law_97 2 rfl rfl)
theorem dL_law_2460 : decode cL_law 2460 = .ok (.iadd, 1) := dk_96 (dk_at dksL_law_97 3 rfl rfl)
theorem dL_law_2461 : decode cL_law 2461 = .ok (.iaload, 1) := dk_46 (dk_at dksL_law_97 4 rfl rfl)
theorem dL_law_2462 : decode cL_law 2462 = .ok (.invokevirtual 291, 3) := dk_182 1 35 (dk_at dksL_law_97 5 rfl rfl)
theorem dL_law_2465 : decode cL_law 2465 = .ok (.istore 7, 2) := dk_54 7 (dk_at dksL_law_97 8 rfl rfl)
theorem dL_law_2467 : decode cL_law 2467 = .ok (.aload_n 2, 1) := dk_44 (dk_at dksL_law_97 10 rfl rfl)
theorem dL_law_2468 : decode cL_law 2468 = .ok (.invokevirtual 172, 3) := dk_182 0 172 (dk_at dksL_law_97 11 rfl rfl)
theorem dL_law_2471 : decode cL_law 2471 = .ok (.iload 6, 2) := dk_21 6 (dk_at dksL_law_97 14 rfl rfl)
theorem dL_law_2473 : decode cL_law 2473 = .ok (.if_icmp .eq 5, 3) := dk_159 0 5 (dk_at dksL_law_97 16 rfl rfl)
theorem dL_law_2476 : decode cL_law 2476 = .ok (.iconst 0, 1) := dk_3 (dk_at dksL_law_97 19 rfl rfl)
theorem dL_law_2477 : decode cL_law 2477 = .ok (.ireturn, 1) := dk_172 (dk_at dksL_law_97 20 rfl rfl)
theorem dL_law_2478 : decode cL_law 2478 = .ok (.iload 6, 2) := dk_21 6 (dk_at dksL_law_97 21 rfl rfl)
theorem dL_law_2480 : decode cL_law 2480 = .ok (.ifCond .ne 15, 3) := dk_154 0 15 (dk_at dksL_law_98 0 rfl rfl)
theorem dL_law_2483 : decode cL_law 2483 = .ok (.aload_n 3, 1) := dk_45 (dk_at dksL_law_98 3 rfl rfl)
theorem dL_law_2484 : decode cL_law 2484 = .ok (.iconst 0, 1) := dk_3 (dk_at dksL_law_98 4 rfl rfl)
theorem dL_law_2485 : decode cL_law 2485 = .ok (.laload, 1) := dk_47 (dk_at dksL_law_98 5 rfl rfl)
theorem dL_law_2486 : decode cL_law 2486 = .ok (.iload 7, 2) := dk_21 7 (dk_at dksL_law_98 6 rfl rfl)
theorem dL_law_2488 : decode cL_law 2488 = .ok (.i2l, 1) := dk_133 (dk_at dksL_law_98 8 rfl rfl)
theorem dL_law_2489 : decode cL_law 2489 = .ok (.lcmp, 1) := dk_148 (dk_at dksL_law_98 9 rfl rfl)
theorem dL_law_2490 : decode cL_law 2490 = .ok (.ifCond .eq 5, 3) := dk_153 0 5 (dk_at dksL_law_98 10 rfl rfl)
theorem dL_law_2493 : decode cL_law 2493 = .ok (.iconst 0, 1) := dk_3 (dk_at dksL_law_98 13 rfl rfl)
theorem dL_law_2494 : decode cL_law 2494 = .ok (.ireturn, 1) := dk_172 (dk_at dksL_law_98 14 rfl rfl)
theorem dL_law_2495 : decode cL_law 2495 = .ok (.goto 728, 3) := dk_167 2 216 (dk_at dksL_law_98 15 rfl rfl)
theorem dL_law_2498 : decode cL_law 2498 = .ok (.aload_n 1, 1) := dk_43 (dk_at dksL_law_98 18 rfl rfl)
theorem dL_law_2499 : decode cL_law 2499 = .ok (.aload_n 0, 1) := dk_42 (dk_at dksL_law_98 19 rfl rfl)
theorem dL_law_2500 : decode cL_law 2500 = .ok (.iload 5, 2) := dk_21 5 (dk_at dksL_law_98 20 rfl rfl)
theorem dL_law_2502 : decode cL_law 2502 = .ok (.iconst 1, 1) := dk_4 (dk_at dksL_law_98 22 rfl rfl)
theorem dL_law_2503 : decode cL_law 2503 = .ok (.iadd, 1) := dk_96 (dk_at dksL_law_98 23 rfl rfl)
theorem dL_law_2504 : decode cL_law 2504 = .ok (.iaload, 1) := dk_46 (dk_at dksL_law_99 0 rfl rfl)
theorem dL_law_2505 : decode cL_law 2505 = .ok (.aload_n 3, 1) := dk_45 (dk_at dksL_law_99 1 rfl rfl)
theorem dL_law_2506 : decode cL_law 2506 = .ok (.invokestatic 292, 3) := dk_184 1 36 (dk_at dksL_law_99 2 rfl rfl)
theorem dL_law_2509 : decode cL_law 2509 = .ok (.istore 6, 2) := dk_54 6 (dk_at dksL_law_99 5 rfl rfl)
theorem dL_law_2511 : decode cL_law 2511 = .ok (.aload_n 2, 1) := dk_44 (dk_at dksL_law_99 7 rfl rfl)
theorem dL_law_2512 : decode cL_law 2512 = .ok (.aload_n 0, 1) := dk_42 (dk_at dksL_law_99 8 rfl rfl)
theorem dL_law_2513 : decode cL_law 2513 = .ok (.iload 5, 2) := dk_21 5 (dk_at dksL_law_99 9 rfl rfl)
theorem dL_law_2515 : decode cL_law 2515 = .ok (.iconst 1, 1) := dk_4 (dk_at dksL_law_99 11 rfl rfl)
theorem dL_law_2516 : decode cL_law 2516 = .ok (.iadd, 1) := dk_96 (dk_at dksL_law_99 12 rfl rfl)
theorem dL_law_2517 : decode cL_law 2517 = .ok (.iaload, 1) := dk_46 (dk_at dksL_law_99 13 rfl rfl)
theorem dL_law_2518 : decode cL_law 2518 = .ok (.invokevirtual 294, 3) := dk_182 1 38 (dk_at dksL_law_99 14 rfl rfl)
theorem dL_law_2521 : decode cL_law 2521 = .ok (.istore 7, 2) := dk_54 7 (dk_at dksL_law_99 17 rfl rfl)
theorem dL_law_2523 : decode cL_law 2523 = .ok (.aload_n 2, 1) := dk_44 (dk_at dksL_law_99 19 rfl rfl)
theorem dL_law_2524 : decode cL_law 2524 = .ok (.invokevirtual 172, 3) := dk_182 0 172 (dk_at dksL_law_99 20 rfl rfl)
theorem dL_law_2527 : decode cL_law 2527 = .ok (.iload 6, 2) := dk_21 6 (dk_at dksL_law_100 0 rfl rfl)
theorem dL_law_2529 : decode cL_law 2529 = .ok (.if_icmp .eq 5, 3) := dk_159 0 5 (dk_at dksL_law_100 2 rfl rfl)
theorem dL_law_2532 : decode cL_law 2532 = .ok (.iconst 0, 1) := dk_3 (dk_at dksL_law_100 5 rfl rfl)
theorem dL_law_2533 : decode cL_law 2533 = .ok (.ireturn, 1) := dk_172 (dk_at dksL_law_100 6 rfl rfl)
theorem dL_law_2534 : decode cL_law 2534 = .ok (.iload 6, 2) := dk_21 6 (dk_at dksL_law_100 7 rfl rfl)
theorem dL_law_2536 : decode cL_law 2536 = .ok (.ifCond .ne 15, 3) := dk_154 0 15 (dk_at dksL_law_100 9 rfl rfl)
theorem dL_law_2539 : decode cL_law 2539 = .ok (.aload_n 3, 1) := dk_45 (dk_at dksL_law_100 12 rfl rfl)
theorem dL_law_2540 : decode cL_law 2540 = .ok (.iconst 0, 1) := dk_3 (dk_at dksL_law_100 13 rfl rfl)
theorem dL_law_2541 : decode cL_law 2541 = .ok (.laload, 1) := dk_47 (dk_at dksL_law_100 14 rfl rfl)
theorem dL_law_2542 : decode cL_law 2542 = .ok (.iload 7, 2) := dk_21 7 (dk_at dksL_law_100 15 rfl rfl)
theorem dL_law_2544 : decode cL_law 2544 = .ok (.i2l, 1) := dk_133 (dk_at dksL_law_100 17 rfl rfl)
theorem dL_law_2545 : decode cL_law 2545 = .ok (.lcmp, 1) := dk_148 (dk_at dksL_law_100 18 rfl rfl)
theorem dL_law_2546 : decode cL_law 2546 = .ok (.ifCond .eq 5, 3) := dk_153 0 5 (dk_at dksL_law_100 19 rfl rfl)
theorem dL_law_2549 : decode cL_law 2549 = .ok (.iconst 0, 1) := dk_3 (dk_at dksL_law_100 22 rfl rfl)
theorem dL_law_2550 : decode cL_law 2550 = .ok (.ireturn, 1) := dk_172 (dk_at dksL_law_100 23 rfl rfl)
theorem dL_law_2551 : decode cL_law 2551 = .ok (.goto 672, 3) := dk_167 2 160 (dk_at dksL_law_101 0 rfl rfl)
theorem dL_law_2554 : decode cL_law 2554 = .ok (.aload_n 1, 1) := dk_43 (dk_at dksL_law_101 3 rfl rfl)
theorem dL_law_2555 : decode cL_law 2555 = .ok (.aload_n 0, 1) := dk_42 (dk_at dksL_law_101 4 rfl rfl)
theorem dL_law_2556 : decode cL_law 2556 = .ok (.iload 5, 2) := dk_21 5 (dk_at dksL_law_101 5 rfl rfl)
theorem dL_law_2558 : decode cL_law 2558 = .ok (.iconst 1, 1) := dk_4 (dk_at dksL_law_101 7 rfl rfl)
theorem dL_law_2559 : decode cL_law 2559 = .ok (.iadd, 1) := dk_96 (dk_at dksL_law_101 8 rfl rfl)
theorem dL_law_2560 : decode cL_law 2560 = .ok (.iaload, 1) := dk_46 (dk_at dksL_law_101 9 rfl rfl)
theorem dL_law_2561 : decode cL_law 2561 = .ok (.aload_n 3, 1) := dk_45 (dk_at dksL_law_101 10 rfl rfl)
theorem dL_law_2562 : decode cL_law 2562 = .ok (.invokestatic 295, 3) := dk_184 1 39 (dk_at dksL_law_101 11 rfl rfl)
theorem dL_law_2565 : decode cL_law 2565 = .ok (.istore 6, 2) := dk_54 6 (dk_at dksL_law_101 14 rfl rfl)
theorem dL_law_2567 : decode cL_law 2567 = .ok (.aload_n 2, 1) := dk_44 (dk_at dksL_law_101 16 rfl rfl)
theorem dL_law_2568 : decode cL_law 2568 = .ok (.aload_n 0, 1) := dk_42 (dk_at dksL_law_101 17 rfl rfl)
theorem dL_law_2569 : decode cL_law 2569 = .ok (.iload 5, 2) := dk_21 5 (dk_at dksL_law_101 18 rfl rfl)
theorem dL_law_2571 : decode cL_law 2571 = .ok (.iconst 1, 1) := dk_4 (dk_at dksL_law_101 20 rfl rfl)
theorem dL_law_2572 : decode cL_law 2572 = .ok (.iadd, 1) := dk_96 (dk_at dksL_law_101 21 rfl rfl)
theorem dL_law_2573 : decode cL_law 2573 = .ok (.iaload, 1) := dk_46 (dk_at dksL_law_101 22 rfl rfl)
theorem dL_law_2574 : decode cL_law 2574 = .ok (.invokevirtual 297, 3) := dk_182 1 41 (dk_at dksL_law_102 0 rfl rfl)
theorem dL_law_2577 : decode cL_law 2577 = .ok (.istore 7, 2) := dk_54 7 (dk_at dksL_law_102 3 rfl rfl)
theorem dL_law_2579 : decode cL_law 2579 = .ok (.aload_n 2, 1) := dk_44 (dk_at dksL_law_102 5 rfl rfl)
theorem dL_law_2580 : decode cL_law 2580 = .ok (.invokevirtual 172, 3) := dk_182 0 172 (dk_at dksL_law_102 6 rfl rfl)
theorem dL_law_2583 : decode cL_law 2583 = .ok (.iload 6, 2) := dk_21 6 (dk_at dksL_law_102 9 rfl rfl)
theorem dL_law_2585 : decode cL_law 2585 = .ok (.if_icmp .eq 5, 3) := dk_159 0 5 (dk_at dksL_law_102 11 rfl rfl)
theorem dL_law_2588 : decode cL_law 2588 = .ok (.iconst 0, 1) := dk_3 (dk_at dksL_law_102 14 rfl rfl)
theorem dL_law_2589 : decode cL_law 2589 = .ok (.ireturn, 1) := dk_172 (dk_at dksL_law_102 15 rfl rfl)
theorem dL_law_2590 : decode cL_law 2590 = .ok (.iload 6, 2) := dk_21 6 (dk_at dksL_law_102 16 rfl rfl)
theorem dL_law_2592 : decode cL_law 2592 = .ok (.ifCond .ne 15, 3) := dk_154 0 15 (dk_at dksL_law_102 18 rfl rfl)
theorem dL_law_2595 : decode cL_law 2595 = .ok (.aload_n 3, 1) := dk_45 (dk_at dksL_law_102 21 rfl rfl)
theorem dL_law_2596 : decode cL_law 2596 = .ok (.iconst 0, 1) := dk_3 (dk_at dksL_law_102 22 rfl rfl)
theorem dL_law_2597 : decode cL_law 2597 = .ok (.laload, 1) := dk_47 (dk_at dksL_law_102 23 rfl rfl)
theorem dL_law_2598 : decode cL_law 2598 = .ok (.iload 7, 2) := dk_21 7 (dk_at dksL_law_103 0 rfl rfl)
theorem dL_law_2600 : decode cL_law 2600 = .ok (.i2l, 1) := dk_133 (dk_at dksL_law_103 2 rfl rfl)
theorem dL_law_2601 : decode cL_law 2601 = .ok (.lcmp, 1) := dk_148 (dk_at dksL_law_103 3 rfl rfl)
theorem dL_law_2602 : decode cL_law 2602 = .ok (.ifCond .eq 5, 3) := dk_153 0 5 (dk_at dksL_law_103 4 rfl rfl)
theorem dL_law_2605 : decode cL_law 2605 = .ok (.iconst 0, 1) := dk_3 (dk_at dksL_law_103 7 rfl rfl)
theorem dL_law_2606 : decode cL_law 2606 = .ok (.ireturn, 1) := dk_172 (dk_at dksL_law_103 8 rfl rfl)
theorem dL_law_2607 : decode cL_law 2607 = .ok (.goto 616, 3) := dk_167 2 104 (dk_at dksL_law_103 9 rfl rfl)
theorem dL_law_2610 : decode cL_law 2610 = .ok (.aload_n 1, 1) := dk_43 (dk_at dksL_law_103 12 rfl rfl)
theorem dL_law_2611 : decode cL_law 2611 = .ok (.aload_n 0, 1) := dk_42 (dk_at dksL_law_103 13 rfl rfl)
theorem dL_law_2612 : decode cL_law 2612 = .ok (.iload 5, 2) := dk_21 5 (dk_at dksL_law_103 14 rfl rfl)
theorem dL_law_2614 : decode cL_law 2614 = .ok (.iconst 1, 1) := dk_4 (dk_at dksL_law_103 16 rfl rfl)
theorem dL_law_2615 : decode cL_law 2615 = .ok (.iadd, 1) := dk_96 (dk_at dksL_law_103 17 rfl rfl)
theorem dL_law_2616 : decode cL_law 2616 = .ok (.iaload, 1) := dk_46 (dk_at dksL_law_103 18 rfl rfl)
theorem dL_law_2617 : decode cL_law 2617 = .ok (.aload_n 3, 1) := dk_45 (dk_at dksL_law_103 19 rfl rfl)
theorem dL_law_2618 : decode cL_law 2618 = .ok (.invokestatic 298, 3) := dk_184 1 42 (dk_at dksL_law_103 20 rfl rfl)
theorem dL_law_2621 : decode cL_law 2621 = .ok (.istore 6, 2) := dk_54 6 (dk_at dksL_law_104 0 rfl rfl)
theorem dL_law_2623 : decode cL_law 2623 = .ok (.aload_n 2, 1) := dk_44 (dk_at dksL_law_104 2 rfl rfl)
theorem dL_law_2624 : decode cL_law 2624 = .ok (.aload_n 0, 1) := dk_42 (dk_at dksL_law_104 3 rfl rfl)
theorem dL_law_2625 : decode cL_law 2625 = .ok (.iload 5, 2) := dk_21 5 (dk_at dksL_law_104 4 rfl rfl)
theorem dL_law_2627 : decode cL_law 2627 = .ok (.iconst 1, 1) := dk_4 (dk_at dksL_law_104 6 rfl rfl)
theorem dL_law_2628 : decode cL_law 2628 = .ok (.iadd, 1) := dk_96 (dk_at dksL_law_104 7 rfl rfl)
theorem dL_law_2629 : decode cL_law 2629 = .ok (.iaload, 1) := dk_46 (dk_at dksL_law_104 8 rfl rfl)
theorem dL_law_2630 : decode cL_law 2630 = .ok (.invokevirtual 300, 3) := dk_182 1 44 (dk_at dksL_law_104 9 rfl rfl)
theorem dL_law_2633 : decode cL_law 2633 = .ok (.istore 7, 2) := dk_54 7 (dk_at dksL_law_104 12 rfl rfl)
theorem dL_law_2635 : decode cL_law 2635 = .ok (.aload_n 2, 1) := dk_44 (dk_at dksL_law_104 14 rfl rfl)
theorem dL_law_2636 : decode cL_law 2636 = .ok (.invokevirtual 172, 3) := dk_182 0 172 (dk_at dksL_law_104 15 rfl rfl)
theorem dL_law_2639 : decode cL_law 2639 = .ok (.iload 6, 2) := dk_21 6 (dk_at dksL_law_104 18 rfl rfl)
theorem dL_law_2641 : decode cL_law 2641 = .ok (.if_icmp .eq 5, 3) := dk_159 0 5 (dk_at dksL_law_104 20 rfl rfl)
theorem dL_law_2644 : decode cL_law 2644 = .ok (.iconst 0, 1) := dk_3 (dk_at dksL_law_104 23 rfl rfl)
theorem dL_law_2645 : decode cL_law 2645 = .ok (.ireturn, 1) := dk_172 (dk_at dksL_law_105 0 rfl rfl)
theorem dL_law_2646 : decode cL_law 2646 = .ok (.iload 6, 2) := dk_21 6 (dk_at dksL_law_105 1 rfl rfl)
theorem dL_law_2648 : decode cL_law 2648 = .ok (.ifCond .ne 15, 3) := dk_154 0 15 (dk_at dksL_law_105 3 rfl rfl)
theorem dL_law_2651 : decode cL_law 2651 = .ok (.aload_n 3, 1) := dk_45 (dk_at dksL_law_105 6 rfl rfl)
theorem dL_law_2652 : decode cL_law 2652 = .ok (.iconst 0, 1) := dk_3 (dk_at dksL_law_105 7 rfl rfl)
theorem dL_law_2653 : decode cL_law 2653 = .ok (.laload, 1) := dk_47 (dk_at dksL_law_105 8 rfl rfl)
theorem dL_law_2654 : decode cL_law 2654 = .ok (.iload 7, 2) := dk_21 7 (dk_at dksL_law_105 9 rfl rfl)
theorem dL_law_2656 : decode cL_law 2656 = .ok (.i2l, 1) := dk_133 (dk_at dksL_law_105 11 rfl rfl)
theorem dL_law_2657 : decode cL_law 2657 = .ok (.lcmp, 1) := dk_148 (dk_at dksL_law_105 12 rfl rfl)
theorem dL_law_2658 : decode cL_law 2658 = .ok (.ifCond .eq 5, 3) := dk_153 0 5 (dk_at dksL_law_105 13 rfl rfl)
theorem dL_law_2661 : decode cL_law 2661 = .ok (.iconst 0, 1) := dk_3 (dk_at dksL_law_105 16 rfl rfl)
theorem dL_law_2662 : decode cL_law 2662 = .ok (.ireturn, 1) := dk_172 (dk_at dksL_law_105 17 rfl rfl)
theorem dL_law_2663 : decode cL_law 2663 = .ok (.goto 560, 3) := dk_167 2 48 (dk_at dksL_law_105 18 rfl rfl)
theorem dL_law_2666 : decode cL_law 2666 = .ok (.aload_n 1, 1) := dk_43 (dk_at dksL_law_105 21 rfl rfl)
theorem dL_law_2667 : decode cL_law 2667 = .ok (.aload_n 0, 1) := dk_42 (dk_at dksL_law_105 22 rfl rfl)
theorem dL_law_2668 : decode cL_law 2668 = .ok (.iload 5, 2) := dk_21 5 (dk_at dksL_law_106 0 rfl rfl)
theorem dL_law_2670 : decode cL_law 2670 = .ok (.iconst 1, 1) := dk_4 (dk_at dksL_law_106 2 rfl rfl)
theorem dL_law_2671 : decode cL_law 2671 = .ok (.iadd, 1) := dk_96 (dk_at dksL_law_106 3 rfl rfl)
theorem dL_law_2672 : decode cL_law 2672 = .ok (.iaload, 1) := dk_46 (dk_at dksL_law_106 4 rfl rfl)
theorem dL_law_2673 : decode cL_law 2673 = .ok (.aload_n 0, 1) := dk_42 (dk_at dksL_law_106 5 rfl rfl)
theorem dL_law_2674 : decode cL_law 2674 = .ok (.iload 5, 2) := dk_21 5 (dk_at dksL_law_106 6 rfl rfl)
theorem dL_law_2676 : decode cL_law 2676 = .ok (.iconst 2, 1) := dk_5 (dk_at dksL_law_106 8 rfl rfl)
theorem dL_law_2677 : decode cL_law 2677 = .ok (.iadd, 1) := dk_96 (dk_at dksL_law_106 9 rfl rfl)
theorem dL_law_2678 : decode cL_law 2678 = .ok (.iaload, 1) := dk_46 (dk_at dksL_law_106 10 rfl rfl)
theorem dL_law_2679 : decode cL_law 2679 = .ok (.aload_n 3, 1) := dk_45 (dk_at dksL_law_106 11 rfl rfl)
theorem dL_law_2680 : decode cL_law 2680 = .ok (.invokestatic 301, 3) := dk_184 1 45 (dk_at dksL_law_106 12 rfl rfl)
theorem dL_law_2683 : decode cL_law 2683 = .ok (.istore 6, 2) := dk_54 6 (dk_at dksL_law_106 15 rfl rfl)
theorem dL_law_2685 : decode cL_law 2685 = .ok (.aload_n 2, 1) := dk_44 (dk_at dksL_law_106 17 rfl rfl)
theorem dL_law_2686 : decode cL_law 2686 = .ok (.aload_n 0, 1) := dk_42 (dk_at dksL_law_106 18 rfl rfl)
theorem dL_law_2687 : decode cL_law 2687 = .ok (.iload 5, 2) := dk_21 5 (dk_at dksL_law_106 19 rfl rfl)
theorem dL_law_2689 : decode cL_law 2689 = .ok (.iconst 1, 1) := dk_4 (dk_at dksL_law_106 21 rfl rfl)
theorem dL_law_2690 : decode cL_law 2690 = .ok (.iadd, 1) := dk_96 (dk_at dksL_law_106 22 rfl rfl)
theorem dL_law_2691 : decode cL_law 2691 = .ok (.iaload, 1) := dk_46 (dk_at dksL_law_106 23 rfl rfl)
theorem dL_law_2692 : decode cL_law 2692 = .ok (.aload_n 0, 1) := dk_42 (dk_at dksL_law_107 0 rfl rfl)
theorem dL_law_2693 : decode cL_law 2693 = .ok (.iload 5, 2) := dk_21 5 (dk_at dksL_law_107 1 rfl rfl)
theorem dL_law_2695 : decode cL_law 2695 = .ok (.iconst 2, 1) := dk_5 (dk_at dksL_law_107 3 rfl rfl)
theorem dL_law_2696 : decode cL_law 2696 = .ok (.iadd, 1) := dk_96 (dk_at dksL_law_107 4 rfl rfl)
theorem dL_law_2697 : decode cL_law 2697 = .ok (.iaload, 1) := dk_46 (dk_at dksL_law_107 5 rfl rfl)
theorem dL_law_2698 : decode cL_law 2698 = .ok (.invokevirtual 303, 3) := dk_182 1 47 (dk_at dksL_law_107 6 rfl rfl)
theorem dL_law_2701 : decode cL_law 2701 = .ok (.istore 7, 2) := dk_54 7 (dk_at dksL_law_107 9 rfl rfl)
theorem dL_law_2703 : decode cL_law 2703 = .ok (.aload_n 2, 1) := dk_44 (dk_at dksL_law_107 11 rfl rfl)
theorem dL_law_2704 : decode cL_law 2704 = .ok (.invokevirtual 172, 3) := dk_182 0 172 (dk_at dksL_law_107 12 rfl rfl)
theorem dL_law_2707 : decode cL_law 2707 = .ok (.iload 6, 2) := dk_21 6 (dk_at dksL_law_107 15 rfl rfl)
theorem dL_law_2709 : decode cL_law 2709 = .ok (.if_icmp .eq 5, 3) := dk_159 0 5 (dk_at dksL_law_107 17 rfl rfl)
theorem dL_law_2712 : decode cL_law 2712 = .ok (.iconst 0, 1) := dk_3 (dk_at dksL_law_107 20 rfl rfl)
theorem dL_law_2713 : decode cL_law 2713 = .ok (.ireturn, 1) := dk_172 (dk_at dksL_law_107 21 rfl rfl)
theorem dL_law_2714 : decode cL_law 2714 = .ok (.iload 6, 2) := dk_21 6 (dk_at dksL_law_107 22 rfl rfl)
theorem dL_law_2716 : decode cL_law 2716 = .ok (.ifCond .ne 15, 3) := dk_154 0 15 (dk_at dksL_law_108 0 rfl rfl)
theorem dL_law_2719 : decode cL_law 2719 = .ok (.aload_n 3, 1) := dk_45 (dk_at dksL_law_108 3 rfl rfl)
theorem dL_law_2720 : decode cL_law 2720 = .ok (.iconst 0, 1) := dk_3 (dk_at dksL_law_108 4 rfl rfl)
theorem dL_law_2721 : decode cL_law 2721 = .ok (.laload, 1) := dk_47 (dk_at dksL_law_108 5 rfl rfl)
theorem dL_law_2722 : decode cL_law 2722 = .ok (.iload 7, 2) := dk_21 7 (dk_at dksL_law_108 6 rfl rfl)
theorem dL_law_2724 : decode cL_law 2724 = .ok (.i2l, 1) := dk_133 (dk_at dksL_law_108 8 rfl rfl)
theorem dL_law_2725 : decode cL_law 2725 = .ok (.lcmp, 1) := dk_148 (dk_at dksL_law_108 9 rfl rfl)
theorem dL_law_2726 : decode cL_law 2726 = .ok (.ifCond .eq 5, 3) := dk_153 0 5 (dk_at dksL_law_108 10 rfl rfl)
theorem dL_law_2729 : decode cL_law 2729 = .ok (.iconst 0, 1) := dk_3 (dk_at dksL_law_108 13 rfl rfl)
theorem dL_law_2730 : decode cL_law 2730 = .ok (.ireturn, 1) := dk_172 (dk_at dksL_law_108 14 rfl rfl)
theorem dL_law_2731 : decode cL_law 2731 = .ok (.goto 492, 3) := dk_167 1 236 (dk_at dksL_law_108 15 rfl rfl)
theorem dL_law_2734 : decode cL_law 2734 = .ok (.aload_n 1, 1) := dk_43 (dk_at dksL_law_108 18 rfl rfl)
theorem dL_law_2735 : decode cL_law 2735 = .ok (.aload_n 0, 1) := dk_42 (dk_at dksL_law_108 19 rfl rfl)
theorem dL_law_2736 : decode cL_law 2736 = .ok (.iload 5, 2) := dk_21 5 (dk_at dksL_law_108 20 rfl rfl)
theorem dL_law_2738 : decode cL_law 2738 = .ok (.iconst 1, 1) := dk_4 (dk_at dksL_law_108 22 rfl rfl)
theorem dL_law_2739 : decode cL_law 2739 = .ok (.iadd, 1) := dk_96 (dk_at dksL_law_108 23 rfl rfl)
theorem dL_law_2740 : decode cL_law 2740 = .ok (.iaload, 1) := dk_46 (dk_at dksL_law_109 0 rfl rfl)
theorem dL_law_2741 : decode cL_law 2741 = .ok (.aload_n 0, 1) := dk_42 (dk_at dksL_law_109 1 rfl rfl)
theorem dL_law_2742 : decode cL_law 2742 = .ok (.iload 5, 2) := dk_21 5 (dk_at dksL_law_109 2 rfl rfl)
theorem dL_law_2744 : decode cL_law 2744 = .ok (.iconst 2, 1) := dk_5 (dk_at dksL_law_109 4 rfl rfl)
theorem dL_law_2745 : decode cL_law 2745 = .ok (.iadd, 1) := dk_96 (dk_at dksL_law_109 5 rfl rfl)
theorem dL_law_2746 : decode cL_law 2746 = .ok (.iaload, 1) := dk_46 (dk_at dksL_law_109 6 rfl rfl)
theorem dL_law_2747 : decode cL_law 2747 = .ok (.aload_n 0, 1) := dk_42 (dk_at dksL_law_109 7 rfl rfl)
theorem dL_law_2748 : decode cL_law 2748 = .ok (.iload 5, 2) := dk_21 5 (dk_at dksL_law_109 8 rfl rfl)
theorem dL_law_2750 : decode cL_law 2750 = .ok (.iconst 3, 1) := dk_6 (dk_at dksL_law_109 10 rfl rfl)
theorem dL_law_2751 : decode cL_law 2751 = .ok (.iadd, 1) := dk_96 (dk_at dksL_law_109 11 rfl rfl)
theorem dL_law_2752 : decode cL_law 2752 = .ok (.iaload, 1) := dk_46 (dk_at dksL_law_109 12 rfl rfl)
theorem dL_law_2753 : decode cL_law 2753 = .ok (.aload_n 0, 1) := dk_42 (dk_at dksL_law_109 13 rfl rfl)
theorem dL_law_2754 : decode cL_law 2754 = .ok (.iload 5, 2) := dk_21 5 (dk_at dksL_law_109 14 rfl rfl)
theorem dL_law_2756 : decode cL_law 2756 = .ok (.iconst 4, 1) := dk_7 (dk_at dksL_law_109 16 rfl rfl)
theorem dL_law_2757 : decode cL_law 2757 = .ok (.iadd, 1) := dk_96 (dk_at dksL_law_109 17 rfl rfl)
theorem dL_law_2758 : decode cL_law 2758 = .ok (.iaload, 1) := dk_46 (dk_at dksL_law_109 18 rfl rfl)
theorem dL_law_2759 : decode cL_law 2759 = .ok (.aload_n 3, 1) := dk_45 (dk_at dksL_law_109 19 rfl rfl)
theorem dL_law_2760 : decode cL_law 2760 = .ok (.invokestatic 304, 3) := dk_184 1 48 (dk_at dksL_law_109 20 rfl rfl)
theorem dL_law_2763 : decode cL_law 2763 = .ok (.istore 6, 2) := dk_54 6 (dk_at dksL_law_110 0 rfl rfl)
theorem dL_law_2765 : decode cL_law 2765 = .ok (.aload_n 2, 1) := dk_44 (dk_at dksL_law_110 2 rfl rfl)
theorem dL_law_2766 : decode cL_law 2766 = .ok (.aload_n 0, 1) := dk_42 (dk_at dksL_law_110 3 rfl rfl)
theorem dL_law_2767 : decode cL_law 2767 = .ok (.iload 5, 2) := dk_21 5 (dk_at dksL_law_110 4 rfl rfl)
theorem dL_law_2769 : decode cL_law 2769 = .ok (.iconst 1, 1) := dk_4 (dk_at dksL_law_110 6 rfl rfl)
theorem dL_law_2770 : decode cL_law 2770 = .ok (.iadd, 1) := dk_96 (dk_at dksL_law_110 7 rfl rfl)
theorem dL_law_2771 : decode cL_law 2771 = .ok (.iaload, 1) := dk_46 (dk_at dksL_law_110 8 rfl rfl)
theorem dL_law_2772 : decode cL_law 2772 = .ok (.aload_n 0, 1) := dk_42 (dk_at dksL_law_110 9 rfl rfl)
theorem dL_law_2773 : decode cL_law 2773 = .ok (.iload 5, 2) := dk_21 5 (dk_at dksL_law_110 10 rfl rfl)
theorem dL_law_2775 : decode cL_law 2775 = .ok (.iconst 2, 1) := dk_5 (dk_at dksL_law_110 12 rfl rfl)
theorem dL_law_2776 : decode cL_law 2776 = .ok (.iadd, 1) := dk_96 (dk_at dksL_law_110 13 rfl rfl)
theorem dL_law_2777 : decode cL_law 2777 = .ok (.iaload, 1) := dk_46 (dk_at dksL_law_110 14 rfl rfl)
theorem dL_law_2778 : decode cL_law 2778 = .ok (.aload_n 0, 1) := dk_42 (dk_at dksL_law_110 15 rfl rfl)
theorem dL_law_2779 : decode cL_law 2779 = .ok (.iload 5, 2) := dk_21 5 (dk_at dksL_law_110 16 rfl rfl)
theorem dL_law_2781 : decode cL_law 2781 = .ok (.iconst 3, 1) := dk_6 (dk_at dksL_law_110 18 rfl rfl)
theorem dL_law_2782 : decode cL_law 2782 = .ok (.iadd, 1) := dk_96 (dk_at dksL_law_110 19 rfl rfl)
theorem dL_law_2783 : decode cL_law 2783 = .ok (.iaload, 1) := dk_46 (dk_at dksL_law_110 20 rfl rfl)
theorem dL_law_2784 : decode cL_law 2784 = .ok (.aload_n 0, 1) := dk_42 (dk_at dksL_law_110 21 rfl rfl)
theorem dL_law_2785 : decode cL_law 2785 = .ok (.iload 5, 2) := dk_21 5 (dk_at dksL_law_110 22 rfl rfl)
theorem dL_law_2787 : decode cL_law 2787 = .ok (.iconst 4, 1) := dk_7 (dk_at dksL_law_111 0 rfl rfl)
theorem dL_law_2788 : decode cL_law 2788 = .ok (.iadd, 1) := dk_96 (dk_at dksL_law_111 1 rfl rfl)
theorem dL_law_2789 : decode cL_law 2789 = .ok (.iaload, 1) := dk_46 (dk_at dksL_law_111 2 rfl rfl)
theorem dL_law_2790 : decode cL_law 2790 = .ok (.invokevirtual 307, 3) := dk_182 1 51 (dk_at dksL_law_111 3 rfl rfl)
theorem dL_law_2793 : decode cL_law 2793 = .ok (.istore 7, 2) := dk_54 7 (dk_at dksL_law_111 6 rfl rfl)
theorem dL_law_2795 : decode cL_law 2795 = .ok (.aload_n 2, 1) := dk_44 (dk_at dksL_law_111 8 rfl rfl)
theorem dL_law_2796 : decode cL_law 2796 = .ok (.invokevirtual 172, 3) := dk_182 0 172 (dk_at dksL_law_111 9 rfl rfl)
theorem dL_law_2799 : decode cL_law 2799 = .ok (.iload 6, 2) := dk_21 6 (dk_at dksL_law_111 12 rfl rfl)
theorem dL_law_2801 : decode cL_law 2801 = .ok (.if_icmp .eq 5, 3) := dk_159 0 5 (dk_at dksL_law_111 14 rfl rfl)
theorem dL_law_2804 : decode cL_law 2804 = .ok (.iconst 0, 1) := dk_3 (dk_at dksL_law_111 17 rfl rfl)
theorem dL_law_2805 : decode cL_law 2805 = .ok (.ireturn, 1) := dk_172 (dk_at dksL_law_111 18 rfl rfl)
theorem dL_law_2806 : decode cL_law 2806 = .ok (.iload 6, 2) := dk_21 6 (dk_at dksL_law_111 19 rfl rfl)
theorem dL_law_2808 : decode cL_law 2808 = .ok (.ifCond .ne 15, 3) := dk_154 0 15 (dk_at dksL_law_111 21 rfl rfl)
theorem dL_law_2811 : decode cL_law 2811 = .ok (.aload_n 3, 1) := dk_45 (dk_at dksL_law_112 0 rfl rfl)
theorem dL_law_2812 : decode cL_law 2812 = .ok (.iconst 0, 1) := dk_3 (dk_at dksL_law_112 1 rfl rfl)
theorem dL_law_2813 : decode cL_law 2813 = .ok (.laload, 1) := dk_47 (dk_at dksL_law_112 2 rfl rfl)
theorem dL_law_2814 : decode cL_law 2814 = .ok (.iload 7, 2) := dk_21 7 (dk_at dksL_law_112 3 rfl rfl)
theorem dL_law_2816 : decode cL_law 2816 = .ok (.i2l, 1) := dk_133 (dk_at dksL_law_112 5 rfl rfl)
theorem dL_law_2817 : decode cL_law 2817 = .ok (.lcmp, 1) := dk_148 (dk_at dksL_law_112 6 rfl rfl)
theorem dL_law_2818 : decode cL_law 2818 = .ok (.ifCond .eq 5, 3) := dk_153 0 5 (dk_at dksL_law_112 7 rfl rfl)
theorem dL_law_2821 : decode cL_law 2821 = .ok (.iconst 0, 1) := dk_3 (dk_at dksL_law_112 10 rfl rfl)
theorem dL_law_2822 : decode cL_law 2822 = .ok (.ireturn, 1) := dk_172 (dk_at dksL_law_112 11 rfl rfl)
theorem dL_law_2823 : decode cL_law 2823 = .ok (.goto 400, 3) := dk_167 1 144 (dk_at dksL_law_112 12 rfl rfl)
theorem dL_law_2826 : decode cL_law 2826 = .ok (.aload_n 1, 1) := dk_43 (dk_at dksL_law_112 15 rfl rfl)
theorem dL_law_2827 : decode cL_law 2827 = .ok (.aload_n 0, 1) := dk_42 (dk_at dksL_law_112 16 rfl rfl)
theorem dL_law_2828 : decode cL_law 2828 = .ok (.iload 5, 2) := dk_21 5 (dk_at dksL_law_112 17 rfl rfl)
theorem dL_law_2830 : decode cL_law 2830 = .ok (.iconst 1, 1) := dk_4 (dk_at dksL_law_112 19 rfl rfl)
theorem dL_law_2831 : decode cL_law 2831 = .ok (.iadd, 1) := dk_96 (dk_at dksL_law_112 20 rfl rfl)
theorem dL_law_2832 : decode cL_law 2832 = .ok (.iaload, 1) := dk_46 (dk_at dksL_law_112 21 rfl rfl)
theorem dL_law_2833 : decode cL_law 2833 = .ok (.aload_n 0, 1) := dk_42 (dk_at dksL_law_112 22 rfl rfl)
theorem dL_law_2834 : decode cL_law 2834 = .ok (.iload 5, 2) := dk_21 5 (dk_at dksL_law_113 0 rfl rfl)
theorem dL_law_2836 : decode cL_law 2836 = .ok (.iconst 2, 1) := dk_5 (dk_at dksL_law_113 2 rfl rfl)
theorem dL_law_2837 : decode cL_law 2837 = .ok (.iadd, 1) := dk_96 (dk_at dksL_law_113 3 rfl rfl)
theorem dL_law_2838 : decode cL_law 2838 = .ok (.iaload, 1) := dk_46 (dk_at dksL_law_113 4 rfl rfl)
theorem dL_law_2839 : decode cL_law 2839 = .ok (.aload_n 3, 1) := dk_45 (dk_at dksL_law_113 5 rfl rfl)
theorem dL_law_2840 : decode cL_law 2840 = .ok (.invokestatic 308, 3) := dk_184 1 52 (dk_at dksL_law_113 6 rfl rfl)
theorem dL_law_2843 : decode cL_law 2843 = .ok (.istore 6, 2) := dk_54 6 (dk_at dksL_law_113 9 rfl rfl)
theorem dL_law_2845 : decode cL_law 2845 = .ok (.aload_n 2, 1) := dk_44 (dk_at dksL_law_113 11 rfl rfl)
theorem dL_law_2846 : decode cL_law 2846 = .ok (.aload_n 0, 1) := dk_42 (dk_at dksL_law_113 12 rfl rfl)
theorem dL_law_2847 : decode cL_law 2847 = .ok (.iload 5, 2) := dk_21 5 (dk_at dksL_law_113 13 rfl rfl)
theorem dL_law_2849 : decode cL_law 2849 = .ok (.iconst 1, 1) := dk_4 (dk_at dksL_law_113 15 rfl rfl)
theorem dL_law_2850 : decode cL_law 2850 = .ok (.iadd, 1) := dk_96 (dk_at dksL_law_113 16 rfl rfl)
theorem dL_law_2851 : decode cL_law 2851 = .ok (.iaload, 1) := dk_46 (dk_at dksL_law_113 17 rfl rfl)
theorem dL_law_2852 : decode cL_law 2852 = .ok (.aload_n 0, 1) := dk_42 (dk_at dksL_law_113 18 rfl rfl)
theorem dL_law_2853 : decode cL_law 2853 = .ok (.iload 5, 2) := dk_21 5 (dk_at dksL_law_113 19 rfl rfl)
theorem dL_law_2855 : decode cL_law 2855 = .ok (.iconst 2, 1) := dk_5 (dk_at dksL_law_113 21 rfl rfl)
theorem dL_law_2856 : decode cL_law 2856 = .ok (.iadd, 1) := dk_96 (dk_at dksL_law_113 22 rfl rfl)
theorem dL_law_2857 : decode cL_law 2857 = .ok (.iaload, 1) := dk_46 (dk_at dksL_law_113 23 rfl rfl)
theorem dL_law_2858 : decode cL_law 2858 = .ok (.invokevirtual 310, 3) := dk_182 1 54 (dk_at dksL_law_114 0 rfl rfl)
theorem dL_law_2861 : decode cL_law 2861 = .ok (.istore 7, 2) := dk_54 7 (dk_at dksL_law_114 3 rfl rfl)
theorem dL_law_2863 : decode cL_law 2863 = .ok (.aload_n 2, 1) := dk_44 (dk_at dksL_law_114 5 rfl rfl)
theorem dL_law_2864 : decode cL_law 2864 = .ok (.invokevirtual 172, 3) := dk_182 0 172 (dk_at dksL_law_114 6 rfl rfl)
theorem dL_law_2867 : decode cL_law 2867 = .ok (.iload 6, 2) := dk_21 6 (dk_at dksL_law_114 9 rfl rfl)
theorem dL_law_2869 : decode cL_law 2869 = .ok (.if_icmp .eq 5, 3) := dk_159 0 5 (dk_at dksL_law_114 11 rfl rfl)
theorem dL_law_2872 : decode cL_law 2872 = .ok (.iconst 0, 1) := dk_3 (dk_at dksL_law_114 14 rfl rfl)
theorem dL_law_2873 : decode cL_law 2873 = .ok (.ireturn, 1) := dk_172 (dk_at dksL_law_114 15 rfl rfl)
theorem dL_law_2874 : decode cL_law 2874 = .ok (.iload 6, 2) := dk_21 6 (dk_at dksL_law_114 16 rfl rfl)
theorem dL_law_2876 : decode cL_law 2876 = .ok (.ifCond .ne 15, 3) := dk_154 0 15 (dk_at dksL_law_114 18 rfl rfl)
theorem dL_law_2879 : decode cL_law 2879 = .ok (.aload_n 3, 1) := dk_45 (dk_at dksL_law_114 21 rfl rfl)
theorem dL_law_2880 : decode cL_law 2880 = .ok (.iconst 0, 1) := dk_3 (dk_at dksL_law_114 22 rfl rfl)
theorem dL_law_2881 : decode cL_law 2881 = .ok (.laload, 1) := dk_47 (dk_at dksL_law_114 23 rfl rfl)
theorem dL_law_2882 : decode cL_law 2882 = .ok (.iload 7, 2) := dk_21 7 (dk_at dksL_law_115 0 rfl rfl)
theorem dL_law_2884 : decode cL_law 2884 = .ok (.i2l, 1) := dk_133 (dk_at dksL_law_115 2 rfl rfl)
theorem dL_law_2885 : decode cL_law 2885 = .ok (.lcmp, 1) := dk_148 (dk_at dksL_law_115 3 rfl rfl)
theorem dL_law_2886 : decode cL_law 2886 = .ok (.ifCond .eq 5, 3) := dk_153 0 5 (dk_at dksL_law_115 4 rfl rfl)
theorem dL_law_2889 : decode cL_law 2889 = .ok (.iconst 0, 1) := dk_3 (dk_at dksL_law_115 7 rfl rfl)
theorem dL_law_2890 : decode cL_law 2890 = .ok (.ireturn, 1) := dk_172 (dk_at dksL_law_115 8 rfl rfl)
theorem dL_law_2891 : decode cL_law 2891 = .ok (.goto 332, 3) := dk_167 1 76 (dk_at dksL_law_115 9 rfl rfl)
theorem dL_law_2894 : decode cL_law 2894 = .ok (.aload_n 1, 1) := dk_43 (dk_at dksL_law_115 12 rfl rfl)
theorem dL_law_2895 : decode cL_law 2895 = .ok (.aload_n 0, 1) := dk_42 (dk_at dksL_law_115 13 rfl rfl)
theorem dL_law_2896 : decode cL_law 2896 = .ok (.iload 5, 2) := dk_21 5 (dk_at dksL_law_115 14 rfl rfl)
theorem dL_law_2898 : decode cL_law 2898 = .ok (.iconst 1, 1) := dk_4 (dk_at dksL_law_115 16 rfl rfl)
theorem dL_law_2899 : decode cL_law 2899 = .ok (.iadd, 1) := dk_96 (dk_at dksL_law_115 17 rfl rfl)
theorem dL_law_2900 : decode cL_law 2900 = .ok (.iaload, 1) := dk_46 (dk_at dksL_law_115 18 rfl rfl)
theorem dL_law_2901 : decode cL_law 2901 = .ok (.aload_n 0, 1) := dk_42 (dk_at dksL_law_115 19 rfl rfl)
theorem dL_law_2902 : decode cL_law 2902 = .ok (.iload 5, 2) := dk_21 5 (dk_at dksL_law_115 20 rfl rfl)
theorem dL_law_2904 : decode cL_law 2904 = .ok (.iconst 2, 1) := dk_5 (dk_at dksL_law_115 22 rfl rfl)
theorem dL_law_2905 : decode cL_law 2905 = .ok (.iadd, 1) := dk_96 (dk_at dksL_law_115 23 rfl rfl)
theorem dL_law_2906 : decode cL_law 2906 = .ok (.iaload, 1) := dk_46 (dk_at dksL_law_116 0 rfl rfl)
theorem dL_law_2907 : decode cL_law 2907 = .ok (.aload_n 3, 1) := dk_45 (dk_at dksL_law_116 1 rfl rfl)
theorem dL_law_2908 : decode cL_law 2908 = .ok (.invokestatic 311, 3) := dk_184 1 55 (dk_at dksL_law_116 2 rfl rfl)
theorem dL_law_2911 : decode cL_law 2911 = .ok (.istore 6, 2) := dk_54 6 (dk_at dksL_law_116 5 rfl rfl)
theorem dL_law_2913 : decode cL_law 2913 = .ok (.aload_n 2, 1) := dk_44 (dk_at dksL_law_116 7 rfl rfl)
theorem dL_law_2914 : decode cL_law 2914 = .ok (.aload_n 0, 1) := dk_42 (dk_at dksL_law_116 8 rfl rfl)
theorem dL_law_2915 : decode cL_law 2915 = .ok (.iload 5, 2) := dk_21 5 (dk_at dksL_law_116 9 rfl rfl)
theorem dL_law_2917 : decode cL_law 2917 = .ok (.iconst 1, 1) := dk_4 (dk_at dksL_law_116 11 rfl rfl)
theorem dL_law_2918 : decode cL_law 2918 = .ok (.iadd, 1) := dk_96 (dk_at dksL_law_116 12 rfl rfl)
theorem dL_law_2919 : decode cL_law 2919 = .ok (.iaload, 1) := dk_46 (dk_at dksL_law_116 13 rfl rfl)
theorem dL_law_2920 : decode cL_law 2920 = .ok (.aload_n 0, 1) := dk_42 (dk_at dksL_law_116 14 rfl rfl)
theorem dL_law_2921 : decode cL_law 2921 = .ok (.iload 5, 2) := dk_21 5 (dk_at dksL_law_116 15 rfl rfl)
theorem dL_law_2923 : decode cL_law 2923 = .ok (.iconst 2, 1) := dk_5 (dk_at dksL_law_116 17 rfl rfl)
theorem dL_law_2924 : decode cL_law 2924 = .ok (.iadd, 1) := dk_96 (dk_at dksL_law_116 18 rfl rfl)
theorem dL_law_2925 : decode cL_law 2925 = .ok (.iaload, 1) := dk_46 (dk_at dksL_law_116 19 rfl rfl)
theorem dL_law_2926 : decode cL_law 2926 = .ok (.invokevirtual 313, 3) := dk_182 1 57 (dk_at dksL_law_116 20 rfl rfl)
theorem dL_law_2929 : decode cL_law 2929 = .ok (.istore 7, 2) := dk_54 7 (dk_at dksL_law_117 0 rfl rfl)
theorem dL_law_2931 : decode cL_law 2931 = .ok (.aload_n 2, 1) := dk_44 (dk_at dksL_law_117 2 rfl rfl)
theorem dL_law_2932 : decode cL_law 2932 = .ok (.invokevirtual 172, 3) := dk_182 0 172 (dk_at dksL_law_117 3 rfl rfl)
theorem dL_law_2935 : decode cL_law 2935 = .ok (.iload 6, 2) := dk_21 6 (dk_at dksL_law_117 6 rfl rfl)
theorem dL_law_2937 : decode cL_law 2937 = .ok (.if_icmp .eq 5, 3) := dk_159 0 5 (dk_at dksL_law_117 8 rfl rfl)
theorem dL_law_2940 : decode cL_law 2940 = .ok (.iconst 0, 1) := dk_3 (dk_at dksL_law_117 11 rfl rfl)
theorem dL_law_2941 : decode cL_law 2941 = .ok (.ireturn, 1) := dk_172 (dk_at dksL_law_117 12 rfl rfl)
theorem dL_law_2942 : decode cL_law 2942 = .ok (.iload 6, 2) := dk_21 6 (dk_at dksL_law_117 13 rfl rfl)
theorem dL_law_2944 : decode cL_law 2944 = .ok (.ifCond .ne 15, 3) := dk_154 0 15 (dk_at dksL_law_117 15 rfl rfl)
theorem dL_law_2947 : decode cL_law 2947 = .ok (.aload_n 3, 1) := dk_45 (dk_at dksL_law_117 18 rfl rfl)
theorem dL_law_2948 : decode cL_law 2948 = .ok (.iconst 0, 1) := dk_3 (dk_at dksL_law_117 19 rfl rfl)
theorem dL_law_2949 : decode cL_law 2949 = .ok (.laload, 1) := dk_47 (dk_at dksL_law_117 20 rfl rfl)
theorem dL_law_2950 : decode cL_law 2950 = .ok (.iload 7, 2) := dk_21 7 (dk_at dksL_law_117 21 rfl rfl)
theorem dL_law_2952 : decode cL_law 2952 = .ok (.i2l, 1) := dk_133 (dk_at dksL_law_117 23 rfl rfl)
theorem dL_law_2953 : decode cL_law 2953 = .ok (.lcmp, 1) := dk_148 (dk_at dksL_law_118 0 rfl rfl)
theorem dL_law_2954 : decode cL_law 2954 = .ok (.ifCond .eq 5, 3) := dk_153 0 5 (dk_at dksL_law_118 1 rfl rfl)
theorem dL_law_2957 : decode cL_law 2957 = .ok (.iconst 0, 1) := dk_3 (dk_at dksL_law_118 4 rfl rfl)
theorem dL_law_2958 : decode cL_law 2958 = .ok (.ireturn, 1) := dk_172 (dk_at dksL_law_118 5 rfl rfl)
theorem dL_law_2959 : decode cL_law 2959 = .ok (.goto 264, 3) := dk_167 1 8 (dk_at dksL_law_118 6 rfl rfl)
theorem dL_law_2962 : decode cL_law 2962 = .ok (.aload_n 1, 1) := dk_43 (dk_at dksL_law_118 9 rfl rfl)
theorem dL_law_2963 : decode cL_law 2963 = .ok (.aload_n 0, 1) := dk_42 (dk_at dksL_law_118 10 rfl rfl)
theorem dL_law_2964 : decode cL_law 2964 = .ok (.iload 5, 2) := dk_21 5 (dk_at dksL_law_118 11 rfl rfl)
theorem dL_law_2966 : decode cL_law 2966 = .ok (.iconst 1, 1) := dk_4 (dk_at dksL_law_118 13 rfl rfl)
theorem dL_law_2967 : decode cL_law 2967 = .ok (.iadd, 1) := dk_96 (dk_at dksL_law_118 14 rfl rfl)
theorem dL_law_2968 : decode cL_law 2968 = .ok (.iaload, 1) := dk_46 (dk_at dksL_law_118 15 rfl rfl)
theorem dL_law_2969 : decode cL_law 2969 = .ok (.aload_n 0, 1) := dk_42 (dk_at dksL_law_118 16 rfl rfl)
theorem dL_law_2970 : decode cL_law 2970 = .ok (.iload 5, 2) := dk_21 5 (dk_at dksL_law_118 17 rfl rfl)
theorem dL_law_2972 : decode cL_law 2972 = .ok (.iconst 2, 1) := dk_5 (dk_at dksL_law_118 19 rfl rfl)
theorem dL_law_2973 : decode cL_law 2973 = .ok (.iadd, 1) := dk_96 (dk_at dksL_law_118 20 rfl rfl)
theorem dL_law_2974 : decode cL_law 2974 = .ok (.iaload, 1) := dk_46 (dk_at dksL_law_118 21 rfl rfl)
theorem dL_law_2975 : decode cL_law 2975 = .ok (.aload_n 3, 1) := dk_45 (dk_at dksL_law_118 22 rfl rfl)
theorem dL_law_2976 : decode cL_law 2976 = .ok (.invokestatic 314, 3) := dk_184 1 58 (dk_at dksL_law_119 0 rfl rfl)
theorem dL_law_2979 : decode cL_law 2979 = .ok (.istore 6, 2) := dk_54 6 (dk_at dksL_law_119 3 rfl rfl)
theorem dL_law_2981 : decode cL_law 2981 = .ok (.aload_n 2, 1) := dk_44 (dk_at dksL_law_119 5 rfl rfl)
theorem dL_law_2982 : decode cL_law 2982 = .ok (.aload_n 0, 1) := dk_42 (dk_at dksL_law_119 6 rfl rfl)
theorem dL_law_2983 : decode cL_law 2983 = .ok (.iload 5, 2) := dk_21 5 (dk_at dksL_law_119 7 rfl rfl)
theorem dL_law_2985 : decode cL_law 2985 = .ok (.iconst 1, 1) := dk_4 (dk_at dksL_law_119 9 rfl rfl)
theorem dL_law_2986 : decode cL_law 2986 = .ok (.iadd, 1) := dk_96 (dk_at dksL_law_119 10 rfl rfl)
theorem dL_law_2987 : decode cL_law 2987 = .ok (.iaload, 1) := dk_46 (dk_at dksL_law_119 11 rfl rfl)
theorem dL_law_2988 : decode cL_law 2988 = .ok (.aload_n 0, 1) := dk_42 (dk_at dksL_law_119 12 rfl rfl)
theorem dL_law_2989 : decode cL_law 2989 = .ok (.iload 5, 2) := dk_21 5 (dk_at dksL_law_119 13 rfl rfl)
theorem dL_law_2991 : decode cL_law 2991 = .ok (.iconst 2, 1) := dk_5 (dk_at dksL_law_119 15 rfl rfl)
theorem dL_law_2992 : decode cL_law 2992 = .ok (.iadd, 1) := dk_96 (dk_at dksL_law_119 16 rfl rfl)
theorem dL_law_2993 : decode cL_law 2993 = .ok (.iaload, 1) := dk_46 (dk_at dksL_law_119 17 rfl rfl)
theorem dL_law_2994 : decode cL_law 2994 = .ok (.invokevirtual 316, 3) := dk_182 1 60 (dk_at dksL_law_119 18 rfl rfl)
theorem dL_law_2997 : decode cL_law 2997 = .ok (.istore 7, 2) := dk_54 7 (dk_at dksL_law_119 21 rfl rfl)
theorem dL_law_2999 : decode cL_law 2999 = .ok (.aload_n 2, 1) := dk_44 (dk_at dksL_law_119 23 rfl rfl)
theorem dL_law_3000 : decode cL_law 3000 = .ok (.invokevirtual 172, 3) := dk_182 0 172 (dk_at dksL_law_120 0 rfl rfl)
theorem dL_law_3003 : decode cL_law 3003 = .ok (.iload 6, 2) := dk_21 6 (dk_at dksL_law_120 3 rfl rfl)
theorem dL_law_3005 : decode cL_law 3005 = .ok (.if_icmp .eq 5, 3) := dk_159 0 5 (dk_at dksL_law_120 5 rfl rfl)
theorem dL_law_3008 : decode cL_law 3008 = .ok (.iconst 0, 1) := dk_3 (dk_at dksL_law_120 8 rfl rfl)
theorem dL_law_3009 : decode cL_law 3009 = .ok (.ireturn, 1) := dk_172 (dk_at dksL_law_120 9 rfl rfl)
theorem dL_law_3010 : decode cL_law 3010 = .ok (.iload 6, 2) := dk_21 6 (dk_at dksL_law_120 10 rfl rfl)
theorem dL_law_3012 : decode cL_law 3012 = .ok (.ifCond .ne 15, 3) := dk_154 0 15 (dk_at dksL_law_120 12 rfl rfl)
theorem dL_law_3015 : decode cL_law 3015 = .ok (.aload_n 3, 1) := dk_45 (dk_at dksL_law_120 15 rfl rfl)
theorem dL_law_3016 : decode cL_law 3016 = .ok (.iconst 0, 1) := dk_3 (dk_at dksL_law_120 16 rfl rfl)
theorem dL_law_3017 : decode cL_law 3017 = .ok (.laload, 1) := dk_47 (dk_at dksL_law_120 17 rfl rfl)
theorem dL_law_3018 : decode cL_law 3018 = .ok (.iload 7, 2) := dk_21 7 (dk_at dksL_law_120 18 rfl rfl)
theorem dL_law_3020 : decode cL_law 3020 = .ok (.i2l, 1) := dk_133 (dk_at dksL_law_120 20 rfl rfl)
theorem dL_law_3021 : decode cL_law 3021 = .ok (.lcmp, 1) := dk_148 (dk_at dksL_law_120 21 rfl rfl)
theorem dL_law_3022 : decode cL_law 3022 = .ok (.ifCond .eq 5, 3) := dk_153 0 5 (dk_at dksL_law_121 0 rfl rfl)
theorem dL_law_3025 : decode cL_law 3025 = .ok (.iconst 0, 1) := dk_3 (dk_at dksL_law_121 3 rfl rfl)
theorem dL_law_3026 : decode cL_law 3026 = .ok (.ireturn, 1) := dk_172 (dk_at dksL_law_121 4 rfl rfl)
theorem dL_law_3027 : decode cL_law 3027 = .ok (.goto 196, 3) := dk_167 0 196 (dk_at dksL_law_121 5 rfl rfl)
theorem dL_law_3030 : decode cL_law 3030 = .ok (.aload_n 1, 1) := dk_43 (dk_at dksL_law_121 8 rfl rfl)
theorem dL_law_3031 : decode cL_law 3031 = .ok (.aload_n 0, 1) := dk_42 (dk_at dksL_law_121 9 rfl rfl)
theorem dL_law_3032 : decode cL_law 3032 = .ok (.iload 5, 2) := dk_21 5 (dk_at dksL_law_121 10 rfl rfl)
theorem dL_law_3034 : decode cL_law 3034 = .ok (.iconst 1, 1) := dk_4 (dk_at dksL_law_121 12 rfl rfl)
theorem dL_law_3035 : decode cL_law 3035 = .ok (.iadd, 1) := dk_96 (dk_at dksL_law_121 13 rfl rfl)
theorem dL_law_3036 : decode cL_law 3036 = .ok (.iaload, 1) := dk_46 (dk_at dksL_law_121 14 rfl rfl)
theorem dL_law_3037 : decode cL_law 3037 = .ok (.aload_n 0, 1) := dk_42 (dk_at dksL_law_121 15 rfl rfl)
theorem dL_law_3038 : decode cL_law 3038 = .ok (.iload 5, 2) := dk_21 5 (dk_at dksL_law_121 16 rfl rfl)
theorem dL_law_3040 : decode cL_law 3040 = .ok (.iconst 2, 1) := dk_5 (dk_at dksL_law_121 18 rfl rfl)
theorem dL_law_3041 : decode cL_law 3041 = .ok (.iadd, 1) := dk_96 (dk_at dksL_law_121 19 rfl rfl)
theorem dL_law_3042 : decode cL_law 3042 = .ok (.iaload, 1) := dk_46 (dk_at dksL_law_121 20 rfl rfl)
theorem dL_law_3043 : decode cL_law 3043 = .ok (.aload_n 3, 1) := dk_45 (dk_at dksL_law_121 21 rfl rfl)
theorem dL_law_3044 : decode cL_law 3044 = .ok (.invokestatic 317, 3) := dk_184 1 61 (dk_at dksL_law_122 0 rfl rfl)
theorem dL_law_3047 : decode cL_law 3047 = .ok (.istore 6, 2) := dk_54 6 (dk_at dksL_law_122 3 rfl rfl)
theorem dL_law_3049 : decode cL_law 3049 = .ok (.aload_n 2, 1) := dk_44 (dk_at dksL_law_122 5 rfl rfl)
theorem dL_law_3050 : decode cL_law 3050 = .ok (.aload_n 0, 1) := dk_42 (dk_at dksL_law_122 6 rfl rfl)
theorem dL_law_3051 : decode cL_law 3051 = .ok (.iload 5, 2) := dk_21 5 (dk_at dksL_law_122 7 rfl rfl)
theorem dL_law_3053 : decode cL_law 3053 = .ok (.iconst 1, 1) := dk_4 (dk_at dksL_law_122 9 rfl rfl)
theorem dL_law_3054 : decode cL_law 3054 = .ok (.iadd, 1) := dk_96 (dk_at dksL_law_122 10 rfl rfl)
theorem dL_law_3055 : decode cL_law 3055 = .ok (.iaload, 1) := dk_46 (dk_at dksL_law_122 11 rfl rfl)
theorem dL_law_3056 : decode cL_law 3056 = .ok (.aload_n 0, 1) := dk_42 (dk_at dksL_law_122 12 rfl rfl)
theorem dL_law_3057 : decode cL_law 3057 = .ok (.iload 5, 2) := dk_21 5 (dk_at dksL_law_122 13 rfl rfl)
theorem dL_law_3059 : decode cL_law 3059 = .ok (.iconst 2, 1) := dk_5 (dk_at dksL_law_122 15 rfl rfl)
theorem dL_law_3060 : decode cL_law 3060 = .ok (.iadd, 1) := dk_96 (dk_at dksL_law_122 16 rfl rfl)
theorem dL_law_3061 : decode cL_law 3061 = .ok (.iaload, 1) := dk_46 (dk_at dksL_law_122 17 rfl rfl)
theorem dL_law_3062 : decode cL_law 3062 = .ok (.invokevirtual 319, 3) := dk_182 1 63 (dk_at dksL_law_122 18 rfl rfl)
theorem dL_law_3065 : decode cL_law 3065 = .ok (.istore 7, 2) := dk_54 7 (dk_at dksL_law_122 21 rfl rfl)
theorem dL_law_3067 : decode cL_law 3067 = .ok (.aload_n 2, 1) := dk_44 (dk_at dksL_law_122 23 rfl rfl)
theorem dL_law_3068 : decode cL_law 3068 = .ok (.invokevirtual 172, 3) := dk_182 0 172 (dk_at dksL_law_123 0 rfl rfl)
theorem dL_law_3071 : decode cL_law 3071 = .ok (.iload 6, 2) := dk_21 6 (dk_at dksL_law_123 3 rfl rfl)
theorem dL_law_3073 : decode cL_law 3073 = .ok (.if_icmp .eq 5, 3) := dk_159 0 5 (dk_at dksL_law_123 5 rfl rfl)
theorem dL_law_3076 : decode cL_law 3076 = .ok (.iconst 0, 1) := dk_3 (dk_at dksL_law_123 8 rfl rfl)
theorem dL_law_3077 : decode cL_law 3077 = .ok (.ireturn, 1) := dk_172 (dk_at dksL_law_123 9 rfl rfl)
theorem dL_law_3078 : decode cL_law 3078 = .ok (.iload 6, 2) := dk_21 6 (dk_at dksL_law_123 10 rfl rfl)
theorem dL_law_3080 : decode cL_law 3080 = .ok (.ifCond .ne 15, 3) := dk_154 0 15 (dk_at dksL_law_123 12 rfl rfl)
theorem dL_law_3083 : decode cL_law 3083 = .ok (.aload_n 3, 1) := dk_45 (dk_at dksL_law_123 15 rfl rfl)
theorem dL_law_3084 : decode cL_law 3084 = .ok (.iconst 0, 1) := dk_3 (dk_at dksL_law_123 16 rfl rfl)
theorem dL_law_3085 : decode cL_law 3085 = .ok (.laload, 1) := dk_47 (dk_at dksL_law_123 17 rfl rfl)
theorem dL_law_3086 : decode cL_law 3086 = .ok (.iload 7, 2) := dk_21 7 (dk_at dksL_law_123 18 rfl rfl)
theorem dL_law_3088 : decode cL_law 3088 = .ok (.i2l, 1) := dk_133 (dk_at dksL_law_123 20 rfl rfl)
theorem dL_law_3089 : decode cL_law 3089 = .ok (.lcmp, 1) := dk_148 (dk_at dksL_law_123 21 rfl rfl)
theorem dL_law_3090 : decode cL_law 3090 = .ok (.ifCond .eq 5, 3) := dk_153 0 5 (dk_at dksL_law_124 0 rfl rfl)
theorem dL_law_3093 : decode cL_law 3093 = .ok (.iconst 0, 1) := dk_3 (dk_at dksL_law_124 3 rfl rfl)
theorem dL_law_3094 : decode cL_law 3094 = .ok (.ireturn, 1) := dk_172 (dk_at dksL_law_124 4 rfl rfl)
theorem dL_law_3095 : decode cL_law 3095 = .ok (.goto 128, 3) := dk_167 0 128 (dk_at dksL_law_124 5 rfl rfl)
theorem dL_law_3098 : decode cL_law 3098 = .ok (.aload_n 1, 1) := dk_43 (dk_at dksL_law_124 8 rfl rfl)
theorem dL_law_3099 : decode cL_law 3099 = .ok (.invokevirtual 320, 3) := dk_182 1 64 (dk_at dksL_law_124 9 rfl rfl)
theorem dL_law_3102 : decode cL_law 3102 = .ok (.aload_n 2, 1) := dk_44 (dk_at dksL_law_124 12 rfl rfl)
theorem dL_law_3103 : decode cL_law 3103 = .ok (.invokevirtual 323, 3) := dk_182 1 67 (dk_at dksL_law_124 13 rfl rfl)
theorem dL_law_3106 : decode cL_law 3106 = .ok (.if_icmp .eq 117, 3) := dk_159 0 117 (dk_at dksL_law_124 16 rfl rfl)
theorem dL_law_3109 : decode cL_law 3109 = .ok (.iconst 0, 1) := dk_3 (dk_at dksL_law_124 19 rfl rfl)
theorem dL_law_3110 : decode cL_law 3110 = .ok (.ireturn, 1) := dk_172 (dk_at dksL_law_124 20 rfl rfl)
theorem dL_law_3111 : decode cL_law 3111 = .ok (.aload_n 1, 1) := dk_43 (dk_at dksL_law_124 21 rfl rfl)
theorem dL_law_3112 : decode cL_law 3112 = .ok (.aload_n 0, 1) := dk_42 (dk_at dksL_law_124 22 rfl rfl)
theorem dL_law_3113 : decode cL_law 3113 = .ok (.iload 5, 2) := dk_21 5 (dk_at dksL_law_125 0 rfl rfl)
theorem dL_law_3115 : decode cL_law 3115 = .ok (.iconst 1, 1) := dk_4 (dk_at dksL_law_125 2 rfl rfl)
theorem dL_law_3116 : decode cL_law 3116 = .ok (.iadd, 1) := dk_96 (dk_at dksL_law_125 3 rfl rfl)
theorem dL_law_3117 : decode cL_law 3117 = .ok (.iaload, 1) := dk_46 (dk_at dksL_law_125 4 rfl rfl)
theorem dL_law_3118 : decode cL_law 3118 = .ok (.aload_n 3, 1) := dk_45 (dk_at dksL_law_125 5 rfl rfl)
theorem dL_law_3119 : decode cL_law 3119 = .ok (.invokestatic 324, 3) := dk_184 1 68 (dk_at dksL_law_125 6 rfl rfl)
theorem dL_law_3122 : decode cL_law 3122 = .ok (.istore 6, 2) := dk_54 6 (dk_at dksL_law_125 9 rfl rfl)
theorem dL_law_3124 : decode cL_law 3124 = .ok (.aload_n 2, 1) := dk_44 (dk_at dksL_law_125 11 rfl rfl)
theorem dL_law_3125 : decode cL_law 3125 = .ok (.aload_n 0, 1) := dk_42 (dk_at dksL_law_125 12 rfl rfl)
theorem dL_law_3126 : decode cL_law 3126 = .ok (.iload 5, 2) := dk_21 5 (dk_at dksL_law_125 13 rfl rfl)
theorem dL_law_3128 : decode cL_law 3128 = .ok (.iconst 1, 1) := dk_4 (dk_at dksL_law_125 15 rfl rfl)
theorem dL_law_3129 : decode cL_law 3129 = .ok (.iadd, 1) := dk_96 (dk_at dksL_law_125 16 rfl rfl)
theorem dL_law_3130 : decode cL_law 3130 = .ok (.iaload, 1) := dk_46 (dk_at dksL_law_125 17 rfl rfl)
theorem dL_law_3131 : decode cL_law 3131 = .ok (.invokevirtual 326, 3) := dk_182 1 70 (dk_at dksL_law_125 18 rfl rfl)
theorem dL_law_3134 : decode cL_law 3134 = .ok (.istore 7, 2) := dk_54 7 (dk_at dksL_law_125 21 rfl rfl)
theorem dL_law_3136 : decode cL_law 3136 = .ok (.aload_n 2, 1) := dk_44 (dk_at dksL_law_125 23 rfl rfl)
theorem dL_law_3137 : decode cL_law 3137 = .ok (.invokevirtual 172, 3) := dk_182 0 172 (dk_at dksL_law_126 0 rfl rfl)
theorem dL_law_3140 : decode cL_law 3140 = .ok (.iload 6, 2) := dk_21 6 (dk_at dksL_law_126 3 rfl rfl)
theorem dL_law_3142 : decode cL_law 3142 = .ok (.if_icmp .eq 5, 3) := dk_159 0 5 (dk_at dksL_law_126 5 rfl rfl)
theorem dL_law_3145 : decode cL_law 3145 = .ok (.iconst 0, 1) := dk_3 (dk_at dksL_law_126 8 rfl rfl)
theorem dL_law_3146 : decode cL_law 3146 = .ok (.ireturn, 1) := dk_172 (dk_at dksL_law_126 9 rfl rfl)
theorem dL_law_3147 : decode cL_law 3147 = .ok (.iload 6, 2) := dk_21 6 (dk_at dksL_law_126 10 rfl rfl)
theorem dL_law_3149 : decode cL_law 3149 = .ok (.ifCond .ne 15, 3) := dk_154 0 15 (dk_at dksL_law_126 12 rfl rfl)
theorem dL_law_3152 : decode cL_law 3152 = .ok (.aload_n 3, 1) := dk_45 (dk_at dksL_law_126 15 rfl rfl)
theorem dL_law_3153 : decode cL_law 3153 = .ok (.iconst 0, 1) := dk_3 (dk_at dksL_law_126 16 rfl rfl)
theorem dL_law_3154 : decode cL_law 3154 = .ok (.laload, 1) := dk_47 (dk_at dksL_law_126 17 rfl rfl)
theorem dL_law_3155 : decode cL_law 3155 = .ok (.iload 7, 2) := dk_21 7 (dk_at dksL_law_126 18 rfl rfl)
theorem dL_law_3157 : decode cL_law 3157 = .ok (.i2l, 1) := dk_133 (dk_at dksL_law_126 20 rfl rfl)
theorem dL_law_3158 : decode cL_law 3158 = .ok (.lcmp, 1) := dk_148 (dk_at dksL_law_126 21 rfl rfl)
theorem dL_law_3159 : decode cL_law 3159 = .ok (.ifCond .eq 5, 3) := dk_153 0 5 (dk_at dksL_law_127 0 rfl rfl)
theorem dL_law_3162 : decode cL_law 3162 = .ok (.iconst 0, 1) := dk_3 (dk_at dksL_law_127 3 rfl rfl)
theorem dL_law_3163 : decode cL_law 3163 = .ok (.ireturn, 1) := dk_172 (dk_at dksL_law_127 4 rfl rfl)
theorem dL_law_3164 : decode cL_law 3164 = .ok (.goto 59, 3) := dk_167 0 59 (dk_at dksL_law_127 5 rfl rfl)
theorem dL_law_3167 : decode cL_law 3167 = .ok (.aload_n 1, 1) := dk_43 (dk_at dksL_law_127 8 rfl rfl)
theorem dL_law_3168 : decode cL_law 3168 = .ok (.aload_n 0, 1) := dk_42 (dk_at dksL_law_127 9 rfl rfl)
theorem dL_law_3169 : decode cL_law 3169 = .ok (.iload 5, 2) := dk_21 5 (dk_at dksL_law_127 10 rfl rfl)
theorem dL_law_3171 : decode cL_law 3171 = .ok (.iconst 1, 1) := dk_4 (dk_at dksL_law_127 12 rfl rfl)
theorem dL_law_3172 : decode cL_law 3172 = .ok (.iadd, 1) := dk_96 (dk_at dksL_law_127 13 rfl rfl)
theorem dL_law_3173 : decode cL_law 3173 = .ok (.iaload, 1) := dk_46 (dk_at dksL_law_127 14 rfl rfl)
theorem dL_law_3174 : decode cL_law 3174 = .ok (.aload_n 3, 1) := dk_45 (dk_at dksL_law_127 15 rfl rfl)
theorem dL_law_3175 : decode cL_law 3175 = .ok (.invokestatic 327, 3) := dk_184 1 71 (dk_at dksL_law_127 16 rfl rfl)
theorem dL_law_3178 : decode cL_law 3178 = .ok (.istore 6, 2) := dk_54 6 (dk_at dksL_law_127 19 rfl rfl)
theorem dL_law_3180 : decode cL_law 3180 = .ok (.aload_n 2, 1) := dk_44 (dk_at dksL_law_127 21 rfl rfl)
theorem dL_law_3181 : decode cL_law 3181 = .ok (.aload_n 0, 1) := dk_42 (dk_at dksL_law_127 22 rfl rfl)
theorem dL_law_3182 : decode cL_law 3182 = .ok (.iload 5, 2) := dk_21 5 (dk_at dksL_law_128 0 rfl rfl)
theorem dL_law_3184 : decode cL_law 3184 = .ok (.iconst 1, 1) := dk_4 (dk_at dksL_law_128 2 rfl rfl)
theorem dL_law_3185 : decode cL_law 3185 = .ok (.iadd, 1) := dk_96 (dk_at dksL_law_128 3 rfl rfl)
theorem dL_law_3186 : decode cL_law 3186 = .ok (.iaload, 1) := dk_46 (dk_at dksL_law_128 4 rfl rfl)
theorem dL_law_3187 : decode cL_law 3187 = .ok (.invokevirtual 329, 3) := dk_182 1 73 (dk_at dksL_law_128 5 rfl rfl)
theorem dL_law_3190 : decode cL_law 3190 = .ok (.istore 7, 2) := dk_54 7 (dk_at dksL_law_128 8 rfl rfl)
theorem dL_law_3192 : decode cL_law 3192 = .ok (.aload_n 2, 1) := dk_44 (dk_at dksL_law_128 10 rfl rfl)
theorem dL_law_3193 : decode cL_law 3193 = .ok (.invokevirtual 172, 3) := dk_182 0 172 (dk_at dksL_law_128 11 rfl rfl)
theorem dL_law_3196 : decode cL_law 3196 = .ok (.iload 6, 2) := dk_21 6 (dk_at dksL_law_128 14 rfl rfl)
theorem dL_law_3198 : decode cL_law 3198 = .ok (.if_icmp .eq 5, 3) := dk_159 0 5 (dk_at dksL_law_128 16 rfl rfl)
theorem dL_law_3201 : decode cL_law 3201 = .ok (.iconst 0, 1) := dk_3 (dk_at dksL_law_128 19 rfl rfl)
theorem dL_law_3202 : decode cL_law 3202 = .ok (.ireturn, 1) := dk_172 (dk_at dksL_law_128 20 rfl rfl)
theorem dL_law_3203 : decode cL_law 3203 = .ok (.iload 6, 2) := dk_21 6 (dk_at dksL_law_128 21 rfl rfl)
theorem dL_law_3205 : decode cL_law 3205 = .ok (.ifCond .ne 15, 3) := dk_154 0 15 (dk_at dksL_law_129 0 rfl rfl)
theorem dL_law_3208 : decode cL_law 3208 = .ok (.aload_n 3, 1) := dk_45 (dk_at dksL_law_129 3 rfl rfl)
theorem dL_law_3209 : decode cL_law 3209 = .ok (.iconst 0, 1) := dk_3 (dk_at dksL_law_129 4 rfl rfl)
theorem dL_law_3210 : decode cL_law 3210 = .ok (.laload, 1) := dk_47 (dk_at dksL_law_129 5 rfl rfl)
theorem dL_law_3211 : decode cL_law 3211 = .ok (.iload 7, 2) := dk_21 7 (dk_at dksL_law_129 6 rfl rfl)
theorem dL_law_3213 : decode cL_law 3213 = .ok (.i2l, 1) := dk_133 (dk_at dksL_law_129 8 rfl rfl)
theorem dL_law_3214 : decode cL_law 3214 = .ok (.lcmp, 1) := dk_148 (dk_at dksL_law_129 9 rfl rfl)
theorem dL_law_3215 : decode cL_law 3215 = .ok (.ifCond .eq 5, 3) := dk_153 0 5 (dk_at dksL_law_129 10 rfl rfl)
theorem dL_law_3218 : decode cL_law 3218 = .ok (.iconst 0, 1) := dk_3 (dk_at dksL_law_129 13 rfl rfl)
theorem dL_law_3219 : decode cL_law 3219 = .ok (.ireturn, 1) := dk_172 (dk_at dksL_law_129 14 rfl rfl)
theorem dL_law_3220 : decode cL_law 3220 = .ok (.goto 3, 3) := dk_167 0 3 (dk_at dksL_law_129 15 rfl rfl)
theorem dL_law_3223 : decode cL_law 3223 = .ok (.iinc 5 7, 3) := dk_132 5 7 (dk_at dksL_law_129 18 rfl rfl)
theorem dL_law_3226 : decode cL_law 3226 = .ok (.goto (-3198), 3) := dk_167 243 130 (dk_at dksL_law_129 21 rfl rfl)
theorem dL_law_3229 : decode cL_law 3229 = .ok (.iconst 1, 1) := dk_4 (dk_at dksL_law_130 0 rfl rfl)
theorem dL_law_3230 : decode cL_law 3230 = .ok (.ireturn, 1) := dk_172 (dk_at dksL_law_130 1 rfl rfl)

