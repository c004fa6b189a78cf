/-! BakeryPlanLaw -/
set_option maxRecDepth 100000
def RX0 : String := "BakeryPlanLaw"
abbrev cX0_append : ByteArray := method_3_code
def yX0_append : MethodName := ⟨RX0, "append", "(LBakeryPlan;IIIII[J)I"⟩
def dkwX0_append_1 : List UInt8 := [172]
abbrev dktX0_append_1 : List UInt8 := dkwX0_append_1 ++ []
def dkwX0_append_0 : List UInt8 := [25, 6, 3, 42, 27, 28, 29, 21, 4, 21, 5, 182, 0, 7, 133, 80, 167, 0, 7, 58, 7, 4, 172, 3]
abbrev dktX0_append_0 : List UInt8 := dkwX0_append_0 ++ dktX0_append_1
theorem dksX0_append_0 : cX0_append.data.toList.drop 0 = dktX0_append_0 := by decide +kernel
theorem dksX0_append_1 : cX0_append.data.toList.drop 24 = dktX0_append_1 := dk_seg dksX0_append_0 24 rfl rfl
theorem dX0_append_0 : decode cX0_append 0 = .ok (.aload 6, 2) := dk_25 6 (dk_at dksX0_append_0 0 rfl rfl)
theorem dX0_append_2 : decode cX0_append 2 = .ok (.iconst 0, 1) := dk_3 (dk_at dksX0_append_0 2 rfl rfl)
theorem dX0_append_3 : decode cX0_append 3 = .ok (.aload_n 0, 1) := dk_42 (dk_at dksX0_append_0 3 rfl rfl)
theorem dX0_append_4 : decode cX0_append 4 = .ok (.iload_n 1, 1) := dk_27 (dk_at dksX0_append_0 4 rfl rfl)
theorem dX0_append_5 : decode cX0_append 5 = .ok (.iload_n 2, 1) := dk_28 (dk_at dksX0_append_0 5 rfl rfl)
theorem dX0_append_6 : decode cX0_append 6 = .ok (.iload_n 3, 1) := dk_29 (dk_at dksX0_append_0 6 rfl rfl)
theorem dX0_append_7 : decode cX0_append 7 = .ok (.iload 4, 2) := dk_21 4 (dk_at dksX0_append_0 7 rfl rfl)
theorem dX0_append_9 : decode cX0_append 9 = .ok (.iload 5, 2) := dk_21 5 (dk_at dksX0_append_0 9 rfl rfl)
theorem dX0_append_11 : decode cX0_append 11 = .ok (.invokevirtual 7, 3) := dk_182 0 7 (dk_at dksX0_append_0 11 rfl rfl)
theorem dX0_append_14 : decode cX0_append 14 = .ok (.i2l, 1) := dk_133 (dk_at dksX0_append_0 14 rfl rfl)
theorem dX0_append_15 : decode cX0_append 15 = .ok (.lastore, 1) := dk_80 (dk_at dksX0_append_0 15 rfl rfl)
theorem dX0_append_16 : decode cX0_append 16 = .ok (.goto 7, 3) := dk_167 0 7 (dk_at dksX0_append_0 16 rfl rfl)
theorem dX0_append_19 : decode cX0_append 19 = .ok (.astore 7, 2) := dk_58 7 (dk_at dksX0_append_0 19 rfl rfl)
theorem dX0_append_21 : decode cX0_append 21 = .ok (.iconst 1, 1) := dk_4 (dk_at dksX0_append_0 21 rfl rfl)
theorem dX0_append_22 : decode cX0_append 22 = .ok (.ireturn, 1) := dk_172 (dk_at dksX0_append_0 22 rfl rfl)
theorem dX0_append_23 : decode cX0_append 23 = .ok (.iconst 0, 1) := dk_3 (dk_at dksX0_append_0 23 rfl rfl)
theorem dX0_append_24 : decode cX0_append 24 = .ok (.ireturn, 1) := dk_172 (dk_at dksX0_append_1 0 rfl rfl)
abbrev cX0_truncate : ByteArray := method_4_code
def yX0_truncate : MethodName := ⟨RX0, "truncate", "(LBakeryPlan;I)I"⟩
def dkwX0_truncate_0 : List UInt8 := [42, 27, 182, 0, 15, 167, 0, 6, 77, 4, 172, 3, 172]
abbrev dktX0_truncate_0 : List UInt8 := dkwX0_truncate_0 ++ []
theorem dksX0_truncate_0 : cX0_truncate.data.toList.drop 0 = dktX0_truncate_0 := by decide +kernel
theorem dX0_truncate_0 : decode cX0_truncate 0 = .ok (.aload_n 0, 1) := dk_42 (dk_at dksX0_truncate_0 0 rfl rfl)
theorem dX0_truncate_1 : decode cX0_truncate 1 = .ok (.iload_n 1, 1) := dk_27 (dk_at dksX0_truncate_0 1 rfl rfl)
theorem dX0_truncate_2 : decode cX0_truncate 2 = .ok (.invokevirtual 15, 3) := dk_182 0 15 (dk_at dksX0_truncate_0 2 rfl rfl)
theorem dX0_truncate_5 : decode cX0_truncate 5 = .ok (.goto 6, 3) := dk_167 0 6 (dk_at dksX0_truncate_0 5 rfl rfl)
theorem dX0_truncate_8 : decode cX0_truncate 8 = .ok (.astore_n 2, 1) := dk_77 (dk_at dksX0_truncate_0 8 rfl rfl)
theorem dX0_truncate_9 : decode cX0_truncate 9 = .ok (.iconst 1, 1) := dk_4 (dk_at dksX0_truncate_0 9 rfl rfl)
theorem dX0_truncate_10 : decode cX0_truncate 10 = .ok (.ireturn, 1) := dk_172 (dk_at dksX0_truncate_0 10 rfl rfl)
theorem dX0_truncate_11 : decode cX0_truncate 11 = .ok (.iconst 0, 1) := dk_3 (dk_at dksX0_truncate_0 11 rfl rfl)
theorem dX0_truncate_12 : decode cX0_truncate 12 = .ok (.ireturn, 1) := dk_172 (dk_at dksX0_truncate_0 12 rfl rfl)
abbrev cX0_load : ByteArray := method_5_code
def yX0_load : MethodName := ⟨RX0, "load", "(LBakeryPlan;[J)I"⟩
def dkwX0_load_0 : List UInt8 := [43, 3, 42, 182, 0, 21, 133, 80, 167, 0, 6, 77, 4, 172, 3, 172]
abbrev dktX0_load_0 : List UInt8 := dkwX0_load_0 ++ []
theorem dksX0_load_0 : cX0_load.data.toList.drop 0 = dktX0_load_0 := by decide +kernel
theorem dX0_load_0 : decode cX0_load 0 = .ok (.aload_n 1, 1) := dk_43 (dk_at dksX0_load_0 0 rfl rfl)
theorem dX0_load_1 : decode cX0_load 1 = .ok (.iconst 0, 1) := dk_3 (dk_at dksX0_load_0 1 rfl rfl)
theorem dX0_load_2 : decode cX0_load 2 = .ok (.aload_n 0, 1) := dk_42 (dk_at dksX0_load_0 2 rfl rfl)
theorem dX0_load_3 : decode cX0_load 3 = .ok (.invokevirtual 21, 3) := dk_182 0 21 (dk_at dksX0_load_0 3 rfl rfl)
theorem dX0_load_6 : decode cX0_load 6 = .ok (.i2l, 1) := dk_133 (dk_at dksX0_load_0 6 rfl rfl)
theorem dX0_load_7 : decode cX0_load 7 = .ok (.lastore, 1) := dk_80 (dk_at dksX0_load_0 7 rfl rfl)
theorem dX0_load_8 : decode cX0_load 8 = .ok (.goto 6, 3) := dk_167 0 6 (dk_at dksX0_load_0 8 rfl rfl)
theorem dX0_load_11 : decode cX0_load 11 = .ok (.astore_n 2, 1) := dk_77 (dk_at dksX0_load_0 11 rfl rfl)
theorem dX0_load_12 : decode cX0_load 12 = .ok (.iconst 1, 1) := dk_4 (dk_at dksX0_load_0 12 rfl rfl)
theorem dX0_load_13 : decode cX0_load 13 = .ok (.ireturn, 1) := dk_172 (dk_at dksX0_load_0 13 rfl rfl)
theorem dX0_load_14 : decode cX0_load 14 = .ok (.iconst 0, 1) := dk_3 (dk_at dksX0_load_0 14 rfl rfl)
theorem dX0_load_15 : decode cX0_load 15 = .ok (.ireturn, 1) := dk_172 (dk_at dksX0_load_0 15 rfl rfl)
abbrev cX0_waveMinute : ByteArray := method_6_code
def yX0_waveMinute : MethodName := ⟨RX0, "waveMinute", "(LBakeryPlan;I[J)I"⟩
def dkwX0_waveMinute_0 : List UInt8 := [44, 3, 42, 27, 182, 0, 25, 133, 80, 167, 0, 6, 78, 4, 172, 3, 172]
abbrev dktX0_waveMinute_0 : List UInt8 := dkwX0_waveMinute_0 ++ []
theorem dksX0_waveMinute_0 : cX0_waveMinute.data.toList.drop 0 = dktX0_waveMinute_0 := by decide +kernel
theorem dX0_waveMinute_0 : decode cX0_waveMinute 0 = .ok (.aload_n 2, 1) := dk_44 (dk_at dksX0_waveMinute_0 0 rfl rfl)
theorem dX0_waveMinute_1 : decode cX0_waveMinute 1 = .ok (.iconst 0, 1) := dk_3 (dk_at dksX0_waveMinute_0 1 rfl rfl)
theorem dX0_waveMinute_2 : decode cX0_waveMinute 2 = .ok (.aload_n 0, 1) := dk_42 (dk_at dksX0_waveMinute_0 2 rfl rfl)
theorem dX0_waveMinute_3 : decode cX0_waveMinute 3 = .ok (.iload_n 1, 1) := dk_27 (dk_at dksX0_waveMinute_0 3 rfl rfl)
theorem dX0_waveMinute_4 : decode cX0_waveMinute 4 = .ok (.invokevirtual 25, 3) := dk_182 0 25 (dk_at dksX0_waveMinute_0 4 rfl rfl)
theorem dX0_waveMinute_7 : decode cX0_waveMinute 7 = .ok (.i2l, 1) := dk_133 (dk_at dksX0_waveMinute_0 7 rfl rfl)
theorem dX0_waveMinute_8 : decode cX0_waveMinute 8 = .ok (.lastore, 1) := dk_80 (dk_at dksX0_waveMinute_0 8 rfl rfl)
theorem dX0_waveMinute_9 : decode cX0_waveMinute 9 = .ok (.goto 6, 3) := dk_167 0 6 (dk_at dksX0_waveMinute_0 9 rfl rfl)
theorem dX0_waveMinute_12 : decode cX0_waveMinute 12 = .ok (.astore_n 3, 1) := dk_78 (dk_at dksX0_waveMinute_0 12 rfl rfl)
theorem dX0_waveMinute_13 : decode cX0_waveMinute 13 = .ok (.iconst 1, 1) := dk_4 (dk_at dksX0_waveMinute_0 13 rfl rfl)
theorem dX0_waveMinute_14 : decode cX0_waveMinute 14 = .ok (.ireturn, 1) := dk_172 (dk_at dksX0_waveMinute_0 14 rfl rfl)
theorem dX0_waveMinute_15 : decode cX0_waveMinute 15 = .ok (.iconst 0, 1) := dk_3 (dk_at dksX0_waveMinute_0 15 rfl rfl)
theorem dX0_waveMinute_16 : decode cX0_waveMinute 16 = .ok (.ireturn, 1) := dk_172 (dk_at dksX0_waveMinute_0 16 rfl rfl)
abbrev cX0_productOf : ByteArray := method_7_code
def yX0_productOf : MethodName := ⟨RX0, "productOf", "(LBakeryPlan;I[J)I"⟩
def dkwX0_productOf_0 : List UInt8 := [44, 3, 42, 27, 182, 0, 31, 133, 80, 167, 0, 6, 78, 4, 172, 3, 172]
abbrev dktX0_productOf_0 : List UInt8 := dkwX0_productOf_0 ++ []
theorem dksX0_productOf_0 : cX0_productOf.data.toList.drop 0 = dktX0_productOf_0 := by decide +kernel
theorem dX0_productOf_0 : decode cX0_productOf 0 = .ok (.aload_n 2, 1) := dk_44 (dk_at dksX0_productOf_0 0 rfl rfl)
theorem dX0_productOf_1 : decode cX0_productOf 1 = .ok (.iconst 0, 1) := dk_3 (dk_at dksX0_productOf_0 1 rfl rfl)
theorem dX0_productOf_2 : decode cX0_productOf 2 = .ok (.aload_n 0, 1) := dk_42 (dk_at dksX0_productOf_0 2 rfl rfl)
theorem dX0_productOf_3 : decode cX0_productOf 3 = .ok (.iload_n 1, 1) := dk_27 (dk_at dksX0_productOf_0 3 rfl rfl)
theorem dX0_productOf_4 : decode cX0_productOf 4 = .ok (.invokevirtual 31, 3) := dk_182 0 31 (dk_at dksX0_productOf_0 4 rfl rfl)
theorem dX0_productOf_7 : decode cX0_productOf 7 = .ok (.i2l, 1) := dk_133 (dk_at dksX0_productOf_0 7 rfl rfl)
theorem dX0_productOf_8 : decode cX0_productOf 8 = .ok (.lastore, 1) := dk_80 (dk_at dksX0_productOf_0 8 rfl rfl)
theorem dX0_productOf_9 : decode cX0_productOf 9 = .ok (.goto 6, 3) := dk_167 0 6 (dk_at dksX0_productOf_0 9 rfl rfl)
theorem dX0_productOf_12 : decode cX0_productOf 12 = .ok (.astore_n 3, 1) := dk_78 (dk_at dksX0_productOf_0 12 rfl rfl)
theorem dX0_productOf_13 : decode cX0_productOf 13 = .ok (.iconst 1, 1) := dk_4 (dk_at dksX0_productOf_0 13 rfl rfl)
theorem dX0_productOf_14 : decode cX0_productOf 14 = .ok (.ireturn, 1) := dk_172 (dk_at dksX0_productOf_0 14 rfl rfl)
theorem dX0_productOf_15 : decode cX0_productOf 15 = .ok (.iconst 0, 1) := dk_3 (dk_at dksX0_productOf_0 15 rfl rfl)
theorem dX0_productOf_16 : decode cX0_productOf 16 = .ok (.ireturn, 1) := dk_172 (dk_at dksX0_productOf_0 16 rfl rfl)
abbrev cX0_startOf : ByteArray := method_8_code
def yX0_startOf : MethodName := ⟨RX0, "startOf", "(LBakeryPlan;I[J)I"⟩
def dkwX0_startOf_0 : List UInt8 := [44, 3, 42, 27, 182, 0, 34, 133, 80, 167, 0, 6, 78, 4, 172, 3, 172]
abbrev dktX0_startOf_0 : List UInt8 := dkwX0_startOf_0 ++ []
theorem dksX0_startOf_0 : cX0_startOf.data.toList.drop 0 = dktX0_startOf_0 := by decide +kernel
theorem dX0_startOf_0 : decode cX0_startOf 0 = .ok (.aload_n 2, 1) := dk_44 (dk_at dksX0_startOf_0 0 rfl rfl)
theorem dX0_startOf_1 : decode cX0_startOf 1 = .ok (.iconst 0, 1) := dk_3 (dk_at dksX0_startOf_0 1 rfl rfl)
theorem dX0_startOf_2 : decode cX0_startOf 2 = .ok (.aload_n 0, 1) := dk_42 (dk_at dksX0_startOf_0 2 rfl rfl)
theorem dX0_startOf_3 : decode cX0_startOf 3 = .ok (.iload_n 1, 1) := dk_27 (dk_at dksX0_startOf_0 3 rfl rfl)
theorem dX0_startOf_4 : decode cX0_startOf 4 = .ok (.invokevirtual 34, 3) := dk_182 0 34 (dk_at dksX0_startOf_0 4 rfl rfl)
theorem dX0_startOf_7 : decode cX0_startOf 7 = .ok (.i2l, 1) := dk_133 (dk_at dksX0_startOf_0 7 rfl rfl)
theorem dX0_startOf_8 : decode cX0_startOf 8 = .ok (.lastore, 1) := dk_80 (dk_at dksX0_startOf_0 8 rfl rfl)
theorem dX0_startOf_9 : decode cX0_startOf 9 = .ok (.goto 6, 3) := dk_167 0 6 (dk_at dksX0_startOf_0 9 rfl rfl)
theorem dX0_startOf_12 : decode cX0_startOf 12 = .ok (.astore_n 3, 1) := dk_78 (dk_at dksX0_startOf_0 12 rfl rfl)
theorem dX0_startOf_13 : decode cX0_startOf 13 = .ok (.iconst 1, 1) := dk_4 (dk_at dksX0_startOf_0 13 rfl rfl)
theorem dX0_startOf_14 : decode cX0_startOf 14 = .ok (.ireturn, 1) := dk_172 (dk_at dksX0_startOf_0 14 rfl rfl)
theorem dX0_startOf_15 : decode cX0_startOf 15 = .ok (.iconst 0, 1) := dk_3 (dk_at dksX0_startOf_0 15 rfl rfl)
theorem dX0_startOf_16 : decode cX0_startOf 16 = .ok (.ireturn, 1) := dk_172 (dk_at dksX0_startOf_0 16 rfl rfl)
abbrev cX0_waveOf : ByteArray := method_9_code
def yX0_waveOf : MethodName := ⟨RX0, "waveOf", "(LBakeryPlan;I[J)I"⟩
def dkwX0_waveOf_0 : List UInt8 := [44, 3, 42, 27, 182, 0, 37, 133, 80, 167, 0, 6, 78, 4, 172, 3, 172]
abbrev dktX0_waveOf_0 : List UInt8 := dkwX0_waveOf_0 ++ []
theorem dksX0_waveOf_0 : cX0_waveOf.data.toList.drop 0 = dktX0_waveOf_0 := by decide +kernel
theorem dX0_waveOf_0 : decode cX0_waveOf 0 = .ok (.aload_n 2, 1) := dk_44 (dk_at dksX0_waveOf_0 0 rfl rfl)
theorem dX0_waveOf_1 : decode cX0_waveOf 1 = .ok (.iconst 0, 1) := dk_3 (dk_at dksX0_waveOf_0 1 rfl rfl)
theorem dX0_waveOf_2 : decode cX0_waveOf 2 = .ok (.aload_n 0, 1) := dk_42 (dk_at dksX0_waveOf_0 2 rfl rfl)
theorem dX0_waveOf_3 : decode cX0_waveOf 3 = .ok (.iload_n 1, 1) := dk_27 (dk_at dksX0_waveOf_0 3 rfl rfl)
theorem dX0_waveOf_4 : decode cX0_waveOf 4 = .ok (.invokevirtual 37, 3) := dk_182 0 37 (dk_at dksX0_waveOf_0 4 rfl rfl)
theorem dX0_waveOf_7 : decode cX0_waveOf 7 = .ok (.i2l, 1) := dk_133 (dk_at dksX0_waveOf_0 7 rfl rfl)
theorem dX0_waveOf_8 : decode cX0_waveOf 8 = .ok (.lastore, 1) := dk_80 (dk_at dksX0_waveOf_0 8 rfl rfl)
theorem dX0_waveOf_9 : decode cX0_waveOf 9 = .ok (.goto 6, 3) := dk_167 0 6 (dk_at dksX0_waveOf_0 9 rfl rfl)
theorem dX0_waveOf_12 : decode cX0_waveOf 12 = .ok (.astore_n 3, 1) := dk_78 (dk_at dksX0_waveOf_0 12 rfl rfl)
theorem dX0_waveOf_13 : decode cX0_waveOf 13 = .ok (.iconst 1, 1) := dk_4 (dk_at dksX0_waveOf_0 13 rfl rfl)
theorem dX0_waveOf_14 : decode cX0_waveOf 14 = .ok (.ireturn, 1) := dk_172 (dk_at dksX0_waveOf_0 14 rfl rfl)
theorem dX0_waveOf_15 : decode cX0_waveOf 15 = .ok (.iconst 0, 1) := dk_3 (dk_at dksX0_waveOf_0 15 rfl rfl)
theorem dX0_waveOf_16 : decode cX0_waveOf 16 = .ok (.ireturn, 1) := dk_172 (dk_at dksX0_waveOf_0 16 rfl rfl)
abbrev cX0_setting : ByteArray := method_10_code
def yX0_setting : MethodName := ⟨RX0, "setting", "(LBakeryPlan;I[J)I"⟩
def dkwX0_setting_0 : List UInt8 := [44, 3, 42, 27, 182, 0, 40, 133, 80, 167, 0, 6, 78, 4, 172, 3, 172]
abbrev dktX0_setting_0 : List UInt8 := dkwX0_setting_0 ++ []
theorem dksX0_setting_0 : cX0_setting.data.toList.drop 0 = dktX0_setting_0 := by decide +kernel
theorem dX0_setting_0 : decode cX0_setting 0 = .ok (.aload_n 2, 1) := dk_44 (dk_at dksX0_setting_0 0 rfl rfl)
theorem dX0_setting_1 : decode cX0_setting 1 = .ok (.iconst 0, 1) := dk_3 (dk_at dksX0_setting_0 1 rfl rfl)
theorem dX0_setting_2 : decode cX0_setting 2 = .ok (.aload_n 0, 1) := dk_42 (dk_at dksX0_setting_0 2 rfl rfl)
theorem dX0_setting_3 : decode cX0_setting 3 = .ok (.iload_n 1, 1) := dk_27 (dk_at dksX0_setting_0 3 rfl rfl)
theorem dX0_setting_4 : decode cX0_setting 4 = .ok (.invokevirtual 40, 3) := dk_182 0 40 (dk_at dksX0_setting_0 4 rfl rfl)
theorem dX0_setting_7 : decode cX0_setting 7 = .ok (.i2l, 1) := dk_133 (dk_at dksX0_setting_0 7 rfl rfl)
theorem dX0_setting_8 : decode cX0_setting 8 = .ok (.lastore, 1) := dk_80 (dk_at dksX0_setting_0 8 rfl rfl)
theorem dX0_setting_9 : decode cX0_setting 9 = .ok (.goto 6, 3) := dk_167 0 6 (dk_at dksX0_setting_0 9 rfl rfl)
theorem dX0_setting_12 : decode cX0_setting 12 = .ok (.astore_n 3, 1) := dk_78 (dk_at dksX0_setting_0 12 rfl rfl)
theorem dX0_setting_13 : decode cX0_setting 13 = .ok (.iconst 1, 1) := dk_4 (dk_at dksX0_setting_0 13 rfl rfl)
theorem dX0_setting_14 : decode cX0_setting 14 = .ok (.ireturn, 1) := dk_172 (dk_at dksX0_setting_0 14 rfl rfl)
theorem dX0_setting_15 : decode cX0_setting 15 = .ok (.iconst 0, 1) := dk_3 (dk_at dksX0_setting_0 15 rfl rfl)
theorem dX0_setting_16 : decode cX0_setting 16 = .ok (.ireturn, 1) := dk_172 (dk_at dksX0_setting_0 16 rfl rfl)
abbrev cX0_state : ByteArray := method_11_code
def yX0_state : MethodName := ⟨RX0, "state", "(LBakeryPlan;I[J)I"⟩
def dkwX0_state_0 : List UInt8 := [44, 3, 42, 27, 182, 0, 43, 133, 80, 167, 0, 6, 78, 4, 172, 3, 172]
abbrev dktX0_state_0 : List UInt8 := dkwX0_state_0 ++ []
theorem dksX0_state_0 : cX0_state.data.toList.drop 0 = dktX0_state_0 := by decide +kernel
theorem dX0_state_0 : decode cX0_state 0 = .ok (.aload_n 2, 1) := dk_44 (dk_at dksX0_state_0 0 rfl rfl)
theorem dX0_state_1 : decode cX0_state 1 = .ok (.iconst 0, 1) := dk_3 (dk_at dksX0_state_0 1 rfl rfl)
theorem dX0_state_2 : decode cX0_state 2 = .ok (.aload_n 0, 1) := dk_42 (dk_at dksX0_state_0 2 rfl rfl)
theorem dX0_state_3 : decode cX0_state 3 = .ok (.iload_n 1, 1) := dk_27 (dk_at dksX0_state_0 3 rfl rfl)
theorem dX0_state_4 : decode cX0_state 4 = .ok (.invokevirtual 43, 3) := dk_182 0 43 (dk_at dksX0_state_0 4 rfl rfl)
theorem dX0_state_7 : decode cX0_state 7 = .ok (.i2l, 1) := dk_133 (dk_at dksX0_state_0 7 rfl rfl)
theorem dX0_state_8 : decode cX0_state 8 = .ok (.lastore, 1) := dk_80 (dk_at dksX0_state_0 8 rfl rfl)
theorem dX0_state_9 : decode cX0_state 9 = .ok (.goto 6, 3) := dk_167 0 6 (dk_at dksX0_state_0 9 rfl rfl)
theorem dX0_state_12 : decode cX0_state 12 = .ok (.astore_n 3, 1) := dk_78 (dk_at dksX0_state_0 12 rfl rfl)
theorem dX0_state_13 : decode cX0_state 13 = .ok (.iconst 1, 1) := dk_4 (dk_at dksX0_state_0 13 rfl rfl)
theorem dX0_state_14 : decode cX0_state 14 = .ok (.ireturn, 1) := dk_172 (dk_at dksX0_state_0 14 rfl rfl)
theorem dX0_state_15 : decode cX0_state 15 = .ok (.iconst 0, 1) := dk_3 (dk_at dksX0_state_0 15 rfl rfl)
theorem dX0_state_16 : decode cX0_state 16 = .ok (.ireturn, 1) := dk_172 (dk_at dksX0_state_0 16 rfl rfl)
abbrev cX0_mixerOf : ByteArray := method_12_code
def yX0_mixerOf : MethodName := ⟨RX0, "mixerOf", "(LBakeryPlan;I[J)I"⟩
def dkwX0_mixerOf_0 : List UInt8 := [44, 3, 42, 27, 182, 0, 46, 133, 80, 167, 0, 6, 78, 4, 172, 3, 172]
abbrev dktX0_mixerOf_0 : List UInt8 := dkwX0_mixerOf_0 ++ []
theorem dksX0_mixerOf_0 : cX0_mixerOf.data.toList.drop 0 = dktX0_mixerOf_0 := by decide +kernel
theorem dX0_mixerOf_0 : decode cX0_mixerOf 0 = .ok (.aload_n 2, 1) := dk_44 (dk_at dksX0_mixerOf_0 0 rfl rfl)
theorem dX0_mixerOf_1 : decode cX0_mixerOf 1 = .ok (.iconst 0, 1) := dk_3 (dk_at dksX0_mixerOf_0 1 rfl rfl)
theorem dX0_mixerOf_2 : decode cX0_mixerOf 2 = .ok (.aload_n 0, 1) := dk_42 (dk_at dksX0_mixerOf_0 2 rfl rfl)
theorem dX0_mixerOf_3 : decode cX0_mixerOf 3 = .ok (.iload_n 1, 1) := dk_27 (dk_at dksX0_mixerOf_0 3 rfl rfl)
theorem dX0_mixerOf_4 : decode cX0_mixerOf 4 = .ok (.invokevirtual 46, 3) := dk_182 0 46 (dk_at dksX0_mixerOf_0 4 rfl rfl)
theorem dX0_mixerOf_7 : decode cX0_mixerOf 7 = .ok (.i2l, 1) := dk_133 (dk_at dksX0_mixerOf_0 7 rfl rfl)
theorem dX0_mixerOf_8 : decode cX0_mixerOf 8 = .ok (.lastore, 1) := dk_80 (dk_at dksX0_mixerOf_0 8 rfl rfl)
theorem dX0_mixerOf_9 : decode cX0_mixerOf 9 = .ok (.goto 6, 3) := dk_167 0 6 (dk_at dksX0_mixerOf_0 9 rfl rfl)
theorem dX0_mixerOf_12 : decode cX0_mixerOf 12 = .ok (.astore_n 3, 1) := dk_78 (dk_at dksX0_mixerOf_0 12 rfl rfl)
theorem dX0_mixerOf_13 : decode cX0_mixerOf 13 = .ok (.iconst 1, 1) := dk_4 (dk_at dksX0_mixerOf_0 13 rfl rfl)
theorem dX0_mixerOf_14 : decode cX0_mixerOf 14 = .ok (.ireturn, 1) := dk_172 (dk_at dksX0_mixerOf_0 14 rfl rfl)
theorem dX0_mixerOf_15 : decode cX0_mixerOf 15 = .ok (.iconst 0, 1) := dk_3 (dk_at dksX0_mixerOf_0 15 rfl rfl)
theorem dX0_mixerOf_16 : decode cX0_mixerOf 16 = .ok (.ireturn, 1) := dk_172 (dk_at dksX0_mixerOf_0 16 rfl rfl)
abbrev cX0_mixStart : ByteArray := method_13_code
def yX0_mixStart : MethodName := ⟨RX0, "mixStart", "(LBakeryPlan;I[J)I"⟩
def dkwX0_mixStart_0 : List UInt8 := [44, 3, 42, 27, 182, 0, 49, 133, 80, 167, 0, 6, 78, 4, 172, 3, 172]
abbrev dktX0_mixStart_0 : List UInt8 := dkwX0_mixStart_0 ++ []
theorem dksX0_mixStart_0 : cX0_mixStart.data.toList.drop 0 = dktX0_mixStart_0 := by decide +kernel
theorem dX0_mixStart_0 : decode cX0_mixStart 0 = .ok (.aload_n 2, 1) := dk_44 (dk_at dksX0_mixStart_0 0 rfl rfl)
theorem dX0_mixStart_1 : decode cX0_mixStart 1 = .ok (.iconst 0, 1) := dk_3 (dk_at dksX0_mixStart_0 1 rfl rfl)
theorem dX0_mixStart_2 : decode cX0_mixStart 2 = .ok (.aload_n 0, 1) := dk_42 (dk_at dksX0_mixStart_0 2 rfl rfl)
theorem dX0_mixStart_3 : decode cX0_mixStart 3 = .ok (.iload_n 1, 1) := dk_27 (dk_at dksX0_mixStart_0 3 rfl rfl)
theorem dX0_mixStart_4 : decode cX0_mixStart 4 = .ok (.invokevirtual 49, 3) := dk_182 0 49 (dk_at dksX0_mixStart_0 4 rfl rfl)
theorem dX0_mixStart_7 : decode cX0_mixStart 7 = .ok (.i2l, 1) := dk_133 (dk_at dksX0_mixStart_0 7 rfl rfl)
theorem dX0_mixStart_8 : decode cX0_mixStart 8 = .ok (.lastore, 1) := dk_80 (dk_at dksX0_mixStart_0 8 rfl rfl)
theorem dX0_mixStart_9 : decode cX0_mixStart 9 = .ok (.goto 6, 3) := dk_167 0 6 (dk_at dksX0_mixStart_0 9 rfl rfl)
theorem dX0_mixStart_12 : decode cX0_mixStart 12 = .ok (.astore_n 3, 1) := dk_78 (dk_at dksX0_mixStart_0 12 rfl rfl)
theorem dX0_mixStart_13 : decode cX0_mixStart 13 = .ok (.iconst 1, 1) := dk_4 (dk_at dksX0_mixStart_0 13 rfl rfl)
theorem dX0_mixStart_14 : decode cX0_mixStart 14 = .ok (.ireturn, 1) := dk_172 (dk_at dksX0_mixStart_0 14 rfl rfl)
theorem dX0_mixStart_15 : decode cX0_mixStart 15 = .ok (.iconst 0, 1) := dk_3 (dk_at dksX0_mixStart_0 15 rfl rfl)
theorem dX0_mixStart_16 : decode cX0_mixStart 16 = .ok (.ireturn, 1) := dk_172 (dk_at dksX0_mixStart_0 16 rfl rfl)
abbrev cX0_proofStart : ByteArray := method_14_code
def yX0_proofStart : MethodName := ⟨RX0, "proofStart", "(LBakeryPlan;I[J)I"⟩
def dkwX0_proofStart_0 : List UInt8 := [44, 3, 42, 27, 182, 0, 52, 133, 80, 167, 0, 6, 78, 4, 172, 3, 172]
abbrev dktX0_proofStart_0 : List UInt8 := dkwX0_proofStart_0 ++ []
theorem dksX0_proofStart_0 : cX0_proofStart.data.toList.drop 0 = dktX0_proofStart_0 := by decide +kernel
theorem dX0_proofStart_0 : decode cX0_proofStart 0 = .ok (.aload_n 2, 1) := dk_44 (dk_at dksX0_proofStart_0 0 rfl rfl)
theorem dX0_proofStart_1 : decode cX0_proofStart 1 = .ok (.iconst 0, 1) := dk_3 (dk_at dksX0_proofStart_0 1 rfl rfl)
theorem dX0_proofStart_2 : decode cX0_proofStart 2 = .ok (.aload_n 0, 1) := dk_42 (dk_at dksX0_proofStart_0 2 rfl rfl)
theorem dX0_proofStart_3 : decode cX0_proofStart 3 = .ok (.iload_n 1, 1) := dk_27 (dk_at dksX0_proofStart_0 3 rfl rfl)
theorem dX0_proofStart_4 : decode cX0_proofStart 4 = .ok (.invokevirtual 52, 3) := dk_182 0 52 (dk_at dksX0_proofStart_0 4 rfl rfl)
theorem dX0_proofStart_7 : decode cX0_proofStart 7 = .ok (.i2l, 1) := dk_133 (dk_at dksX0_proofStart_0 7 rfl rfl)
theorem dX0_proofStart_8 : decode cX0_proofStart 8 = .ok (.lastore, 1) := dk_80 (dk_at dksX0_proofStart_0 8 rfl rfl)
theorem dX0_proofStart_9 : decode cX0_proofStart 9 = .ok (.goto 6, 3) := dk_167 0 6 (dk_at dksX0_proofStart_0 9 rfl rfl)
theorem dX0_proofStart_12 : decode cX0_proofStart 12 = .ok (.astore_n 3, 1) := dk_78 (dk_at dksX0_proofStart_0 12 rfl rfl)
theorem dX0_proofStart_13 : decode cX0_proofStart 13 = .ok (.iconst 1, 1) := dk_4 (dk_at dksX0_proofStart_0 13 rfl rfl)
theorem dX0_proofStart_14 : decode cX0_proofStart 14 = .ok (.ireturn, 1) := dk_172 (dk_at dksX0_proofStart_0 14 rfl rfl)
theorem dX0_proofStart_15 : decode cX0_proofStart 15 = .ok (.iconst 0, 1) := dk_3 (dk_at dksX0_proofStart_0 15 rfl rfl)
theorem dX0_proofStart_16 : decode cX0_proofStart 16 = .ok (.ireturn, 1) := dk_172 (dk_at dksX0_proofStart_0 16 rfl rfl)
abbrev cX0_deckOf : ByteArray := method_15_code
def yX0_deckOf : MethodName := ⟨RX0, "deckOf", "(LBakeryPlan;I[J)I"⟩
def dkwX0_deckOf_0 : List UInt8 := [44, 3, 42, 27, 182, 0, 55, 133, 80, 167, 0, 6, 78, 4, 172, 3, 172]
abbrev dktX0_deckOf_0 : List UInt8 := dkwX0_deckOf_0 ++ []
theorem dksX0_deckOf_0 : cX0_deckOf.data.toList.drop 0 = dktX0_deckOf_0 := by decide +kernel
theorem dX0_deckOf_0 : decode cX0_deckOf 0 = .ok (.aload_n 2, 1) := dk_44 (dk_at dksX0_deckOf_0 0 rfl rfl)
theorem dX0_deckOf_1 : decode cX0_deckOf 1 = .ok (.iconst 0, 1) := dk_3 (dk_at dksX0_deckOf_0 1 rfl rfl)
theorem dX0_deckOf_2 : decode cX0_deckOf 2 = .ok (.aload_n 0, 1) := dk_42 (dk_at dksX0_deckOf_0 2 rfl rfl)
theorem dX0_deckOf_3 : decode cX0_deckOf 3 = .ok (.iload_n 1, 1) := dk_27 (dk_at dksX0_deckOf_0 3 rfl rfl)
theorem dX0_deckOf_4 : decode cX0_deckOf 4 = .ok (.invokevirtual 55, 3) := dk_182 0 55 (dk_at dksX0_deckOf_0 4 rfl rfl)
theorem dX0_deckOf_7 : decode cX0_deckOf 7 = .ok (.i2l, 1) := dk_133 (dk_at dksX0_deckOf_0 7 rfl rfl)
theorem dX0_deckOf_8 : decode cX0_deckOf 8 = .ok (.lastore, 1) := dk_80 (dk_at dksX0_deckOf_0 8 rfl rfl)
theorem dX0_deckOf_9 : decode cX0_deckOf 9 = .ok (.goto 6, 3) := dk_167 0 6 (dk_at dksX0_deckOf_0 9 rfl rfl)
theorem dX0_deckOf_12 : decode cX0_deckOf 12 = .ok (.astore_n 3, 1) := dk_78 (dk_at dksX0_deckOf_0 12 rfl rfl)
theorem dX0_deckOf_13 : decode cX0_deckOf 13 = .ok (.iconst 1, 1) := dk_4 (dk_at dksX0_deckOf_0 13 rfl rfl)
theorem dX0_deckOf_14 : decode cX0_deckOf 14 = .ok (.ireturn, 1) := dk_172 (dk_at dksX0_deckOf_0 14 rfl rfl)
theorem dX0_deckOf_15 : decode cX0_deckOf 15 = .ok (.iconst 0, 1) := dk_3 (dk_at dksX0_deckOf_0 15 rfl rfl)
theorem dX0_deckOf_16 : decode cX0_deckOf 16 = .ok (.ireturn, 1) := dk_172 (dk_at dksX0_deckOf_0 16 rfl rfl)
abbrev cX0_bakeStart : ByteArray := method_16_code
def yX0_bakeStart : MethodName := ⟨RX0, "bakeStart", "(LBakeryPlan;I[J)I"⟩
def dkwX0_bakeStart_0 : List UInt8 := [44, 3, 42, 27, 182, 0, 58, 133, 80, 167, 0, 6, 78, 4, 172, 3, 172]
abbrev dktX0_bakeStart_0 : List UInt8 := dkwX0_bakeStart_0 ++ []
theorem dksX0_bakeStart_0 : cX0_bakeStart.data.toList.drop 0 = dktX0_bakeStart_0 := by decide +kernel
theorem dX0_bakeStart_0 : decode cX0_bakeStart 0 = .ok (.aload_n 2, 1) := dk_44 (dk_at dksX0_bakeStart_0 0 rfl rfl)
theorem dX0_bakeStart_1 : decode cX0_bakeStart 1 = .ok (.iconst 0, 1) := dk_3 (dk_at dksX0_bakeStart_0 1 rfl rfl)
theorem dX0_bakeStart_2 : decode cX0_bakeStart 2 = .ok (.aload_n 0, 1) := dk_42 (dk_at dksX0_bakeStart_0 2 rfl rfl)
theorem dX0_bakeStart_3 : decode cX0_bakeStart 3 = .ok (.iload_n 1, 1) := dk_27 (dk_at dksX0_bakeStart_0 3 rfl rfl)
theorem dX0_bakeStart_4 : decode cX0_bakeStart 4 = .ok (.invokevirtual 58, 3) := dk_182 0 58 (dk_at dksX0_bakeStart_0 4 rfl rfl)
theorem dX0_bakeStart_7 : decode cX0_bakeStart 7 = .ok (.i2l, 1) := dk_133 (dk_at dksX0_bakeStart_0 7 rfl rfl)
theorem dX0_bakeStart_8 : decode cX0_bakeStart 8 = .ok (.lastore, 1) := dk_80 (dk_at dksX0_bakeStart_0 8 rfl rfl)
theorem dX0_bakeStart_9 : decode cX0_bakeStart 9 = .ok (.goto 6, 3) := dk_167 0 6 (dk_at dksX0_bakeStart_0 9 rfl rfl)
theorem dX0_bakeStart_12 : decode cX0_bakeStart 12 = .ok (.astore_n 3, 1) := dk_78 (dk_at dksX0_bakeStart_0 12 rfl rfl)
theorem dX0_bakeStart_13 : decode cX0_bakeStart 13 = .ok (.iconst 1, 1) := dk_4 (dk_at dksX0_bakeStart_0 13 rfl rfl)
theorem dX0_bakeStart_14 : decode cX0_bakeStart 14 = .ok (.ireturn, 1) := dk_172 (dk_at dksX0_bakeStart_0 14 rfl rfl)
theorem dX0_bakeStart_15 : decode cX0_bakeStart 15 = .ok (.iconst 0, 1) := dk_3 (dk_at dksX0_bakeStart_0 15 rfl rfl)
theorem dX0_bakeStart_16 : decode cX0_bakeStart 16 = .ok (.ireturn, 1) := dk_172 (dk_at dksX0_bakeStart_0 16 rfl rfl)
abbrev cX0_bakeEnd : ByteArray := method_17_code
def yX0_bakeEnd : MethodName := ⟨RX0, "bakeEnd", "(LBakeryPlan;I[J)I"⟩
def dkwX0_bakeEnd_0 : List UInt8 := [44, 3, 42, 27, 182, 0, 61, 133, 80, 167, 0, 6, 78, 4, 172, 3, 172]
abbrev dktX0_bakeEnd_0 : List UInt8 := dkwX0_bakeEnd_0 ++ []
theorem dksX0_bakeEnd_0 : cX0_bakeEnd.data.toList.drop 0 = dktX0_bakeEnd_0 := by decide +kernel
theorem dX0_bakeEnd_0 : decode cX0_bakeEnd 0 = .ok (.aload_n 2, 1) := dk_44 (dk_at dksX0_bakeEnd_0 0 rfl rfl)
theorem dX0_bakeEnd_1 : decode cX0_bakeEnd 1 = .ok (.iconst 0, 1) := dk_3 (dk_at dksX0_bakeEnd_0 1 rfl rfl)
theorem dX0_bakeEnd_2 : decode cX0_bakeEnd 2 = .ok (.aload_n 0, 1) := dk_42 (dk_at dksX0_bakeEnd_0 2 rfl rfl)
theorem dX0_bakeEnd_3 : decode cX0_bakeEnd 3 = .ok (.iload_n 1, 1) := dk_27 (dk_at dksX0_bakeEnd_0 3 rfl rfl)
theorem dX0_bakeEnd_4 : decode cX0_bakeEnd 4 = .ok (.invokevirtual 61, 3) := dk_182 0 61 (dk_at dksX0_bakeEnd_0 4 rfl rfl)
theorem dX0_bakeEnd_7 : decode cX0_bakeEnd 7 = .ok (.i2l, 1) := dk_133 (dk_at dksX0_bakeEnd_0 7 rfl rfl)
theorem dX0_bakeEnd_8 : decode cX0_bakeEnd 8 = .ok (.lastore, 1) := dk_80 (dk_at dksX0_bakeEnd_0 8 rfl rfl)
theorem dX0_bakeEnd_9 : decode cX0_bakeEnd 9 = .ok (.goto 6, 3) := dk_167 0 6 (dk_at dksX0_bakeEnd_0 9 rfl rfl)
theorem dX0_bakeEnd_12 : decode cX0_bakeEnd 12 = .ok (.astore_n 3, 1) := dk_78 (dk_at dksX0_bakeEnd_0 12 rfl rfl)
theorem dX0_bakeEnd_13 : decode cX0_bakeEnd 13 = .ok (.iconst 1, 1) := dk_4 (dk_at dksX0_bakeEnd_0 13 rfl rfl)
theorem dX0_bakeEnd_14 : decode cX0_bakeEnd 14 = .ok (.ireturn, 1) := dk_172 (dk_at dksX0_bakeEnd_0 14 rfl rfl)
theorem dX0_bakeEnd_15 : decode cX0_bakeEnd 15 = .ok (.iconst 0, 1) := dk_3 (dk_at dksX0_bakeEnd_0 15 rfl rfl)
theorem dX0_bakeEnd_16 : decode cX0_bakeEnd 16 = .ok (.ireturn, 1) := dk_172 (dk_at dksX0_bakeEnd_0 16 rfl rfl)
abbrev cX0_lostAt : ByteArray := method_18_code
def yX0_lostAt : MethodName := ⟨RX0, "lostAt", "(LBakeryPlan;I[J)I"⟩
def dkwX0_lostAt_0 : List UInt8 := [44, 3, 42, 27, 182, 0, 64, 133, 80, 167, 0, 6, 78, 4, 172, 3, 172]
abbrev dktX0_lostAt_0 : List UInt8 := dkwX0_lostAt_0 ++ []
theorem dksX0_lostAt_0 : cX0_lostAt.data.toList.drop 0 = dktX0_lostAt_0 := by decide +kernel
theorem dX0_lostAt_0 : decode cX0_lostAt 0 = .ok (.aload_n 2, 1) := dk_44 (dk_at dksX0_lostAt_0 0 rfl rfl)
theorem dX0_lostAt_1 : decode cX0_lostAt 1 = .ok (.iconst 0, 1) := dk_3 (dk_at dksX0_lostAt_0 1 rfl rfl)
theorem dX0_lostAt_2 : decode cX0_lostAt 2 = .ok (.aload_n 0, 1) := dk_42 (dk_at dksX0_lostAt_0 2 rfl rfl)
theorem dX0_lostAt_3 : decode cX0_lostAt 3 = .ok (.iload_n 1, 1) := dk_27 (dk_at dksX0_lostAt_0 3 rfl rfl)
theorem dX0_lostAt_4 : decode cX0_lostAt 4 = .ok (.invokevirtual 64, 3) := dk_182 0 64 (dk_at dksX0_lostAt_0 4 rfl rfl)
theorem dX0_lostAt_7 : decode cX0_lostAt 7 = .ok (.i2l, 1) := dk_133 (dk_at dksX0_lostAt_0 7 rfl rfl)
theorem dX0_lostAt_8 : decode cX0_lostAt 8 = .ok (.lastore, 1) := dk_80 (dk_at dksX0_lostAt_0 8 rfl rfl)
theorem dX0_lostAt_9 : decode cX0_lostAt 9 = .ok (.goto 6, 3) := dk_167 0 6 (dk_at dksX0_lostAt_0 9 rfl rfl)
theorem dX0_lostAt_12 : decode cX0_lostAt 12 = .ok (.astore_n 3, 1) := dk_78 (dk_at dksX0_lostAt_0 12 rfl rfl)
theorem dX0_lostAt_13 : decode cX0_lostAt 13 = .ok (.iconst 1, 1) := dk_4 (dk_at dksX0_lostAt_0 13 rfl rfl)
theorem dX0_lostAt_14 : decode cX0_lostAt 14 = .ok (.ireturn, 1) := dk_172 (dk_at dksX0_lostAt_0 14 rfl rfl)
theorem dX0_lostAt_15 : decode cX0_lostAt 15 = .ok (.iconst 0, 1) := dk_3 (dk_at dksX0_lostAt_0 15 rfl rfl)
theorem dX0_lostAt_16 : decode cX0_lostAt 16 = .ok (.ireturn, 1) := dk_172 (dk_at dksX0_lostAt_0 16 rfl rfl)
abbrev cX0_shelfMinutes : ByteArray := method_19_code
def yX0_shelfMinutes : MethodName := ⟨RX0, "shelfMinutes", "(LBakeryPlan;I[J)I"⟩
def dkwX0_shelfMinutes_0 : List UInt8 := [44, 3, 42, 27, 182, 0, 67, 133, 80, 167, 0, 6, 78, 4, 172, 3, 172]
abbrev dktX0_shelfMinutes_0 : List UInt8 := dkwX0_shelfMinutes_0 ++ []
theorem dksX0_shelfMinutes_0 : cX0_shelfMinutes.data.toList.drop 0 = dktX0_shelfMinutes_0 := by decide +kernel
theorem dX0_shelfMinutes_0 : decode cX0_shelfMinutes 0 = .ok (.aload_n 2, 1) := dk_44 (dk_at dksX0_shelfMinutes_0 0 rfl rfl)
theorem dX0_shelfMinutes_1 : decode cX0_shelfMinutes 1 = .ok (.iconst 0, 1) := dk_3 (dk_at dksX0_shelfMinutes_0 1 rfl rfl)
theorem dX0_shelfMinutes_2 : decode cX0_shelfMinutes 2 = .ok (.aload_n 0, 1) := dk_42 (dk_at dksX0_shelfMinutes_0 2 rfl rfl)
theorem dX0_shelfMinutes_3 : decode cX0_shelfMinutes 3 = .ok (.iload_n 1, 1) := dk_27 (dk_at dksX0_shelfMinutes_0 3 rfl rfl)
theorem dX0_shelfMinutes_4 : decode cX0_shelfMinutes 4 = .ok (.invokevirtual 67, 3) := dk_182 0 67 (dk_at dksX0_shelfMinutes_0 4 rfl rfl)
theorem dX0_shelfMinutes_7 : decode cX0_shelfMinutes 7 = .ok (.i2l, 1) := dk_133 (dk_at dksX0_shelfMinutes_0 7 rfl rfl)
theorem dX0_shelfMinutes_8 : decode cX0_shelfMinutes 8 = .ok (.lastore, 1) := dk_80 (dk_at dksX0_shelfMinutes_0 8 rfl rfl)
theorem dX0_shelfMinutes_9 : decode cX0_shelfMinutes 9 = .ok (.goto 6, 3) := dk_167 0 6 (dk_at dksX0_shelfMinutes_0 9 rfl rfl)
theorem dX0_shelfMinutes_12 : decode cX0_shelfMinutes 12 = .ok (.astore_n 3, 1) := dk_78 (dk_at dksX0_shelfMinutes_0 12 rfl rfl)
theorem dX0_shelfMinutes_13 : decode cX0_shelfMinutes 13 = .ok (.iconst 1, 1) := dk_4 (dk_at dksX0_shelfMinutes_0 13 rfl rfl)
theorem dX0_shelfMinutes_14 : decode cX0_shelfMinutes 14 = .ok (.ireturn, 1) := dk_172 (dk_at dksX0_shelfMinutes_0 14 rfl rfl)
theorem dX0_shelfMinutes_15 : decode cX0_shelfMinutes 15 = .ok (.iconst 0, 1) := dk_3 (dk_at dksX0_shelfMinutes_0 15 rfl rfl)
theorem dX0_shelfMinutes_16 : decode cX0_shelfMinutes 16 = .ok (.ireturn, 1) := dk_172 (dk_at dksX0_shelfMinutes_0 16 rfl rfl)
abbrev cX0_age : ByteArray := method_20_code
def yX0_age : MethodName := ⟨RX0, "age", "(LBakeryPlan;I[D)I"⟩
def dkwX0_age_0 : List UInt8 := [44, 3, 42, 27, 182, 0, 70, 82, 167, 0, 6, 78, 4, 172, 3, 172]
abbrev dktX0_age_0 : List UInt8 := dkwX0_age_0 ++ []
theorem dksX0_age_0 : cX0_age.data.toList.drop 0 = dktX0_age_0 := by decide +kernel
theorem dX0_age_0 : decode cX0_age 0 = .ok (.aload_n 2, 1) := dk_44 (dk_at dksX0_age_0 0 rfl rfl)
theorem dX0_age_1 : decode cX0_age 1 = .ok (.iconst 0, 1) := dk_3 (dk_at dksX0_age_0 1 rfl rfl)
theorem dX0_age_2 : decode cX0_age 2 = .ok (.aload_n 0, 1) := dk_42 (dk_at dksX0_age_0 2 rfl rfl)
theorem dX0_age_3 : decode cX0_age 3 = .ok (.iload_n 1, 1) := dk_27 (dk_at dksX0_age_0 3 rfl rfl)
theorem dX0_age_4 : decode cX0_age 4 = .ok (.invokevirtual 70, 3) := dk_182 0 70 (dk_at dksX0_age_0 4 rfl rfl)
theorem dX0_age_7 : decode cX0_age 7 = .ok (.dastore, 1) := dk_82 (dk_at dksX0_age_0 7 rfl rfl)
theorem dX0_age_8 : decode cX0_age 8 = .ok (.goto 6, 3) := dk_167 0 6 (dk_at dksX0_age_0 8 rfl rfl)
theorem dX0_age_11 : decode cX0_age 11 = .ok (.astore_n 3, 1) := dk_78 (dk_at dksX0_age_0 11 rfl rfl)
theorem dX0_age_12 : decode cX0_age 12 = .ok (.iconst 1, 1) := dk_4 (dk_at dksX0_age_0 12 rfl rfl)
theorem dX0_age_13 : decode cX0_age 13 = .ok (.ireturn, 1) := dk_172 (dk_at dksX0_age_0 13 rfl rfl)
theorem dX0_age_14 : decode cX0_age 14 = .ok (.iconst 0, 1) := dk_3 (dk_at dksX0_age_0 14 rfl rfl)
theorem dX0_age_15 : decode cX0_age 15 = .ok (.ireturn, 1) := dk_172 (dk_at dksX0_age_0 15 rfl rfl)
abbrev cX0_count : ByteArray := method_21_code
def yX0_count : MethodName := ⟨RX0, "count", "(LBakeryPlan;I[J)I"⟩
def dkwX0_count_0 : List UInt8 := [44, 3, 42, 27, 182, 0, 74, 133, 80, 167, 0, 6, 78, 4, 172, 3, 172]
abbrev dktX0_count_0 : List UInt8 := dkwX0_count_0 ++ []
theorem dksX0_count_0 : cX0_count.data.toList.drop 0 = dktX0_count_0 := by decide +kernel
theorem dX0_count_0 : decode cX0_count 0 = .ok (.aload_n 2, 1) := dk_44 (dk_at dksX0_count_0 0 rfl rfl)
theorem dX0_count_1 : decode cX0_count 1 = .ok (.iconst 0, 1) := dk_3 (dk_at dksX0_count_0 1 rfl rfl)
theorem dX0_count_2 : decode cX0_count 2 = .ok (.aload_n 0, 1) := dk_42 (dk_at dksX0_count_0 2 rfl rfl)
theorem dX0_count_3 : decode cX0_count 3 = .ok (.iload_n 1, 1) := dk_27 (dk_at dksX0_count_0 3 rfl rfl)
theorem dX0_count_4 : decode cX0_count 4 = .ok (.invokevirtual 74, 3) := dk_182 0 74 (dk_at dksX0_count_0 4 rfl rfl)
theorem dX0_count_7 : decode cX0_count 7 = .ok (.i2l, 1) := dk_133 (dk_at dksX0_count_0 7 rfl rfl)
theorem dX0_count_8 : decode cX0_count 8 = .ok (.lastore, 1) := dk_80 (dk_at dksX0_count_0 8 rfl rfl)
theorem dX0_count_9 : decode cX0_count 9 = .ok (.goto 6, 3) := dk_167 0 6 (dk_at dksX0_count_0 9 rfl rfl)
theorem dX0_count_12 : decode cX0_count 12 = .ok (.astore_n 3, 1) := dk_78 (dk_at dksX0_count_0 12 rfl rfl)
theorem dX0_count_13 : decode cX0_count 13 = .ok (.iconst 1, 1) := dk_4 (dk_at dksX0_count_0 13 rfl rfl)
theorem dX0_count_14 : decode cX0_count 14 = .ok (.ireturn, 1) := dk_172 (dk_at dksX0_count_0 14 rfl rfl)
theorem dX0_count_15 : decode cX0_count 15 = .ok (.iconst 0, 1) := dk_3 (dk_at dksX0_count_0 15 rfl rfl)
theorem dX0_count_16 : decode cX0_count 16 = .ok (.ireturn, 1) := dk_172 (dk_at dksX0_count_0 16 rfl rfl)
abbrev cX0_utilization : ByteArray := method_22_code
def yX0_utilization : MethodName := ⟨RX0, "utilization", "(LBakeryPlan;I[D)I"⟩
def dkwX0_utilization_0 : List UInt8 := [44, 3, 42, 27, 182, 0, 77, 82, 167, 0, 6, 78, 4, 172, 3, 172]
abbrev dktX0_utilization_0 : List UInt8 := dkwX0_utilization_0 ++ []
theorem dksX0_utilization_0 : cX0_utilization.data.toList.drop 0 = dktX0_utilization_0 := by decide +kernel
theorem dX0_utilization_0 : decode cX0_utilization 0 = .ok (.aload_n 2, 1) := dk_44 (dk_at dksX0_utilization_0 0 rfl rfl)
theorem dX0_utilization_1 : decode cX0_utilization 1 = .ok (.iconst 0, 1) := dk_3 (dk_at dksX0_utilization_0 1 rfl rfl)
theorem dX0_utilization_2 : decode cX0_utilization 2 = .ok (.aload_n 0, 1) := dk_42 (dk_at dksX0_utilization_0 2 rfl rfl)
theorem dX0_utilization_3 : decode cX0_utilization 3 = .ok (.iload_n 1, 1) := dk_27 (dk_at dksX0_utilization_0 3 rfl rfl)
theorem dX0_utilization_4 : decode cX0_utilization 4 = .ok (.invokevirtual 77, 3) := dk_182 0 77 (dk_at dksX0_utilization_0 4 rfl rfl)
theorem dX0_utilization_7 : decode cX0_utilization 7 = .ok (.dastore, 1) := dk_82 (dk_at dksX0_utilization_0 7 rfl rfl)
theorem dX0_utilization_8 : decode cX0_utilization 8 = .ok (.goto 6, 3) := dk_167 0 6 (dk_at dksX0_utilization_0 8 rfl rfl)
theorem dX0_utilization_11 : decode cX0_utilization 11 = .ok (.astore_n 3, 1) := dk_78 (dk_at dksX0_utilization_0 11 rfl rfl)
theorem dX0_utilization_12 : decode cX0_utilization 12 = .ok (.iconst 1, 1) := dk_4 (dk_at dksX0_utilization_0 12 rfl rfl)
theorem dX0_utilization_13 : decode cX0_utilization 13 = .ok (.ireturn, 1) := dk_172 (dk_at dksX0_utilization_0 13 rfl rfl)
theorem dX0_utilization_14 : decode cX0_utilization 14 = .ok (.iconst 0, 1) := dk_3 (dk_at dksX0_utilization_0 14 rfl rfl)
theorem dX0_utilization_15 : decode cX0_utilization 15 = .ok (.ireturn, 1) := dk_172 (dk_at dksX0_utilization_0 15 rfl rfl)
abbrev cX0_begunBy : ByteArray := method_23_code
def yX0_begunBy : MethodName := ⟨RX0, "begunBy", "(LBakeryPlan;I[J)I"⟩
def dkwX0_begunBy_0 : List UInt8 := [44, 3, 42, 27, 182, 0, 80, 133, 80, 167, 0, 6, 78, 4, 172, 3, 172]
abbrev dktX0_begunBy_0 : List UInt8 := dkwX0_begunBy_0 ++ []
theorem dksX0_begunBy_0 : cX0_begunBy.data.toList.drop 0 = dktX0_begunBy_0 := by decide +kernel
theorem dX0_begunBy_0 : decode cX0_begunBy 0 = .ok (.aload_n 2, 1) := dk_44 (dk_at dksX0_begunBy_0 0 rfl rfl)
theorem dX0_begunBy_1 : decode cX0_begunBy 1 = .ok (.iconst 0, 1) := dk_3 (dk_at dksX0_begunBy_0 1 rfl rfl)
theorem dX0_begunBy_2 : decode cX0_begunBy 2 = .ok (.aload_n 0, 1) := dk_42 (dk_at dksX0_begunBy_0 2 rfl rfl)
theorem dX0_begunBy_3 : decode cX0_begunBy 3 = .ok (.iload_n 1, 1) := dk_27 (dk_at dksX0_begunBy_0 3 rfl rfl)
theorem dX0_begunBy_4 : decode cX0_begunBy 4 = .ok (.invokevirtual 80, 3) := dk_182 0 80 (dk_at dksX0_begunBy_0 4 rfl rfl)
theorem dX0_begunBy_7 : decode cX0_begunBy 7 = .ok (.i2l, 1) := dk_133 (dk_at dksX0_begunBy_0 7 rfl rfl)
theorem dX0_begunBy_8 : decode cX0_begunBy 8 = .ok (.lastore, 1) := dk_80 (dk_at dksX0_begunBy_0 8 rfl rfl)
theorem dX0_begunBy_9 : decode cX0_begunBy 9 = .ok (.goto 6, 3) := dk_167 0 6 (dk_at dksX0_begunBy_0 9 rfl rfl)
theorem dX0_begunBy_12 : decode cX0_begunBy 12 = .ok (.astore_n 3, 1) := dk_78 (dk_at dksX0_begunBy_0 12 rfl rfl)
theorem dX0_begunBy_13 : decode cX0_begunBy 13 = .ok (.iconst 1, 1) := dk_4 (dk_at dksX0_begunBy_0 13 rfl rfl)
theorem dX0_begunBy_14 : decode cX0_begunBy 14 = .ok (.ireturn, 1) := dk_172 (dk_at dksX0_begunBy_0 14 rfl rfl)
theorem dX0_begunBy_15 : decode cX0_begunBy 15 = .ok (.iconst 0, 1) := dk_3 (dk_at dksX0_begunBy_0 15 rfl rfl)
theorem dX0_begunBy_16 : decode cX0_begunBy 16 = .ok (.ireturn, 1) := dk_172 (dk_at dksX0_begunBy_0 16 rfl rfl)
abbrev cX0_temperature : ByteArray := method_24_code
def yX0_temperature : MethodName := ⟨RX0, "temperature", "(LBakeryPlan;II[J)I"⟩
def dkwX0_temperature_0 : List UInt8 := [45, 3, 42, 27, 28, 182, 0, 83, 133, 80, 167, 0, 7, 58, 4, 4, 172, 3, 172]
abbrev dktX0_temperature_0 : List UInt8 := dkwX0_temperature_0 ++ []
theorem dksX0_temperature_0 : cX0_temperature.data.toList.drop 0 = dktX0_temperature_0 := by decide +kernel
theorem dX0_temperature_0 : decode cX0_temperature 0 = .ok (.aload_n 3, 1) := dk_45 (dk_at dksX0_temperature_0 0 rfl rfl)
theorem dX0_temperature_1 : decode cX0_temperature 1 = .ok (.iconst 0, 1) := dk_3 (dk_at dksX0_temperature_0 1 rfl rfl)
theorem dX0_temperature_2 : decode cX0_temperature 2 = .ok (.aload_n 0, 1) := dk_42 (dk_at dksX0_temperature_0 2 rfl rfl)
theorem dX0_temperature_3 : decode cX0_temperature 3 = .ok (.iload_n 1, 1) := dk_27 (dk_at dksX0_temperature_0 3 rfl rfl)
theorem dX0_temperature_4 : decode cX0_temperature 4 = .ok (.iload_n 2, 1) := dk_28 (dk_at dksX0_temperature_0 4 rfl rfl)
theorem dX0_temperature_5 : decode cX0_temperature 5 = .ok (.invokevirtual 83, 3) := dk_182 0 83 (dk_at dksX0_temperature_0 5 rfl rfl)
theorem dX0_temperature_8 : decode cX0_temperature 8 = .ok (.i2l, 1) := dk_133 (dk_at dksX0_temperature_0 8 rfl rfl)
theorem dX0_temperature_9 : decode cX0_temperature 9 = .ok (.lastore, 1) := dk_80 (dk_at dksX0_temperature_0 9 rfl rfl)
theorem dX0_temperature_10 : decode cX0_temperature 10 = .ok (.goto 7, 3) := dk_167 0 7 (dk_at dksX0_temperature_0 10 rfl rfl)
theorem dX0_temperature_13 : decode cX0_temperature 13 = .ok (.astore 4, 2) := dk_58 4 (dk_at dksX0_temperature_0 13 rfl rfl)
theorem dX0_temperature_15 : decode cX0_temperature 15 = .ok (.iconst 1, 1) := dk_4 (dk_at dksX0_temperature_0 15 rfl rfl)
theorem dX0_temperature_16 : decode cX0_temperature 16 = .ok (.ireturn, 1) := dk_172 (dk_at dksX0_temperature_0 16 rfl rfl)
theorem dX0_temperature_17 : decode cX0_temperature 17 = .ok (.iconst 0, 1) := dk_3 (dk_at dksX0_temperature_0 17 rfl rfl)
theorem dX0_temperature_18 : decode cX0_temperature 18 = .ok (.ireturn, 1) := dk_172 (dk_at dksX0_temperature_0 18 rfl rfl)
abbrev cX0_baking : ByteArray := method_25_code
def yX0_baking : MethodName := ⟨RX0, "baking", "(LBakeryPlan;II[J)I"⟩
def dkwX0_baking_0 : List UInt8 := [45, 3, 42, 27, 28, 182, 0, 87, 133, 80, 167, 0, 7, 58, 4, 4, 172, 3, 172]
abbrev dktX0_baking_0 : List UInt8 := dkwX0_baking_0 ++ []
theorem dksX0_baking_0 : cX0_baking.data.toList.drop 0 = dktX0_baking_0 := by decide +kernel
theorem dX0_baking_0 : decode cX0_baking 0 = .ok (.aload_n 3, 1) := dk_45 (dk_at dksX0_baking_0 0 rfl rfl)
theorem dX0_baking_1 : decode cX0_baking 1 = .ok (.iconst 0, 1) := dk_3 (dk_at dksX0_baking_0 1 rfl rfl)
theorem dX0_baking_2 : decode cX0_baking 2 = .ok (.aload_n 0, 1) := dk_42 (dk_at dksX0_baking_0 2 rfl rfl)
theorem dX0_baking_3 : decode cX0_baking 3 = .ok (.iload_n 1, 1) := dk_27 (dk_at dksX0_baking_0 3 rfl rfl)
theorem dX0_baking_4 : decode cX0_baking 4 = .ok (.iload_n 2, 1) := dk_28 (dk_at dksX0_baking_0 4 rfl rfl)
theorem dX0_baking_5 : decode cX0_baking 5 = .ok (.invokevirtual 87, 3) := dk_182 0 87 (dk_at dksX0_baking_0 5 rfl rfl)
theorem dX0_baking_8 : decode cX0_baking 8 = .ok (.i2l, 1) := dk_133 (dk_at dksX0_baking_0 8 rfl rfl)
theorem dX0_baking_9 : decode cX0_baking 9 = .ok (.lastore, 1) := dk_80 (dk_at dksX0_baking_0 9 rfl rfl)
theorem dX0_baking_10 : decode cX0_baking 10 = .ok (.goto 7, 3) := dk_167 0 7 (dk_at dksX0_baking_0 10 rfl rfl)
theorem dX0_baking_13 : decode cX0_baking 13 = .ok (.astore 4, 2) := dk_58 4 (dk_at dksX0_baking_0 13 rfl rfl)
theorem dX0_baking_15 : decode cX0_baking 15 = .ok (.iconst 1, 1) := dk_4 (dk_at dksX0_baking_0 15 rfl rfl)
theorem dX0_baking_16 : decode cX0_baking 16 = .ok (.ireturn, 1) := dk_172 (dk_at dksX0_baking_0 16 rfl rfl)
theorem dX0_baking_17 : decode cX0_baking 17 = .ok (.iconst 0, 1) := dk_3 (dk_at dksX0_baking_0 17 rfl rfl)
theorem dX0_baking_18 : decode cX0_baking 18 = .ok (.ireturn, 1) := dk_172 (dk_at dksX0_baking_0 18 rfl rfl)
abbrev cX0_inRoom : ByteArray := method_26_code
def yX0_inRoom : MethodName := ⟨RX0, "inRoom", "(LBakeryPlan;I[J)I"⟩
def dkwX0_inRoom_0 : List UInt8 := [44, 3, 42, 27, 182, 0, 90, 133, 80, 167, 0, 6, 78, 4, 172, 3, 172]
abbrev dktX0_inRoom_0 : List UInt8 := dkwX0_inRoom_0 ++ []
theorem dksX0_inRoom_0 : cX0_inRoom.data.toList.drop 0 = dktX0_inRoom_0 := by decide +kernel
theorem dX0_inRoom_0 : decode cX0_inRoom 0 = .ok (.aload_n 2, 1) := dk_44 (dk_at dksX0_inRoom_0 0 rfl rfl)
theorem dX0_inRoom_1 : decode cX0_inRoom 1 = .ok (.iconst 0, 1) := dk_3 (dk_at dksX0_inRoom_0 1 rfl rfl)
theorem dX0_inRoom_2 : decode cX0_inRoom 2 = .ok (.aload_n 0, 1) := dk_42 (dk_at dksX0_inRoom_0 2 rfl rfl)
theorem dX0_inRoom_3 : decode cX0_inRoom 3 = .ok (.iload_n 1, 1) := dk_27 (dk_at dksX0_inRoom_0 3 rfl rfl)
theorem dX0_inRoom_4 : decode cX0_inRoom 4 = .ok (.invokevirtual 90, 3) := dk_182 0 90 (dk_at dksX0_inRoom_0 4 rfl rfl)
theorem dX0_inRoom_7 : decode cX0_inRoom 7 = .ok (.i2l, 1) := dk_133 (dk_at dksX0_inRoom_0 7 rfl rfl)
theorem dX0_inRoom_8 : decode cX0_inRoom 8 = .ok (.lastore, 1) := dk_80 (dk_at dksX0_inRoom_0 8 rfl rfl)
theorem dX0_inRoom_9 : decode cX0_inRoom 9 = .ok (.goto 6, 3) := dk_167 0 6 (dk_at dksX0_inRoom_0 9 rfl rfl)
theorem dX0_inRoom_12 : decode cX0_inRoom 12 = .ok (.astore_n 3, 1) := dk_78 (dk_at dksX0_inRoom_0 12 rfl rfl)
theorem dX0_inRoom_13 : decode cX0_inRoom 13 = .ok (.iconst 1, 1) := dk_4 (dk_at dksX0_inRoom_0 13 rfl rfl)
theorem dX0_inRoom_14 : decode cX0_inRoom 14 = .ok (.ireturn, 1) := dk_172 (dk_at dksX0_inRoom_0 14 rfl rfl)
theorem dX0_inRoom_15 : decode cX0_inRoom 15 = .ok (.iconst 0, 1) := dk_3 (dk_at dksX0_inRoom_0 15 rfl rfl)
theorem dX0_inRoom_16 : decode cX0_inRoom 16 = .ok (.ireturn, 1) := dk_172 (dk_at dksX0_inRoom_0 16 rfl rfl)
abbrev cX0_onShelves : ByteArray := method_27_code
def yX0_onShelves : MethodName := ⟨RX0, "onShelves", "(LBakeryPlan;I[J)I"⟩
def dkwX0_onShelves_0 : List UInt8 := [44, 3, 42, 27, 182, 0, 93, 133, 80, 167, 0, 6, 78, 4, 172, 3, 172]
abbrev dktX0_onShelves_0 : List UInt8 := dkwX0_onShelves_0 ++ []
theorem dksX0_onShelves_0 : cX0_onShelves.data.toList.drop 0 = dktX0_onShelves_0 := by decide +kernel
theorem dX0_onShelves_0 : decode cX0_onShelves 0 = .ok (.aload_n 2, 1) := dk_44 (dk_at dksX0_onShelves_0 0 rfl rfl)
theorem dX0_onShelves_1 : decode cX0_onShelves 1 = .ok (.iconst 0, 1) := dk_3 (dk_at dksX0_onShelves_0 1 rfl rfl)
theorem dX0_onShelves_2 : decode cX0_onShelves 2 = .ok (.aload_n 0, 1) := dk_42 (dk_at dksX0_onShelves_0 2 rfl rfl)
theorem dX0_onShelves_3 : decode cX0_onShelves 3 = .ok (.iload_n 1, 1) := dk_27 (dk_at dksX0_onShelves_0 3 rfl rfl)
theorem dX0_onShelves_4 : decode cX0_onShelves 4 = .ok (.invokevirtual 93, 3) := dk_182 0 93 (dk_at dksX0_onShelves_0 4 rfl rfl)
theorem dX0_onShelves_7 : decode cX0_onShelves 7 = .ok (.i2l, 1) := dk_133 (dk_at dksX0_onShelves_0 7 rfl rfl)
theorem dX0_onShelves_8 : decode cX0_onShelves 8 = .ok (.lastore, 1) := dk_80 (dk_at dksX0_onShelves_0 8 rfl rfl)
theorem dX0_onShelves_9 : decode cX0_onShelves 9 = .ok (.goto 6, 3) := dk_167 0 6 (dk_at dksX0_onShelves_0 9 rfl rfl)
theorem dX0_onShelves_12 : decode cX0_onShelves 12 = .ok (.astore_n 3, 1) := dk_78 (dk_at dksX0_onShelves_0 12 rfl rfl)
theorem dX0_onShelves_13 : decode cX0_onShelves 13 = .ok (.iconst 1, 1) := dk_4 (dk_at dksX0_onShelves_0 13 rfl rfl)
theorem dX0_onShelves_14 : decode cX0_onShelves 14 = .ok (.ireturn, 1) := dk_172 (dk_at dksX0_onShelves_0 14 rfl rfl)
theorem dX0_onShelves_15 : decode cX0_onShelves 15 = .ok (.iconst 0, 1) := dk_3 (dk_at dksX0_onShelves_0 15 rfl rfl)
theorem dX0_onShelves_16 : decode cX0_onShelves 16 = .ok (.ireturn, 1) := dk_172 (dk_at dksX0_onShelves_0 16 rfl rfl)
abbrev cX0_needed : ByteArray := method_28_code
def yX0_needed : MethodName := ⟨RX0, "needed", "(LBakeryPlan;I[J)I"⟩
def dkwX0_needed_0 : List UInt8 := [44, 3, 42, 27, 182, 0, 96, 133, 80, 167, 0, 6, 78, 4, 172, 3, 172]
abbrev dktX0_needed_0 : List UInt8 := dkwX0_needed_0 ++ []
theorem dksX0_needed_0 : cX0_needed.data.toList.drop 0 = dktX0_needed_0 := by decide +kernel
theorem dX0_needed_0 : decode cX0_needed 0 = .ok (.aload_n 2, 1) := dk_44 (dk_at dksX0_needed_0 0 rfl rfl)
theorem dX0_needed_1 : decode cX0_needed 1 = .ok (.iconst 0, 1) := dk_3 (dk_at dksX0_needed_0 1 rfl rfl)
theorem dX0_needed_2 : decode cX0_needed 2 = .ok (.aload_n 0, 1) := dk_42 (dk_at dksX0_needed_0 2 rfl rfl)
theorem dX0_needed_3 : decode cX0_needed 3 = .ok (.iload_n 1, 1) := dk_27 (dk_at dksX0_needed_0 3 rfl rfl)
theorem dX0_needed_4 : decode cX0_needed 4 = .ok (.invokevirtual 96, 3) := dk_182 0 96 (dk_at dksX0_needed_0 4 rfl rfl)
theorem dX0_needed_7 : decode cX0_needed 7 = .ok (.i2l, 1) := dk_133 (dk_at dksX0_needed_0 7 rfl rfl)
theorem dX0_needed_8 : decode cX0_needed 8 = .ok (.lastore, 1) := dk_80 (dk_at dksX0_needed_0 8 rfl rfl)
theorem dX0_needed_9 : decode cX0_needed 9 = .ok (.goto 6, 3) := dk_167 0 6 (dk_at dksX0_needed_0 9 rfl rfl)
theorem dX0_needed_12 : decode cX0_needed 12 = .ok (.astore_n 3, 1) := dk_78 (dk_at dksX0_needed_0 12 rfl rfl)
theorem dX0_needed_13 : decode cX0_needed 13 = .ok (.iconst 1, 1) := dk_4 (dk_at dksX0_needed_0 13 rfl rfl)
theorem dX0_needed_14 : decode cX0_needed 14 = .ok (.ireturn, 1) := dk_172 (dk_at dksX0_needed_0 14 rfl rfl)
theorem dX0_needed_15 : decode cX0_needed 15 = .ok (.iconst 0, 1) := dk_3 (dk_at dksX0_needed_0 15 rfl rfl)
theorem dX0_needed_16 : decode cX0_needed 16 = .ok (.ireturn, 1) := dk_172 (dk_at dksX0_needed_0 16 rfl rfl)
abbrev cX0_slack : ByteArray := method_29_code
def yX0_slack : MethodName := ⟨RX0, "slack", "(LBakeryPlan;II[J)I"⟩
def dkwX0_slack_0 : List UInt8 := [45, 3, 42, 27, 28, 182, 0, 99, 133, 80, 167, 0, 11, 58, 4, 4, 172, 58, 4, 5, 172, 3, 172]
abbrev dktX0_slack_0 : List UInt8 := dkwX0_slack_0 ++ []
theorem dksX0_slack_0 : cX0_slack.data.toList.drop 0 = dktX0_slack_0 := by decide +kernel
theorem dX0_slack_0 : decode cX0_slack 0 = .ok (.aload_n 3, 1) := dk_45 (dk_at dksX0_slack_0 0 rfl rfl)
theorem dX0_slack_1 : decode cX0_slack 1 = .ok (.iconst 0, 1) := dk_3 (dk_at dksX0_slack_0 1 rfl rfl)
theorem dX0_slack_2 : decode cX0_slack 2 = .ok (.aload_n 0, 1) := dk_42 (dk_at dksX0_slack_0 2 rfl rfl)
theorem dX0_slack_3 : decode cX0_slack 3 = .ok (.iload_n 1, 1) := dk_27 (dk_at dksX0_slack_0 3 rfl rfl)
theorem dX0_slack_4 : decode cX0_slack 4 = .ok (.iload_n 2, 1) := dk_28 (dk_at dksX0_slack_0 4 rfl rfl)
theorem dX0_slack_5 : decode cX0_slack 5 = .ok (.invokevirtual 99, 3) := dk_182 0 99 (dk_at dksX0_slack_0 5 rfl rfl)
theorem dX0_slack_8 : decode cX0_slack 8 = .ok (.i2l, 1) := dk_133 (dk_at dksX0_slack_0 8 rfl rfl)
theorem dX0_slack_9 : decode cX0_slack 9 = .ok (.lastore, 1) := dk_80 (dk_at dksX0_slack_0 9 rfl rfl)
theorem dX0_slack_10 : decode cX0_slack 10 = .ok (.goto 11, 3) := dk_167 0 11 (dk_at dksX0_slack_0 10 rfl rfl)
theorem dX0_slack_13 : decode cX0_slack 13 = .ok (.astore 4, 2) := dk_58 4 (dk_at dksX0_slack_0 13 rfl rfl)
theorem dX0_slack_15 : decode cX0_slack 15 = .ok (.iconst 1, 1) := dk_4 (dk_at dksX0_slack_0 15 rfl rfl)
theorem dX0_slack_16 : decode cX0_slack 16 = .ok (.ireturn, 1) := dk_172 (dk_at dksX0_slack_0 16 rfl rfl)
theorem dX0_slack_17 : decode cX0_slack 17 = .ok (.astore 4, 2) := dk_58 4 (dk_at dksX0_slack_0 17 rfl rfl)
theorem dX0_slack_19 : decode cX0_slack 19 = .ok (.iconst 2, 1) := dk_5 (dk_at dksX0_slack_0 19 rfl rfl)
theorem dX0_slack_20 : decode cX0_slack 20 = .ok (.ireturn, 1) := dk_172 (dk_at dksX0_slack_0 20 rfl rfl)
theorem dX0_slack_21 : decode cX0_slack 21 = .ok (.iconst 0, 1) := dk_3 (dk_at dksX0_slack_0 21 rfl rfl)
theorem dX0_slack_22 : decode cX0_slack 22 = .ok (.ireturn, 1) := dk_172 (dk_at dksX0_slack_0 22 rfl rfl)
abbrev cX0_addBatch : ByteArray := method_30_code
def yX0_addBatch : MethodName := ⟨RX0, "addBatch", "(LBakeryPlan;III[J)I"⟩
def dkwX0_addBatch_1 : List UInt8 := [58, 5, 6, 172, 3, 172]
abbrev dktX0_addBatch_1 : List UInt8 := dkwX0_addBatch_1 ++ []
def dkwX0_addBatch_0 : List UInt8 := [25, 4, 3, 42, 27, 28, 29, 182, 0, 102, 133, 80, 167, 0, 15, 58, 5, 4, 172, 58, 5, 5, 172]
abbrev dktX0_addBatch_0 : List UInt8 := dkwX0_addBatch_0 ++ dktX0_addBatch_1
theorem dksX0_addBatch_0 : cX0_addBatch.data.toList.drop 0 = dktX0_addBatch_0 := by decide +kernel
theorem dksX0_addBatch_1 : cX0_addBatch.data.toList.drop 23 = dktX0_addBatch_1 := dk_seg dksX0_addBatch_0 23 rfl rfl
theorem dX0_addBatch_0 : decode cX0_addBatch 0 = .ok (.aload 4, 2) := dk_25 4 (dk_at dksX0_addBatch_0 0 rfl rfl)
theorem dX0_addBatch_2 : decode cX0_addBatch 2 = .ok (.iconst 0, 1) := dk_3 (dk_at dksX0_addBatch_0 2 rfl rfl)
theorem dX0_addBatch_3 : decode cX0_addBatch 3 = .ok (.aload_n 0, 1) := dk_42 (dk_at dksX0_addBatch_0 3 rfl rfl)
theorem dX0_addBatch_4 : decode cX0_addBatch 4 = .ok (.iload_n 1, 1) := dk_27 (dk_at dksX0_addBatch_0 4 rfl rfl)
theorem dX0_addBatch_5 : decode cX0_addBatch 5 = .ok (.iload_n 2, 1) := dk_28 (dk_at dksX0_addBatch_0 5 rfl rfl)
theorem dX0_addBatch_6 : decode cX0_addBatch 6 = .ok (.iload_n 3, 1) := dk_29 (dk_at dksX0_addBatch_0 6 rfl rfl)
theorem dX0_addBatch_7 : decode cX0_addBatch 7 = .ok (.invokevirtual 102, 3) := dk_182 0 102 (dk_at dksX0_addBatch_0 7 rfl rfl)
theorem dX0_addBatch_10 : decode cX0_addBatch 10 = .ok (.i2l, 1) := dk_133 (dk_at dksX0_addBatch_0 10 rfl rfl)
theorem dX0_addBatch_11 : decode cX0_addBatch 11 = .ok (.lastore, 1) := dk_80 (dk_at dksX0_addBatch_0 11 rfl rfl)
theorem dX0_addBatch_12 : decode cX0_addBatch 12 = .ok (.goto 15, 3) := dk_167 0 15 (dk_at dksX0_addBatch_0 12 rfl rfl)
theorem dX0_addBatch_15 : decode cX0_addBatch 15 = .ok (.astore 5, 2) := dk_58 5 (dk_at dksX0_addBatch_0 15 rfl rfl)
theorem dX0_addBatch_17 : decode cX0_addBatch 17 = .ok (.iconst 1, 1) := dk_4 (dk_at dksX0_addBatch_0 17 rfl rfl)
theorem dX0_addBatch_18 : decode cX0_addBatch 18 = .ok (.ireturn, 1) := dk_172 (dk_at dksX0_addBatch_0 18 rfl rfl)
theorem dX0_addBatch_19 : decode cX0_addBatch 19 = .ok (.astore 5, 2) := dk_58 5 (dk_at dksX0_addBatch_0 19 rfl rfl)
theorem dX0_addBatch_21 : decode cX0_addBatch 21 = .ok (.iconst 2, 1) := dk_5 (dk_at dksX0_addBatch_0 21 rfl rfl)
theorem dX0_addBatch_22 : decode cX0_addBatch 22 = .ok (.ireturn, 1) := dk_172 (dk_at dksX0_addBatch_0 22 rfl rfl)
theorem dX0_addBatch_23 : decode cX0_addBatch 23 = .ok (.astore 5, 2) := dk_58 5 (dk_at dksX0_addBatch_1 0 rfl rfl)
theorem dX0_addBatch_25 : decode cX0_addBatch 25 = .ok (.iconst 3, 1) := dk_6 (dk_at dksX0_addBatch_1 2 rfl rfl)
theorem dX0_addBatch_26 : decode cX0_addBatch 26 = .ok (.ireturn, 1) := dk_172 (dk_at dksX0_addBatch_1 3 rfl rfl)
theorem dX0_addBatch_27 : decode cX0_addBatch 27 = .ok (.iconst 0, 1) := dk_3 (dk_at dksX0_addBatch_1 4 rfl rfl)
theorem dX0_addBatch_28 : decode cX0_addBatch 28 = .ok (.ireturn, 1) := dk_172 (dk_at dksX0_addBatch_1 5 rfl rfl)
abbrev cX0_removeBatch : ByteArray := method_31_code
def yX0_removeBatch : MethodName := ⟨RX0, "removeBatch", "(LBakeryPlan;I[J)I"⟩
def dkwX0_removeBatch_0 : List UInt8 := [44, 3, 42, 27, 182, 0, 106, 133, 80, 167, 0, 6, 78, 4, 172, 3, 172]
abbrev dktX0_removeBatch_0 : List UInt8 := dkwX0_removeBatch_0 ++ []
theorem dksX0_removeBatch_0 : cX0_removeBatch.data.toList.drop 0 = dktX0_removeBatch_0 := by decide +kernel
theorem dX0_removeBatch_0 : decode cX0_removeBatch 0 = .ok (.aload_n 2, 1) := dk_44 (dk_at dksX0_removeBatch_0 0 rfl rfl)
theorem dX0_removeBatch_1 : decode cX0_removeBatch 1 = .ok (.iconst 0, 1) := dk_3 (dk_at dksX0_removeBatch_0 1 rfl rfl)
theorem dX0_removeBatch_2 : decode cX0_removeBatch 2 = .ok (.aload_n 0, 1) := dk_42 (dk_at dksX0_removeBatch_0 2 rfl rfl)
theorem dX0_removeBatch_3 : decode cX0_removeBatch 3 = .ok (.iload_n 1, 1) := dk_27 (dk_at dksX0_removeBatch_0 3 rfl rfl)
theorem dX0_removeBatch_4 : decode cX0_removeBatch 4 = .ok (.invokevirtual 106, 3) := dk_182 0 106 (dk_at dksX0_removeBatch_0 4 rfl rfl)
theorem dX0_removeBatch_7 : decode cX0_removeBatch 7 = .ok (.i2l, 1) := dk_133 (dk_at dksX0_removeBatch_0 7 rfl rfl)
theorem dX0_removeBatch_8 : decode cX0_removeBatch 8 = .ok (.lastore, 1) := dk_80 (dk_at dksX0_removeBatch_0 8 rfl rfl)
theorem dX0_removeBatch_9 : decode cX0_removeBatch 9 = .ok (.goto 6, 3) := dk_167 0 6 (dk_at dksX0_removeBatch_0 9 rfl rfl)
theorem dX0_removeBatch_12 : decode cX0_removeBatch 12 = .ok (.astore_n 3, 1) := dk_78 (dk_at dksX0_removeBatch_0 12 rfl rfl)
theorem dX0_removeBatch_13 : decode cX0_removeBatch 13 = .ok (.iconst 1, 1) := dk_4 (dk_at dksX0_removeBatch_0 13 rfl rfl)
theorem dX0_removeBatch_14 : decode cX0_removeBatch 14 = .ok (.ireturn, 1) := dk_172 (dk_at dksX0_removeBatch_0 14 rfl rfl)
theorem dX0_removeBatch_15 : decode cX0_removeBatch 15 = .ok (.iconst 0, 1) := dk_3 (dk_at dksX0_removeBatch_0 15 rfl rfl)
theorem dX0_removeBatch_16 : decode cX0_removeBatch 16 = .ok (.ireturn, 1) := dk_172 (dk_at dksX0_removeBatch_0 16 rfl rfl)
abbrev cX0_moveBatch : ByteArray := method_32_code
def yX0_moveBatch : MethodName := ⟨RX0, "moveBatch", "(LBakeryPlan;II[J)I"⟩
def dkwX0_moveBatch_0 : List UInt8 := [45, 3, 42, 27, 28, 182, 0, 109, 133, 80, 167, 0, 7, 58, 4, 4, 172, 3, 172]
abbrev dktX0_moveBatch_0 : List UInt8 := dkwX0_moveBatch_0 ++ []
theorem dksX0_moveBatch_0 : cX0_moveBatch.data.toList.drop 0 = dktX0_moveBatch_0 := by decide +kernel
theorem dX0_moveBatch_0 : decode cX0_moveBatch 0 = .ok (.aload_n 3, 1) := dk_45 (dk_at dksX0_moveBatch_0 0 rfl rfl)
theorem dX0_moveBatch_1 : decode cX0_moveBatch 1 = .ok (.iconst 0, 1) := dk_3 (dk_at dksX0_moveBatch_0 1 rfl rfl)
theorem dX0_moveBatch_2 : decode cX0_moveBatch 2 = .ok (.aload_n 0, 1) := dk_42 (dk_at dksX0_moveBatch_0 2 rfl rfl)
theorem dX0_moveBatch_3 : decode cX0_moveBatch 3 = .ok (.iload_n 1, 1) := dk_27 (dk_at dksX0_moveBatch_0 3 rfl rfl)
theorem dX0_moveBatch_4 : decode cX0_moveBatch 4 = .ok (.iload_n 2, 1) := dk_28 (dk_at dksX0_moveBatch_0 4 rfl rfl)
theorem dX0_moveBatch_5 : decode cX0_moveBatch 5 = .ok (.invokevirtual 109, 3) := dk_182 0 109 (dk_at dksX0_moveBatch_0 5 rfl rfl)
theorem dX0_moveBatch_8 : decode cX0_moveBatch 8 = .ok (.i2l, 1) := dk_133 (dk_at dksX0_moveBatch_0 8 rfl rfl)
theorem dX0_moveBatch_9 : decode cX0_moveBatch 9 = .ok (.lastore, 1) := dk_80 (dk_at dksX0_moveBatch_0 9 rfl rfl)
theorem dX0_moveBatch_10 : decode cX0_moveBatch 10 = .ok (.goto 7, 3) := dk_167 0 7 (dk_at dksX0_moveBatch_0 10 rfl rfl)
theorem dX0_moveBatch_13 : decode cX0_moveBatch 13 = .ok (.astore 4, 2) := dk_58 4 (dk_at dksX0_moveBatch_0 13 rfl rfl)
theorem dX0_moveBatch_15 : decode cX0_moveBatch 15 = .ok (.iconst 1, 1) := dk_4 (dk_at dksX0_moveBatch_0 15 rfl rfl)
theorem dX0_moveBatch_16 : decode cX0_moveBatch 16 = .ok (.ireturn, 1) := dk_172 (dk_at dksX0_moveBatch_0 16 rfl rfl)
theorem dX0_moveBatch_17 : decode cX0_moveBatch 17 = .ok (.iconst 0, 1) := dk_3 (dk_at dksX0_moveBatch_0 17 rfl rfl)
theorem dX0_moveBatch_18 : decode cX0_moveBatch 18 = .ok (.ireturn, 1) := dk_172 (dk_at dksX0_moveBatch_0 18 rfl rfl)
abbrev cX0_setStart : ByteArray := method_33_code
def yX0_setStart : MethodName := ⟨RX0, "setStart", "(LBakeryPlan;II[J)I"⟩
def dkwX0_setStart_0 : List UInt8 := [45, 3, 42, 27, 28, 182, 0, 112, 133, 80, 167, 0, 11, 58, 4, 4, 172, 58, 4, 5, 172, 3, 172]
abbrev dktX0_setStart_0 : List UInt8 := dkwX0_setStart_0 ++ []
theorem dksX0_setStart_0 : cX0_setStart.data.toList.drop 0 = dktX0_setStart_0 := by decide +kernel
theorem dX0_setStart_0 : decode cX0_setStart 0 = .ok (.aload_n 3, 1) := dk_45 (dk_at dksX0_setStart_0 0 rfl rfl)
theorem dX0_setStart_1 : decode cX0_setStart 1 = .ok (.iconst 0, 1) := dk_3 (dk_at dksX0_setStart_0 1 rfl rfl)
theorem dX0_setStart_2 : decode cX0_setStart 2 = .ok (.aload_n 0, 1) := dk_42 (dk_at dksX0_setStart_0 2 rfl rfl)
theorem dX0_setStart_3 : decode cX0_setStart 3 = .ok (.iload_n 1, 1) := dk_27 (dk_at dksX0_setStart_0 3 rfl rfl)
theorem dX0_setStart_4 : decode cX0_setStart 4 = .ok (.iload_n 2, 1) := dk_28 (dk_at dksX0_setStart_0 4 rfl rfl)
theorem dX0_setStart_5 : decode cX0_setStart 5 = .ok (.invokevirtual 112, 3) := dk_182 0 112 (dk_at dksX0_setStart_0 5 rfl rfl)
theorem dX0_setStart_8 : decode cX0_setStart 8 = .ok (.i2l, 1) := dk_133 (dk_at dksX0_setStart_0 8 rfl rfl)
theorem dX0_setStart_9 : decode cX0_setStart 9 = .ok (.lastore, 1) := dk_80 (dk_at dksX0_setStart_0 9 rfl rfl)
theorem dX0_setStart_10 : decode cX0_setStart 10 = .ok (.goto 11, 3) := dk_167 0 11 (dk_at dksX0_setStart_0 10 rfl rfl)
theorem dX0_setStart_13 : decode cX0_setStart 13 = .ok (.astore 4, 2) := dk_58 4 (dk_at dksX0_setStart_0 13 rfl rfl)
theorem dX0_setStart_15 : decode cX0_setStart 15 = .ok (.iconst 1, 1) := dk_4 (dk_at dksX0_setStart_0 15 rfl rfl)
theorem dX0_setStart_16 : decode cX0_setStart 16 = .ok (.ireturn, 1) := dk_172 (dk_at dksX0_setStart_0 16 rfl rfl)
theorem dX0_setStart_17 : decode cX0_setStart 17 = .ok (.astore 4, 2) := dk_58 4 (dk_at dksX0_setStart_0 17 rfl rfl)
theorem dX0_setStart_19 : decode cX0_setStart 19 = .ok (.iconst 2, 1) := dk_5 (dk_at dksX0_setStart_0 19 rfl rfl)
theorem dX0_setStart_20 : decode cX0_setStart 20 = .ok (.ireturn, 1) := dk_172 (dk_at dksX0_setStart_0 20 rfl rfl)
theorem dX0_setStart_21 : decode cX0_setStart 21 = .ok (.iconst 0, 1) := dk_3 (dk_at dksX0_setStart_0 21 rfl rfl)
theorem dX0_setStart_22 : decode cX0_setStart 22 = .ok (.ireturn, 1) := dk_172 (dk_at dksX0_setStart_0 22 rfl rfl)
abbrev cX0_setWave : ByteArray := method_34_code
def yX0_setWave : MethodName := ⟨RX0, "setWave", "(LBakeryPlan;II[J)I"⟩
def dkwX0_setWave_0 : List UInt8 := [45, 3, 42, 27, 28, 182, 0, 115, 133, 80, 167, 0, 7, 58, 4, 4, 172, 3, 172]
abbrev dktX0_setWave_0 : List UInt8 := dkwX0_setWave_0 ++ []
theorem dksX0_setWave_0 : cX0_setWave.data.toList.drop 0 = dktX0_setWave_0 := by decide +kernel
theorem dX0_setWave_0 : decode cX0_setWave 0 = .ok (.aload_n 3, 1) := dk_45 (dk_at dksX0_setWave_0 0 rfl rfl)
theorem dX0_setWave_1 : decode cX0_setWave 1 = .ok (.iconst 0, 1) := dk_3 (dk_at dksX0_setWave_0 1 rfl rfl)
theorem dX0_setWave_2 : decode cX0_setWave 2 = .ok (.aload_n 0, 1) := dk_42 (dk_at dksX0_setWave_0 2 rfl rfl)
theorem dX0_setWave_3 : decode cX0_setWave 3 = .ok (.iload_n 1, 1) := dk_27 (dk_at dksX0_setWave_0 3 rfl rfl)
theorem dX0_setWave_4 : decode cX0_setWave 4 = .ok (.iload_n 2, 1) := dk_28 (dk_at dksX0_setWave_0 4 rfl rfl)
theorem dX0_setWave_5 : decode cX0_setWave 5 = .ok (.invokevirtual 115, 3) := dk_182 0 115 (dk_at dksX0_setWave_0 5 rfl rfl)
theorem dX0_setWave_8 : decode cX0_setWave 8 = .ok (.i2l, 1) := dk_133 (dk_at dksX0_setWave_0 8 rfl rfl)
theorem dX0_setWave_9 : decode cX0_setWave 9 = .ok (.lastore, 1) := dk_80 (dk_at dksX0_setWave_0 9 rfl rfl)
theorem dX0_setWave_10 : decode cX0_setWave 10 = .ok (.goto 7, 3) := dk_167 0 7 (dk_at dksX0_setWave_0 10 rfl rfl)
theorem dX0_setWave_13 : decode cX0_setWave 13 = .ok (.astore 4, 2) := dk_58 4 (dk_at dksX0_setWave_0 13 rfl rfl)
theorem dX0_setWave_15 : decode cX0_setWave 15 = .ok (.iconst 1, 1) := dk_4 (dk_at dksX0_setWave_0 15 rfl rfl)
theorem dX0_setWave_16 : decode cX0_setWave 16 = .ok (.ireturn, 1) := dk_172 (dk_at dksX0_setWave_0 16 rfl rfl)
theorem dX0_setWave_17 : decode cX0_setWave 17 = .ok (.iconst 0, 1) := dk_3 (dk_at dksX0_setWave_0 17 rfl rfl)
theorem dX0_setWave_18 : decode cX0_setWave 18 = .ok (.ireturn, 1) := dk_172 (dk_at dksX0_setWave_0 18 rfl rfl)
abbrev cX0_setSetting : ByteArray := method_35_code
def yX0_setSetting : MethodName := ⟨RX0, "setSetting", "(LBakeryPlan;II[J)I"⟩
def dkwX0_setSetting_0 : List UInt8 := [45, 3, 42, 27, 28, 182, 0, 118, 133, 80, 167, 0, 7, 58, 4, 4, 172, 3, 172]
abbrev dktX0_setSetting_0 : List UInt8 := dkwX0_setSetting_0 ++ []
theorem dksX0_setSetting_0 : cX0_setSetting.data.toList.drop 0 = dktX0_setSetting_0 := by decide +kernel
theorem dX0_setSetting_0 : decode cX0_setSetting 0 = .ok (.aload_n 3, 1) := dk_45 (dk_at dksX0_setSetting_0 0 rfl rfl)
theorem dX0_setSetting_1 : decode cX0_setSetting 1 = .ok (.iconst 0, 1) := dk_3 (dk_at dksX0_setSetting_0 1 rfl rfl)
theorem dX0_setSetting_2 : decode cX0_setSetting 2 = .ok (.aload_n 0, 1) := dk_42 (dk_at dksX0_setSetting_0 2 rfl rfl)
theorem dX0_setSetting_3 : decode cX0_setSetting 3 = .ok (.iload_n 1, 1) := dk_27 (dk_at dksX0_setSetting_0 3 rfl rfl)
theorem dX0_setSetting_4 : decode cX0_setSetting 4 = .ok (.iload_n 2, 1) := dk_28 (dk_at dksX0_setSetting_0 4 rfl rfl)
theorem dX0_setSetting_5 : decode cX0_setSetting 5 = .ok (.invokevirtual 118, 3) := dk_182 0 118 (dk_at dksX0_setSetting_0 5 rfl rfl)
theorem dX0_setSetting_8 : decode cX0_setSetting 8 = .ok (.i2l, 1) := dk_133 (dk_at dksX0_setSetting_0 8 rfl rfl)
theorem dX0_setSetting_9 : decode cX0_setSetting 9 = .ok (.lastore, 1) := dk_80 (dk_at dksX0_setSetting_0 9 rfl rfl)
theorem dX0_setSetting_10 : decode cX0_setSetting 10 = .ok (.goto 7, 3) := dk_167 0 7 (dk_at dksX0_setSetting_0 10 rfl rfl)
theorem dX0_setSetting_13 : decode cX0_setSetting 13 = .ok (.astore 4, 2) := dk_58 4 (dk_at dksX0_setSetting_0 13 rfl rfl)
theorem dX0_setSetting_15 : decode cX0_setSetting 15 = .ok (.iconst 1, 1) := dk_4 (dk_at dksX0_setSetting_0 15 rfl rfl)
theorem dX0_setSetting_16 : decode cX0_setSetting 16 = .ok (.ireturn, 1) := dk_172 (dk_at dksX0_setSetting_0 16 rfl rfl)
theorem dX0_setSetting_17 : decode cX0_setSetting 17 = .ok (.iconst 0, 1) := dk_3 (dk_at dksX0_setSetting_0 17 rfl rfl)
theorem dX0_setSetting_18 : decode cX0_setSetting 18 = .ok (.ireturn, 1) := dk_172 (dk_at dksX0_setSetting_0 18 rfl rfl)
abbrev cX0_setPolicy : ByteArray := method_36_code
def yX0_setPolicy : MethodName := ⟨RX0, "setPolicy", "(LBakeryPlan;I[J)I"⟩
def dkwX0_setPolicy_0 : List UInt8 := [44, 3, 42, 27, 182, 0, 121, 133, 80, 167, 0, 6, 78, 4, 172, 3, 172]
abbrev dktX0_setPolicy_0 : List UInt8 := dkwX0_setPolicy_0 ++ []
theorem dksX0_setPolicy_0 : cX0_setPolicy.data.toList.drop 0 = dktX0_setPolicy_0 := by decide +kernel
theorem dX0_setPolicy_0 : decode cX0_setPolicy 0 = .ok (.aload_n 2, 1) := dk_44 (dk_at dksX0_setPolicy_0 0 rfl rfl)
theorem dX0_setPolicy_1 : decode cX0_setPolicy 1 = .ok (.iconst 0, 1) := dk_3 (dk_at dksX0_setPolicy_0 1 rfl rfl)
theorem dX0_setPolicy_2 : decode cX0_setPolicy 2 = .ok (.aload_n 0, 1) := dk_42 (dk_at dksX0_setPolicy_0 2 rfl rfl)
theorem dX0_setPolicy_3 : decode cX0_setPolicy 3 = .ok (.iload_n 1, 1) := dk_27 (dk_at dksX0_setPolicy_0 3 rfl rfl)
theorem dX0_setPolicy_4 : decode cX0_setPolicy 4 = .ok (.invokevirtual 121, 3) := dk_182 0 121 (dk_at dksX0_setPolicy_0 4 rfl rfl)
theorem dX0_setPolicy_7 : decode cX0_setPolicy 7 = .ok (.i2l, 1) := dk_133 (dk_at dksX0_setPolicy_0 7 rfl rfl)
theorem dX0_setPolicy_8 : decode cX0_setPolicy 8 = .ok (.lastore, 1) := dk_80 (dk_at dksX0_setPolicy_0 8 rfl rfl)
theorem dX0_setPolicy_9 : decode cX0_setPolicy 9 = .ok (.goto 6, 3) := dk_167 0 6 (dk_at dksX0_setPolicy_0 9 rfl rfl)
theorem dX0_setPolicy_12 : decode cX0_setPolicy 12 = .ok (.astore_n 3, 1) := dk_78 (dk_at dksX0_setPolicy_0 12 rfl rfl)
theorem dX0_setPolicy_13 : decode cX0_setPolicy 13 = .ok (.iconst 1, 1) := dk_4 (dk_at dksX0_setPolicy_0 13 rfl rfl)
theorem dX0_setPolicy_14 : decode cX0_setPolicy 14 = .ok (.ireturn, 1) := dk_172 (dk_at dksX0_setPolicy_0 14 rfl rfl)
theorem dX0_setPolicy_15 : decode cX0_setPolicy 15 = .ok (.iconst 0, 1) := dk_3 (dk_at dksX0_setPolicy_0 15 rfl rfl)
theorem dX0_setPolicy_16 : decode cX0_setPolicy 16 = .ok (.ireturn, 1) := dk_172 (dk_at dksX0_setPolicy_0 16 rfl rfl)
abbrev cX0_undo : ByteArray := method_37_code
def yX0_undo : MethodName := ⟨RX0, "undo", "(LBakeryPlan;[J)I"⟩
def dkwX0_undo_0 : List UInt8 := [43, 3, 42, 182, 0, 124, 133, 80, 167, 0, 6, 77, 4, 172, 3, 172]
abbrev dktX0_undo_0 : List UInt8 := dkwX0_undo_0 ++ []
theorem dksX0_undo_0 : cX0_undo.data.toList.drop 0 = dktX0_undo_0 := by decide +kernel
theorem dX0_undo_0 : decode cX0_undo 0 = .ok (.aload_n 1, 1) := dk_43 (dk_at dksX0_undo_0 0 rfl rfl)
theorem dX0_undo_1 : decode cX0_undo 1 = .ok (.iconst 0, 1) := dk_3 (dk_at dksX0_undo_0 1 rfl rfl)
theorem dX0_undo_2 : decode cX0_undo 2 = .ok (.aload_n 0, 1) := dk_42 (dk_at dksX0_undo_0 2 rfl rfl)
theorem dX0_undo_3 : decode cX0_undo 3 = .ok (.invokevirtual 124, 3) := dk_182 0 124 (dk_at dksX0_undo_0 3 rfl rfl)
theorem dX0_undo_6 : decode cX0_undo 6 = .ok (.i2l, 1) := dk_133 (dk_at dksX0_undo_0 6 rfl rfl)
theorem dX0_undo_7 : decode cX0_undo 7 = .ok (.lastore, 1) := dk_80 (dk_at dksX0_undo_0 7 rfl rfl)
theorem dX0_undo_8 : decode cX0_undo 8 = .ok (.goto 6, 3) := dk_167 0 6 (dk_at dksX0_undo_0 8 rfl rfl)
theorem dX0_undo_11 : decode cX0_undo 11 = .ok (.astore_n 2, 1) := dk_77 (dk_at dksX0_undo_0 11 rfl rfl)
theorem dX0_undo_12 : decode cX0_undo 12 = .ok (.iconst 1, 1) := dk_4 (dk_at dksX0_undo_0 12 rfl rfl)
theorem dX0_undo_13 : decode cX0_undo 13 = .ok (.ireturn, 1) := dk_172 (dk_at dksX0_undo_0 13 rfl rfl)
theorem dX0_undo_14 : decode cX0_undo 14 = .ok (.iconst 0, 1) := dk_3 (dk_at dksX0_undo_0 14 rfl rfl)
theorem dX0_undo_15 : decode cX0_undo 15 = .ok (.ireturn, 1) := dk_172 (dk_at dksX0_undo_0 15 rfl rfl)
abbrev cX0_format : ByteArray := method_38_code
def yX0_format : MethodName := ⟨RX0, "format", "(LBakeryPlan;I[J)I"⟩
def dkwX0_format_0 : List UInt8 := [44, 3, 42, 27, 182, 0, 127, 133, 80, 167, 0, 6, 78, 4, 172, 3, 172]
abbrev dktX0_format_0 : List UInt8 := dkwX0_format_0 ++ []
theorem dksX0_format_0 : cX0_format.data.toList.drop 0 = dktX0_format_0 := by decide +kernel
theorem dX0_format_0 : decode cX0_format 0 = .ok (.aload_n 2, 1) := dk_44 (dk_at dksX0_format_0 0 rfl rfl)
theorem dX0_format_1 : decode cX0_format 1 = .ok (.iconst 0, 1) := dk_3 (dk_at dksX0_format_0 1 rfl rfl)
theorem dX0_format_2 : decode cX0_format 2 = .ok (.aload_n 0, 1) := dk_42 (dk_at dksX0_format_0 2 rfl rfl)
theorem dX0_format_3 : decode cX0_format 3 = .ok (.iload_n 1, 1) := dk_27 (dk_at dksX0_format_0 3 rfl rfl)
theorem dX0_format_4 : decode cX0_format 4 = .ok (.invokevirtual 127, 3) := dk_182 0 127 (dk_at dksX0_format_0 4 rfl rfl)
theorem dX0_format_7 : decode cX0_format 7 = .ok (.i2l, 1) := dk_133 (dk_at dksX0_format_0 7 rfl rfl)
theorem dX0_format_8 : decode cX0_format 8 = .ok (.lastore, 1) := dk_80 (dk_at dksX0_format_0 8 rfl rfl)
theorem dX0_format_9 : decode cX0_format 9 = .ok (.goto 6, 3) := dk_167 0 6 (dk_at dksX0_format_0 9 rfl rfl)
theorem dX0_format_12 : decode cX0_format 12 = .ok (.astore_n 3, 1) := dk_78 (dk_at dksX0_format_0 12 rfl rfl)
theorem dX0_format_13 : decode cX0_format 13 = .ok (.iconst 1, 1) := dk_4 (dk_at dksX0_format_0 13 rfl rfl)
theorem dX0_format_14 : decode cX0_format 14 = .ok (.ireturn, 1) := dk_172 (dk_at dksX0_format_0 14 rfl rfl)
theorem dX0_format_15 : decode cX0_format 15 = .ok (.iconst 0, 1) := dk_3 (dk_at dksX0_format_0 15 rfl rfl)
theorem dX0_format_16 : decode cX0_format 16 = .ok (.ireturn, 1) := dk_172 (dk_at dksX0_format_0 16 rfl rfl)
abbrev cX0_formattedCharacter : ByteArray := method_39_code
def yX0_formattedCharacter : MethodName := ⟨RX0, "formattedCharacter", "(LBakeryPlan;I[J)I"⟩
def dkwX0_formattedCharacter_0 : List UInt8 := [44, 3, 42, 27, 182, 0, 130, 133, 80, 167, 0, 6, 78, 4, 172, 3, 172]
abbrev dktX0_formattedCharacter_0 : List UInt8 := dkwX0_formattedCharacter_0 ++ []
theorem dksX0_formattedCharacter_0 : cX0_formattedCharacter.data.toList.drop 0 = dktX0_formattedCharacter_0 := by decide +kernel
theorem dX0_formattedCharacter_0 : decode cX0_formattedCharacter 0 = .ok (.aload_n 2, 1) := dk_44 (dk_at dksX0_formattedCharacter_0 0 rfl rfl)
theorem dX0_formattedCharacter_1 : decode cX0_formattedCharacter 1 = .ok (.iconst 0, 1) := dk_3 (dk_at dksX0_formattedCharacter_0 1 rfl rfl)
theorem dX0_formattedCharacter_2 : decode cX0_formattedCharacter 2 = .ok (.aload_n 0, 1) := dk_42 (dk_at dksX0_formattedCharacter_0 2 rfl rfl)
theorem dX0_formattedCharacter_3 : decode cX0_formattedCharacter 3 = .ok (.iload_n 1, 1) := dk_27 (dk_at dksX0_formattedCharacter_0 3 rfl rfl)
theorem dX0_formattedCharacter_4 : decode cX0_formattedCharacter 4 = .ok (.invokevirtual 130, 3) := dk_182 0 130 (dk_at dksX0_formattedCharacter_0 4 rfl rfl)
theorem dX0_formattedCharacter_7 : decode cX0_formattedCharacter 7 = .ok (.i2l, 1) := dk_133 (dk_at dksX0_formattedCharacter_0 7 rfl rfl)
theorem dX0_formattedCharacter_8 : decode cX0_formattedCharacter 8 = .ok (.lastore, 1) := dk_80 (dk_at dksX0_formattedCharacter_0 8 rfl rfl)
theorem dX0_formattedCharacter_9 : decode cX0_formattedCharacter 9 = .ok (.goto 6, 3) := dk_167 0 6 (dk_at dksX0_formattedCharacter_0 9 rfl rfl)
theorem dX0_formattedCharacter_12 : decode cX0_formattedCharacter 12 = .ok (.astore_n 3, 1) := dk_78 (dk_at dksX0_formattedCharacter_0 12 rfl rfl)
theorem dX0_formattedCharacter_13 : decode cX0_formattedCharacter 13 = .ok (.iconst 1, 1) := dk_4 (dk_at dksX0_formattedCharacter_0 13 rfl rfl)
theorem dX0_formattedCharacter_14 : decode cX0_formattedCharacter 14 = .ok (.ireturn, 1) := dk_172 (dk_at dksX0_formattedCharacter_0 14 rfl rfl)
theorem dX0_formattedCharacter_15 : decode cX0_formattedCharacter 15 = .ok (.iconst 0, 1) := dk_3 (dk_at dksX0_formattedCharacter_0 15 rfl rfl)
theorem dX0_formattedCharacter_16 : decode cX0_formattedCharacter 16 = .ok (.ireturn, 1) := dk_172 (dk_at dksX0_formattedCharacter_0 16 rfl rfl)
theorem q122 : (Jvm.Cond.initialized "BakeryPlanLaw") ∈ lw_all := lw_g (lw_at lw_m1 0 rfl) rfl
theorem q160 : (Jvm.Cond.classLink "BakeryPlanLaw" (8 : Nat) "BakeryPlan") ∈ lw_all := lw_g (lw_at lw_m1 38 rfl) rfl
theorem q162 : (Jvm.Cond.methodLink "BakeryPlanLaw" (134 : Nat) ({ cls := "BakeryPlan", name := "<init>", desc := "()V" } : Jvm.MethodName)) ∈ lw_all := lw_g (lw_at lw_m1 40 rfl) rfl
theorem q721 : (Jvm.Cond.methodLink "BakeryPlanLaw" (155 : Nat) ({ cls := "BakeryPlan", name := "errorOffset", desc := "()I" } : Jvm.MethodName)) ∈ lw_all := lw_g (lw_at lw_m3 119 rfl) rfl
theorem q725 : (Jvm.Cond.methodLink "BakeryPlanLaw" (159 : Nat) ({ cls := "BakeryPlan", name := "products", desc := "()I" } : Jvm.MethodName)) ∈ lw_all := lw_g (lw_at lw_m3 123 rfl) rfl
theorem q733 : (Jvm.Cond.methodLink "BakeryPlanLaw" (163 : Nat) ({ cls := "BakeryPlan", name := "waves", desc := "()I" } : Jvm.MethodName)) ∈ lw_all := lw_g (lw_at lw_m3 131 rfl) rfl
theorem q737 : (Jvm.Cond.methodLink "BakeryPlanLaw" (167 : Nat) ({ cls := "BakeryPlan", name := "batches", desc := "()I" } : Jvm.MethodName)) ∈ lw_all := lw_g (lw_at lw_m3 135 rfl) rfl
theorem q741 : (Jvm.Cond.methodLink "BakeryPlanLaw" (187 : Nat) ({ cls := "BakeryPlan", name := "policy", desc := "()I" } : Jvm.MethodName)) ∈ lw_all := lw_g (lw_at lw_m3 139 rfl) rfl
theorem q745 : (Jvm.Cond.methodLink "BakeryPlanLaw" (225 : Nat) ({ cls := "BakeryPlan", name := "lastEnd", desc := "()I" } : Jvm.MethodName)) ∈ lw_all := lw_g (lw_at lw_m3 143 rfl) rfl
theorem q899 : (Jvm.Cond.methodLink "BakeryPlanLaw" (229 : Nat) ({ cls := "BakeryPlan", name := "cleanings", desc := "()I" } : Jvm.MethodName)) ∈ lw_all := lw_g (lw_at lw_m4 57 rfl) rfl
theorem q903 : (Jvm.Cond.methodLink "BakeryPlanLaw" (233 : Nat) ({ cls := "BakeryPlan", name := "degrees", desc := "()I" } : Jvm.MethodName)) ∈ lw_all := lw_g (lw_at lw_m4 61 rfl) rfl
theorem q907 : (Jvm.Cond.methodLink "BakeryPlanLaw" (256 : Nat) ({ cls := "BakeryPlan", name := "bestSwap", desc := "()I" } : Jvm.MethodName)) ∈ lw_all := lw_g (lw_at lw_m4 65 rfl) rfl
theorem q1100 : (Jvm.Cond.methodLink "BakeryPlanLaw" (266 : Nat) ({ cls := "BakeryPlan", name := "bestPolicy", desc := "()I" } : Jvm.MethodName)) ∈ lw_all := lw_g (lw_at lw_m5 18 rfl) rfl
theorem q1104 : (Jvm.Cond.methodLink "BakeryPlanLaw" (138 : Nat) ({ cls := "BakeryPlanLaw", name := "append", desc := "(LBakeryPlan;IIIII[J)I" } : Jvm.MethodName)) ∈ lw_all := lw_g (lw_at lw_m5 22 rfl) rfl
theorem q1105 : (Jvm.Cond.static ({ cls := "BakeryPlanLaw", name := "append", desc := "(LBakeryPlan;IIIII[J)I" } : Jvm.MethodName)) ∈ lw_all := lw_g (lw_at lw_m5 23 rfl) rfl
theorem q1106 : (Jvm.Cond.codeWith ({ cls := "BakeryPlanLaw", name := "append", desc := "(LBakeryPlan;IIIII[J)I" } : Jvm.MethodName) method_3_code (8 : Nat) (Option.some Jvm.ClassFile.FieldType.int) [((0 : Nat), (16 : Nat), (19 : Nat), (13 : Nat))]) ∈ lw_all := lw_g (lw_at lw_m5 24 rfl) rfl
theorem q1107 : (Jvm.Cond.classLink "BakeryPlanLaw" (13 : Nat) "java/lang/IllegalStateException") ∈ lw_all := lw_g (lw_at lw_m5 25 rfl) rfl
theorem q1108 : (Jvm.Cond.methodLink "BakeryPlanLaw" (7 : Nat) ({ cls := "BakeryPlan", name := "append", desc := "(IIIII)I" } : Jvm.MethodName)) ∈ lw_all := lw_g (lw_at lw_m5 26 rfl) rfl
theorem q1136 : (Jvm.Cond.methodLink "BakeryPlanLaw" (147 : Nat) ({ cls := "BakeryPlanLaw", name := "truncate", desc := "(LBakeryPlan;I)I" } : Jvm.MethodName)) ∈ lw_all := lw_g (lw_at lw_m5 54 rfl) rfl
theorem q1137 : (Jvm.Cond.static ({ cls := "BakeryPlanLaw", name := "truncate", desc := "(LBakeryPlan;I)I" } : Jvm.MethodName)) ∈ lw_all := lw_g (lw_at lw_m5 55 rfl) rfl
theorem q1138 : (Jvm.Cond.codeWith ({ cls := "BakeryPlanLaw", name := "truncate", desc := "(LBakeryPlan;I)I" } : Jvm.MethodName) method_4_code (3 : Nat) (Option.some Jvm.ClassFile.FieldType.int) [((0 : Nat), (5 : Nat), (8 : Nat), (19 : Nat))]) ∈ lw_all := lw_g (lw_at lw_m5 56 rfl) rfl
theorem q1139 : (Jvm.Cond.classLink "BakeryPlanLaw" (19 : Nat) "java/lang/IllegalArgumentException") ∈ lw_all := lw_g (lw_at lw_m5 57 rfl) rfl
theorem q1140 : (Jvm.Cond.methodLink "BakeryPlanLaw" (15 : Nat) ({ cls := "BakeryPlan", name := "truncate", desc := "(I)V" } : Jvm.MethodName)) ∈ lw_all := lw_g (lw_at lw_m5 58 rfl) rfl
theorem q1155 : (Jvm.Cond.methodLink "BakeryPlanLaw" (151 : Nat) ({ cls := "BakeryPlanLaw", name := "load", desc := "(LBakeryPlan;[J)I" } : Jvm.MethodName)) ∈ lw_all := lw_g (lw_at lw_m5 73 rfl) rfl
theorem q1156 : (Jvm.Cond.static ({ cls := "BakeryPlanLaw", name := "load", desc := "(LBakeryPlan;[J)I" } : Jvm.MethodName)) ∈ lw_all := lw_g (lw_at lw_m5 74 rfl) rfl
theorem q1157 : (Jvm.Cond.codeWith ({ cls := "BakeryPlanLaw", name := "load", desc := "(LBakeryPlan;[J)I" } : Jvm.MethodName) method_5_code (3 : Nat) (Option.some Jvm.ClassFile.FieldType.int) [((0 : Nat), (8 : Nat), (11 : Nat), (19 : Nat))]) ∈ lw_all := lw_g (lw_at lw_m5 75 rfl) rfl
theorem q1158 : (Jvm.Cond.methodLink "BakeryPlanLaw" (21 : Nat) ({ cls := "BakeryPlan", name := "load", desc := "()I" } : Jvm.MethodName)) ∈ lw_all := lw_g (lw_at lw_m5 76 rfl) rfl
theorem q1501 : (Jvm.Cond.methodLink "BakeryPlanLaw" (171 : Nat) ({ cls := "BakeryPlanLaw", name := "waveMinute", desc := "(LBakeryPlan;I[J)I" } : Jvm.MethodName)) ∈ lw_all := lw_g (lw_at lw_m6 179 rfl) rfl
theorem q1502 : (Jvm.Cond.static ({ cls := "BakeryPlanLaw", name := "waveMinute", desc := "(LBakeryPlan;I[J)I" } : Jvm.MethodName)) ∈ lw_all := lw_g (lw_at lw_m6 180 rfl) rfl
theorem q1503 : (Jvm.Cond.codeWith ({ cls := "BakeryPlanLaw", name := "waveMinute", desc := "(LBakeryPlan;I[J)I" } : Jvm.MethodName) method_6_code (4 : Nat) (Option.some Jvm.ClassFile.FieldType.int) [((0 : Nat), (9 : Nat), (12 : Nat), (29 : Nat))]) ∈ lw_all := lw_g (lw_at lw_m6 181 rfl) rfl
theorem q1504 : (Jvm.Cond.classLink "BakeryPlanLaw" (29 : Nat) "java/lang/IndexOutOfBoundsException") ∈ lw_all := lw_g (lw_at lw_m6 182 rfl) rfl
theorem q1520 : (Jvm.Cond.methodLink "BakeryPlanLaw" (25 : Nat) ({ cls := "BakeryPlan", name := "waveMinute", desc := "(I)I" } : Jvm.MethodName)) ∈ lw_all := lw_g (lw_at lw_m6 198 rfl) rfl
theorem q1532 : (Jvm.Cond.methodLink "BakeryPlanLaw" (175 : Nat) ({ cls := "BakeryPlanLaw", name := "productOf", desc := "(LBakeryPlan;I[J)I" } : Jvm.MethodName)) ∈ lw_all := lw_g (lw_at lw_m6 210 rfl) rfl
theorem q1533 : (Jvm.Cond.static ({ cls := "BakeryPlanLaw", name := "productOf", desc := "(LBakeryPlan;I[J)I" } : Jvm.MethodName)) ∈ lw_all := lw_g (lw_at lw_m6 211 rfl) rfl
theorem q1534 : (Jvm.Cond.codeWith ({ cls := "BakeryPlanLaw", name := "productOf", desc := "(LBakeryPlan;I[J)I" } : Jvm.MethodName) method_7_code (4 : Nat) (Option.some Jvm.ClassFile.FieldType.int) [((0 : Nat), (9 : Nat), (12 : Nat), (29 : Nat))]) ∈ lw_all := lw_g (lw_at lw_m6 212 rfl) rfl
theorem q1535 : (Jvm.Cond.methodLink "BakeryPlanLaw" (31 : Nat) ({ cls := "BakeryPlan", name := "productOf", desc := "(I)I" } : Jvm.MethodName)) ∈ lw_all := lw_g (lw_at lw_m6 213 rfl) rfl
theorem q1545 : (Jvm.Cond.methodLink "BakeryPlanLaw" (178 : Nat) ({ cls := "BakeryPlanLaw", name := "startOf", desc := "(LBakeryPlan;I[J)I" } : Jvm.MethodName)) ∈ lw_all := lw_g (lw_at lw_m6 223 rfl) rfl
theorem q1546 : (Jvm.Cond.static ({ cls := "BakeryPlanLaw", name := "startOf", desc := "(LBakeryPlan;I[J)I" } : Jvm.MethodName)) ∈ lw_all := lw_g (lw_at lw_m6 224 rfl) rfl
theorem q1547 : (Jvm.Cond.codeWith ({ cls := "BakeryPlanLaw", name := "startOf", desc := "(LBakeryPlan;I[J)I" } : Jvm.MethodName) method_8_code (4 : Nat) (Option.some Jvm.ClassFile.FieldType.int) [((0 : Nat), (9 : Nat), (12 : Nat), (29 : Nat))]) ∈ lw_all := lw_g (lw_at lw_m6 225 rfl) rfl
theorem q1548 : (Jvm.Cond.methodLink "BakeryPlanLaw" (34 : Nat) ({ cls := "BakeryPlan", name := "startOf", desc := "(I)I" } : Jvm.MethodName)) ∈ lw_all := lw_g (lw_at lw_m6 226 rfl) rfl
theorem q1552 : (Jvm.Cond.methodLink "BakeryPlanLaw" (181 : Nat) ({ cls := "BakeryPlanLaw", name := "waveOf", desc := "(LBakeryPlan;I[J)I" } : Jvm.MethodName)) ∈ lw_all := lw_g (lw_at lw_m6 230 rfl) rfl
theorem q1553 : (Jvm.Cond.static ({ cls := "BakeryPlanLaw", name := "waveOf", desc := "(LBakeryPlan;I[J)I" } : Jvm.MethodName)) ∈ lw_all := lw_g (lw_at lw_m6 231 rfl) rfl
theorem q1554 : (Jvm.Cond.codeWith ({ cls := "BakeryPlanLaw", name := "waveOf", desc := "(LBakeryPlan;I[J)I" } : Jvm.MethodName) method_9_code (4 : Nat) (Option.some Jvm.ClassFile.FieldType.int) [((0 : Nat), (9 : Nat), (12 : Nat), (29 : Nat))]) ∈ lw_all := lw_g (lw_at lw_m6 232 rfl) rfl
theorem q1555 : (Jvm.Cond.methodLink "BakeryPlanLaw" (37 : Nat) ({ cls := "BakeryPlan", name := "waveOf", desc := "(I)I" } : Jvm.MethodName)) ∈ lw_all := lw_g (lw_at lw_m6 233 rfl) rfl
theorem q1559 : (Jvm.Cond.methodLink "BakeryPlanLaw" (184 : Nat) ({ cls := "BakeryPlanLaw", name := "setting", desc := "(LBakeryPlan;I[J)I" } : Jvm.MethodName)) ∈ lw_all := lw_g (lw_at lw_m6 237 rfl) rfl
theorem q1560 : (Jvm.Cond.static ({ cls := "BakeryPlanLaw", name := "setting", desc := "(LBakeryPlan;I[J)I" } : Jvm.MethodName)) ∈ lw_all := lw_g (lw_at lw_m6 238 rfl) rfl
theorem q1561 : (Jvm.Cond.codeWith ({ cls := "BakeryPlanLaw", name := "setting", desc := "(LBakeryPlan;I[J)I" } : Jvm.MethodName) method_10_code (4 : Nat) (Option.some Jvm.ClassFile.FieldType.int) [((0 : Nat), (9 : Nat), (12 : Nat), (19 : Nat))]) ∈ lw_all := lw_g (lw_at lw_m6 239 rfl) rfl
theorem q1562 : (Jvm.Cond.methodLink "BakeryPlanLaw" (40 : Nat) ({ cls := "BakeryPlan", name := "setting", desc := "(I)I" } : Jvm.MethodName)) ∈ lw_all := lw_g (lw_at lw_m7 0 rfl) rfl
theorem q1567 : (Jvm.Cond.methodLink "BakeryPlanLaw" (191 : Nat) ({ cls := "BakeryPlanLaw", name := "state", desc := "(LBakeryPlan;I[J)I" } : Jvm.MethodName)) ∈ lw_all := lw_g (lw_at lw_m7 5 rfl) rfl
theorem q1568 : (Jvm.Cond.static ({ cls := "BakeryPlanLaw", name := "state", desc := "(LBakeryPlan;I[J)I" } : Jvm.MethodName)) ∈ lw_all := lw_g (lw_at lw_m7 6 rfl) rfl
theorem q1569 : (Jvm.Cond.codeWith ({ cls := "BakeryPlanLaw", name := "state", desc := "(LBakeryPlan;I[J)I" } : Jvm.MethodName) method_11_code (4 : Nat) (Option.some Jvm.ClassFile.FieldType.int) [((0 : Nat), (9 : Nat), (12 : Nat), (29 : Nat))]) ∈ lw_all := lw_g (lw_at lw_m7 7 rfl) rfl
theorem q1570 : (Jvm.Cond.methodLink "BakeryPlanLaw" (43 : Nat) ({ cls := "BakeryPlan", name := "state", desc := "(I)I" } : Jvm.MethodName)) ∈ lw_all := lw_g (lw_at lw_m7 8 rfl) rfl
theorem q1579 : (Jvm.Cond.methodLink "BakeryPlanLaw" (194 : Nat) ({ cls := "BakeryPlanLaw", name := "mixerOf", desc := "(LBakeryPlan;I[J)I" } : Jvm.MethodName)) ∈ lw_all := lw_g (lw_at lw_m7 17 rfl) rfl
theorem q1580 : (Jvm.Cond.static ({ cls := "BakeryPlanLaw", name := "mixerOf", desc := "(LBakeryPlan;I[J)I" } : Jvm.MethodName)) ∈ lw_all := lw_g (lw_at lw_m7 18 rfl) rfl
theorem q1581 : (Jvm.Cond.codeWith ({ cls := "BakeryPlanLaw", name := "mixerOf", desc := "(LBakeryPlan;I[J)I" } : Jvm.MethodName) method_12_code (4 : Nat) (Option.some Jvm.ClassFile.FieldType.int) [((0 : Nat), (9 : Nat), (12 : Nat), (29 : Nat))]) ∈ lw_all := lw_g (lw_at lw_m7 19 rfl) rfl
theorem q1582 : (Jvm.Cond.methodLink "BakeryPlanLaw" (46 : Nat) ({ cls := "BakeryPlan", name := "mixerOf", desc := "(I)I" } : Jvm.MethodName)) ∈ lw_all := lw_g (lw_at lw_m7 20 rfl) rfl
theorem q1586 : (Jvm.Cond.methodLink "BakeryPlanLaw" (197 : Nat) ({ cls := "BakeryPlanLaw", name := "mixStart", desc := "(LBakeryPlan;I[J)I" } : Jvm.MethodName)) ∈ lw_all := lw_g (lw_at lw_m7 24 rfl) rfl
theorem q1587 : (Jvm.Cond.static ({ cls := "BakeryPlanLaw", name := "mixStart", desc := "(LBakeryPlan;I[J)I" } : Jvm.MethodName)) ∈ lw_all := lw_g (lw_at lw_m7 25 rfl) rfl
theorem q1588 : (Jvm.Cond.codeWith ({ cls := "BakeryPlanLaw", name := "mixStart", desc := "(LBakeryPlan;I[J)I" } : Jvm.MethodName) method_13_code (4 : Nat) (Option.some Jvm.ClassFile.FieldType.int) [((0 : Nat), (9 : Nat), (12 : Nat), (29 : Nat))]) ∈ lw_all := lw_g (lw_at lw_m7 26 rfl) rfl
theorem q1589 : (Jvm.Cond.methodLink "BakeryPlanLaw" (49 : Nat) ({ cls := "BakeryPlan", name := "mixStart", desc := "(I)I" } : Jvm.MethodName)) ∈ lw_all := lw_g (lw_at lw_m7 27 rfl) rfl
theorem q1593 : (Jvm.Cond.methodLink "BakeryPlanLaw" (200 : Nat) ({ cls := "BakeryPlanLaw", name := "proofStart", desc := "(LBakeryPlan;I[J)I" } : Jvm.MethodName)) ∈ lw_all := lw_g (lw_at lw_m7 31 rfl) rfl
theorem q1594 : (Jvm.Cond.static ({ cls := "BakeryPlanLaw", name := "proofStart", desc := "(LBakeryPlan;I[J)I" } : Jvm.MethodName)) ∈ lw_all := lw_g (lw_at lw_m7 32 rfl) rfl
theorem q1595 : (Jvm.Cond.codeWith ({ cls := "BakeryPlanLaw", name := "proofStart", desc := "(LBakeryPlan;I[J)I" } : Jvm.MethodName) method_14_code (4 : Nat) (Option.some Jvm.ClassFile.FieldType.int) [((0 : Nat), (9 : Nat), (12 : Nat), (29 : Nat))]) ∈ lw_all := lw_g (lw_at lw_m7 33 rfl) rfl
theorem q1596 : (Jvm.Cond.methodLink "BakeryPlanLaw" (52 : Nat) ({ cls := "BakeryPlan", name := "proofStart", desc := "(I)I" } : Jvm.MethodName)) ∈ lw_all := lw_g (lw_at lw_m7 34 rfl) rfl
theorem q1600 : (Jvm.Cond.methodLink "BakeryPlanLaw" (203 : Nat) ({ cls := "BakeryPlanLaw", name := "deckOf", desc := "(LBakeryPlan;I[J)I" } : Jvm.MethodName)) ∈ lw_all := lw_g (lw_at lw_m7 38 rfl) rfl
theorem q1601 : (Jvm.Cond.static ({ cls := "BakeryPlanLaw", name := "deckOf", desc := "(LBakeryPlan;I[J)I" } : Jvm.MethodName)) ∈ lw_all := lw_g (lw_at lw_m7 39 rfl) rfl
theorem q1602 : (Jvm.Cond.codeWith ({ cls := "BakeryPlanLaw", name := "deckOf", desc := "(LBakeryPlan;I[J)I" } : Jvm.MethodName) method_15_code (4 : Nat) (Option.some Jvm.ClassFile.FieldType.int) [((0 : Nat), (9 : Nat), (12 : Nat), (29 : Nat))]) ∈ lw_all := lw_g (lw_at lw_m7 40 rfl) rfl
theorem q1603 : (Jvm.Cond.methodLink "BakeryPlanLaw" (55 : Nat) ({ cls := "BakeryPlan", name := "deckOf", desc := "(I)I" } : Jvm.MethodName)) ∈ lw_all := lw_g (lw_at lw_m7 41 rfl) rfl
theorem q1607 : (Jvm.Cond.methodLink "BakeryPlanLaw" (206 : Nat) ({ cls := "BakeryPlanLaw", name := "bakeStart", desc := "(LBakeryPlan;I[J)I" } : Jvm.MethodName)) ∈ lw_all := lw_g (lw_at lw_m7 45 rfl) rfl
theorem q1608 : (Jvm.Cond.static ({ cls := "BakeryPlanLaw", name := "bakeStart", desc := "(LBakeryPlan;I[J)I" } : Jvm.MethodName)) ∈ lw_all := lw_g (lw_at lw_m7 46 rfl) rfl
theorem q1609 : (Jvm.Cond.codeWith ({ cls := "BakeryPlanLaw", name := "bakeStart", desc := "(LBakeryPlan;I[J)I" } : Jvm.MethodName) method_16_code (4 : Nat) (Option.some Jvm.ClassFile.FieldType.int) [((0 : Nat), (9 : Nat), (12 : Nat), (29 : Nat))]) ∈ lw_all := lw_g (lw_at lw_m7 47 rfl) rfl
theorem q1610 : (Jvm.Cond.methodLink "BakeryPlanLaw" (58 : Nat) ({ cls := "BakeryPlan", name := "bakeStart", desc := "(I)I" } : Jvm.MethodName)) ∈ lw_all := lw_g (lw_at lw_m7 48 rfl) rfl
theorem q1614 : (Jvm.Cond.methodLink "BakeryPlanLaw" (209 : Nat) ({ cls := "BakeryPlanLaw", name := "bakeEnd", desc := "(LBakeryPlan;I[J)I" } : Jvm.MethodName)) ∈ lw_all := lw_g (lw_at lw_m7 52 rfl) rfl
theorem q1615 : (Jvm.Cond.static ({ cls := "BakeryPlanLaw", name := "bakeEnd", desc := "(LBakeryPlan;I[J)I" } : Jvm.MethodName)) ∈ lw_all := lw_g (lw_at lw_m7 53 rfl) rfl
theorem q1616 : (Jvm.Cond.codeWith ({ cls := "BakeryPlanLaw", name := "bakeEnd", desc := "(LBakeryPlan;I[J)I" } : Jvm.MethodName) method_17_code (4 : Nat) (Option.some Jvm.ClassFile.FieldType.int) [((0 : Nat), (9 : Nat), (12 : Nat), (29 : Nat))]) ∈ lw_all := lw_g (lw_at lw_m7 54 rfl) rfl
theorem q1617 : (Jvm.Cond.methodLink "BakeryPlanLaw" (61 : Nat) ({ cls := "BakeryPlan", name := "bakeEnd", desc := "(I)I" } : Jvm.MethodName)) ∈ lw_all := lw_g (lw_at lw_m7 55 rfl) rfl
theorem q1621 : (Jvm.Cond.methodLink "BakeryPlanLaw" (212 : Nat) ({ cls := "BakeryPlanLaw", name := "lostAt", desc := "(LBakeryPlan;I[J)I" } : Jvm.MethodName)) ∈ lw_all := lw_g (lw_at lw_m7 59 rfl) rfl
theorem q1622 : (Jvm.Cond.static ({ cls := "BakeryPlanLaw", name := "lostAt", desc := "(LBakeryPlan;I[J)I" } : Jvm.MethodName)) ∈ lw_all := lw_g (lw_at lw_m7 60 rfl) rfl
theorem q1623 : (Jvm.Cond.codeWith ({ cls := "BakeryPlanLaw", name := "lostAt", desc := "(LBakeryPlan;I[J)I" } : Jvm.MethodName) method_18_code (4 : Nat) (Option.some Jvm.ClassFile.FieldType.int) [((0 : Nat), (9 : Nat), (12 : Nat), (29 : Nat))]) ∈ lw_all := lw_g (lw_at lw_m7 61 rfl) rfl
theorem q1624 : (Jvm.Cond.methodLink "BakeryPlanLaw" (64 : Nat) ({ cls := "BakeryPlan", name := "lostAt", desc := "(I)I" } : Jvm.MethodName)) ∈ lw_all := lw_g (lw_at lw_m7 62 rfl) rfl
theorem q1628 : (Jvm.Cond.methodLink "BakeryPlanLaw" (215 : Nat) ({ cls := "BakeryPlanLaw", name := "shelfMinutes", desc := "(LBakeryPlan;I[J)I" } : Jvm.MethodName)) ∈ lw_all := lw_g (lw_at lw_m7 66 rfl) rfl
theorem q1629 : (Jvm.Cond.static ({ cls := "BakeryPlanLaw", name := "shelfMinutes", desc := "(LBakeryPlan;I[J)I" } : Jvm.MethodName)) ∈ lw_all := lw_g (lw_at lw_m7 67 rfl) rfl
theorem q1630 : (Jvm.Cond.codeWith ({ cls := "BakeryPlanLaw", name := "shelfMinutes", desc := "(LBakeryPlan;I[J)I" } : Jvm.MethodName) method_19_code (4 : Nat) (Option.some Jvm.ClassFile.FieldType.int) [((0 : Nat), (9 : Nat), (12 : Nat), (29 : Nat))]) ∈ lw_all := lw_g (lw_at lw_m7 68 rfl) rfl
theorem q1631 : (Jvm.Cond.methodLink "BakeryPlanLaw" (67 : Nat) ({ cls := "BakeryPlan", name := "shelfMinutes", desc := "(I)I" } : Jvm.MethodName)) ∈ lw_all := lw_g (lw_at lw_m7 69 rfl) rfl
theorem q1635 : (Jvm.Cond.methodLink "BakeryPlanLaw" (218 : Nat) ({ cls := "BakeryPlanLaw", name := "age", desc := "(LBakeryPlan;I[D)I" } : Jvm.MethodName)) ∈ lw_all := lw_g (lw_at lw_m7 73 rfl) rfl
theorem q1636 : (Jvm.Cond.static ({ cls := "BakeryPlanLaw", name := "age", desc := "(LBakeryPlan;I[D)I" } : Jvm.MethodName)) ∈ lw_all := lw_g (lw_at lw_m7 74 rfl) rfl
theorem q1637 : (Jvm.Cond.codeWith ({ cls := "BakeryPlanLaw", name := "age", desc := "(LBakeryPlan;I[D)I" } : Jvm.MethodName) method_20_code (4 : Nat) (Option.some Jvm.ClassFile.FieldType.int) [((0 : Nat), (8 : Nat), (11 : Nat), (29 : Nat))]) ∈ lw_all := lw_g (lw_at lw_m7 75 rfl) rfl
theorem q1638 : (Jvm.Cond.methodLink "BakeryPlanLaw" (70 : Nat) ({ cls := "BakeryPlan", name := "age", desc := "(I)D" } : Jvm.MethodName)) ∈ lw_all := lw_g (lw_at lw_m7 76 rfl) rfl
theorem q1643 : (Jvm.Cond.methodLink "BakeryPlanLaw" (222 : Nat) ({ cls := "BakeryPlanLaw", name := "count", desc := "(LBakeryPlan;I[J)I" } : Jvm.MethodName)) ∈ lw_all := lw_g (lw_at lw_m7 81 rfl) rfl
theorem q1644 : (Jvm.Cond.static ({ cls := "BakeryPlanLaw", name := "count", desc := "(LBakeryPlan;I[J)I" } : Jvm.MethodName)) ∈ lw_all := lw_g (lw_at lw_m7 82 rfl) rfl
theorem q1645 : (Jvm.Cond.codeWith ({ cls := "BakeryPlanLaw", name := "count", desc := "(LBakeryPlan;I[J)I" } : Jvm.MethodName) method_21_code (4 : Nat) (Option.some Jvm.ClassFile.FieldType.int) [((0 : Nat), (9 : Nat), (12 : Nat), (19 : Nat))]) ∈ lw_all := lw_g (lw_at lw_m7 83 rfl) rfl
theorem q1646 : (Jvm.Cond.methodLink "BakeryPlanLaw" (74 : Nat) ({ cls := "BakeryPlan", name := "count", desc := "(I)I" } : Jvm.MethodName)) ∈ lw_all := lw_g (lw_at lw_m7 84 rfl) rfl
theorem q1652 : (Jvm.Cond.methodLink "BakeryPlanLaw" (237 : Nat) ({ cls := "BakeryPlanLaw", name := "utilization", desc := "(LBakeryPlan;I[D)I" } : Jvm.MethodName)) ∈ lw_all := lw_g (lw_at lw_m7 90 rfl) rfl
theorem q1653 : (Jvm.Cond.static ({ cls := "BakeryPlanLaw", name := "utilization", desc := "(LBakeryPlan;I[D)I" } : Jvm.MethodName)) ∈ lw_all := lw_g (lw_at lw_m7 91 rfl) rfl
theorem q1654 : (Jvm.Cond.codeWith ({ cls := "BakeryPlanLaw", name := "utilization", desc := "(LBakeryPlan;I[D)I" } : Jvm.MethodName) method_22_code (4 : Nat) (Option.some Jvm.ClassFile.FieldType.int) [((0 : Nat), (8 : Nat), (11 : Nat), (29 : Nat))]) ∈ lw_all := lw_g (lw_at lw_m7 92 rfl) rfl
theorem q1655 : (Jvm.Cond.methodLink "BakeryPlanLaw" (77 : Nat) ({ cls := "BakeryPlan", name := "utilization", desc := "(I)D" } : Jvm.MethodName)) ∈ lw_all := lw_g (lw_at lw_m7 93 rfl) rfl
theorem q1664 : (Jvm.Cond.methodLink "BakeryPlanLaw" (240 : Nat) ({ cls := "BakeryPlanLaw", name := "begunBy", desc := "(LBakeryPlan;I[J)I" } : Jvm.MethodName)) ∈ lw_all := lw_g (lw_at lw_m7 102 rfl) rfl
theorem q1665 : (Jvm.Cond.static ({ cls := "BakeryPlanLaw", name := "begunBy", desc := "(LBakeryPlan;I[J)I" } : Jvm.MethodName)) ∈ lw_all := lw_g (lw_at lw_m7 103 rfl) rfl
theorem q1666 : (Jvm.Cond.codeWith ({ cls := "BakeryPlanLaw", name := "begunBy", desc := "(LBakeryPlan;I[J)I" } : Jvm.MethodName) method_23_code (4 : Nat) (Option.some Jvm.ClassFile.FieldType.int) [((0 : Nat), (9 : Nat), (12 : Nat), (29 : Nat))]) ∈ lw_all := lw_g (lw_at lw_m7 104 rfl) rfl
theorem q1667 : (Jvm.Cond.methodLink "BakeryPlanLaw" (80 : Nat) ({ cls := "BakeryPlan", name := "begunBy", desc := "(I)I" } : Jvm.MethodName)) ∈ lw_all := lw_g (lw_at lw_m7 105 rfl) rfl
theorem q1671 : (Jvm.Cond.methodLink "BakeryPlanLaw" (243 : Nat) ({ cls := "BakeryPlanLaw", name := "temperature", desc := "(LBakeryPlan;II[J)I" } : Jvm.MethodName)) ∈ lw_all := lw_g (lw_at lw_m7 109 rfl) rfl
theorem q1672 : (Jvm.Cond.static ({ cls := "BakeryPlanLaw", name := "temperature", desc := "(LBakeryPlan;II[J)I" } : Jvm.MethodName)) ∈ lw_all := lw_g (lw_at lw_m7 110 rfl) rfl
theorem q1673 : (Jvm.Cond.codeWith ({ cls := "BakeryPlanLaw", name := "temperature", desc := "(LBakeryPlan;II[J)I" } : Jvm.MethodName) method_24_code (5 : Nat) (Option.some Jvm.ClassFile.FieldType.int) [((0 : Nat), (10 : Nat), (13 : Nat), (29 : Nat))]) ∈ lw_all := lw_g (lw_at lw_m7 111 rfl) rfl
theorem q1674 : (Jvm.Cond.methodLink "BakeryPlanLaw" (83 : Nat) ({ cls := "BakeryPlan", name := "temperature", desc := "(II)I" } : Jvm.MethodName)) ∈ lw_all := lw_g (lw_at lw_m7 112 rfl) rfl
theorem q1681 : (Jvm.Cond.methodLink "BakeryPlanLaw" (247 : Nat) ({ cls := "BakeryPlanLaw", name := "baking", desc := "(LBakeryPlan;II[J)I" } : Jvm.MethodName)) ∈ lw_all := lw_g (lw_at lw_m7 119 rfl) rfl
theorem q1682 : (Jvm.Cond.static ({ cls := "BakeryPlanLaw", name := "baking", desc := "(LBakeryPlan;II[J)I" } : Jvm.MethodName)) ∈ lw_all := lw_g (lw_at lw_m7 120 rfl) rfl
theorem q1683 : (Jvm.Cond.codeWith ({ cls := "BakeryPlanLaw", name := "baking", desc := "(LBakeryPlan;II[J)I" } : Jvm.MethodName) method_25_code (5 : Nat) (Option.some Jvm.ClassFile.FieldType.int) [((0 : Nat), (10 : Nat), (13 : Nat), (29 : Nat))]) ∈ lw_all := lw_g (lw_at lw_m7 121 rfl) rfl
theorem q1684 : (Jvm.Cond.methodLink "BakeryPlanLaw" (87 : Nat) ({ cls := "BakeryPlan", name := "baking", desc := "(II)I" } : Jvm.MethodName)) ∈ lw_all := lw_g (lw_at lw_m7 122 rfl) rfl
theorem q1689 : (Jvm.Cond.methodLink "BakeryPlanLaw" (250 : Nat) ({ cls := "BakeryPlanLaw", name := "inRoom", desc := "(LBakeryPlan;I[J)I" } : Jvm.MethodName)) ∈ lw_all := lw_g (lw_at lw_m7 127 rfl) rfl
theorem q1690 : (Jvm.Cond.static ({ cls := "BakeryPlanLaw", name := "inRoom", desc := "(LBakeryPlan;I[J)I" } : Jvm.MethodName)) ∈ lw_all := lw_g (lw_at lw_m7 128 rfl) rfl
theorem q1691 : (Jvm.Cond.codeWith ({ cls := "BakeryPlanLaw", name := "inRoom", desc := "(LBakeryPlan;I[J)I" } : Jvm.MethodName) method_26_code (4 : Nat) (Option.some Jvm.ClassFile.FieldType.int) [((0 : Nat), (9 : Nat), (12 : Nat), (29 : Nat))]) ∈ lw_all := lw_g (lw_at lw_m7 129 rfl) rfl
theorem q1692 : (Jvm.Cond.methodLink "BakeryPlanLaw" (90 : Nat) ({ cls := "BakeryPlan", name := "inRoom", desc := "(I)I" } : Jvm.MethodName)) ∈ lw_all := lw_g (lw_at lw_m7 130 rfl) rfl
theorem q1700 : (Jvm.Cond.methodLink "BakeryPlanLaw" (253 : Nat) ({ cls := "BakeryPlanLaw", name := "onShelves", desc := "(LBakeryPlan;I[J)I" } : Jvm.MethodName)) ∈ lw_all := lw_g (lw_at lw_m7 138 rfl) rfl
theorem q1701 : (Jvm.Cond.static ({ cls := "BakeryPlanLaw", name := "onShelves", desc := "(LBakeryPlan;I[J)I" } : Jvm.MethodName)) ∈ lw_all := lw_g (lw_at lw_m7 139 rfl) rfl
theorem q1702 : (Jvm.Cond.codeWith ({ cls := "BakeryPlanLaw", name := "onShelves", desc := "(LBakeryPlan;I[J)I" } : Jvm.MethodName) method_27_code (4 : Nat) (Option.some Jvm.ClassFile.FieldType.int) [((0 : Nat), (9 : Nat), (12 : Nat), (29 : Nat))]) ∈ lw_all := lw_g (lw_at lw_m7 140 rfl) rfl
theorem q1703 : (Jvm.Cond.methodLink "BakeryPlanLaw" (93 : Nat) ({ cls := "BakeryPlan", name := "onShelves", desc := "(I)I" } : Jvm.MethodName)) ∈ lw_all := lw_g (lw_at lw_m7 141 rfl) rfl
theorem q1708 : (Jvm.Cond.methodLink "BakeryPlanLaw" (260 : Nat) ({ cls := "BakeryPlanLaw", name := "needed", desc := "(LBakeryPlan;I[J)I" } : Jvm.MethodName)) ∈ lw_all := lw_g (lw_at lw_m7 146 rfl) rfl
theorem q1709 : (Jvm.Cond.static ({ cls := "BakeryPlanLaw", name := "needed", desc := "(LBakeryPlan;I[J)I" } : Jvm.MethodName)) ∈ lw_all := lw_g (lw_at lw_m7 147 rfl) rfl
theorem q1710 : (Jvm.Cond.codeWith ({ cls := "BakeryPlanLaw", name := "needed", desc := "(LBakeryPlan;I[J)I" } : Jvm.MethodName) method_28_code (4 : Nat) (Option.some Jvm.ClassFile.FieldType.int) [((0 : Nat), (9 : Nat), (12 : Nat), (19 : Nat))]) ∈ lw_all := lw_g (lw_at lw_m7 148 rfl) rfl
theorem q1711 : (Jvm.Cond.methodLink "BakeryPlanLaw" (96 : Nat) ({ cls := "BakeryPlan", name := "needed", desc := "(I)I" } : Jvm.MethodName)) ∈ lw_all := lw_g (lw_at lw_m7 149 rfl) rfl
theorem q1717 : (Jvm.Cond.methodLink "BakeryPlanLaw" (263 : Nat) ({ cls := "BakeryPlanLaw", name := "slack", desc := "(LBakeryPlan;II[J)I" } : Jvm.MethodName)) ∈ lw_all := lw_g (lw_at lw_m7 155 rfl) rfl
theorem q1718 : (Jvm.Cond.static ({ cls := "BakeryPlanLaw", name := "slack", desc := "(LBakeryPlan;II[J)I" } : Jvm.MethodName)) ∈ lw_all := lw_g (lw_at lw_m7 156 rfl) rfl
theorem q1719 : (Jvm.Cond.codeWith ({ cls := "BakeryPlanLaw", name := "slack", desc := "(LBakeryPlan;II[J)I" } : Jvm.MethodName) method_29_code (5 : Nat) (Option.some Jvm.ClassFile.FieldType.int) [((0 : Nat), (10 : Nat), (13 : Nat), (29 : Nat)), ((0 : Nat), (10 : Nat), (17 : Nat), (19 : Nat))]) ∈ lw_all := lw_g (lw_at lw_m7 157 rfl) rfl
theorem q1720 : (Jvm.Cond.methodLink "BakeryPlanLaw" (99 : Nat) ({ cls := "BakeryPlan", name := "slack", desc := "(II)I" } : Jvm.MethodName)) ∈ lw_all := lw_g (lw_at lw_m7 158 rfl) rfl
theorem q1730 : (Jvm.Cond.methodLink "BakeryPlanLaw" (270 : Nat) ({ cls := "BakeryPlanLaw", name := "addBatch", desc := "(LBakeryPlan;III[J)I" } : Jvm.MethodName)) ∈ lw_all := lw_g (lw_at lw_m7 168 rfl) rfl
theorem q1731 : (Jvm.Cond.static ({ cls := "BakeryPlanLaw", name := "addBatch", desc := "(LBakeryPlan;III[J)I" } : Jvm.MethodName)) ∈ lw_all := lw_g (lw_at lw_m7 169 rfl) rfl
theorem q1732 : (Jvm.Cond.codeWith ({ cls := "BakeryPlanLaw", name := "addBatch", desc := "(LBakeryPlan;III[J)I" } : Jvm.MethodName) method_30_code (6 : Nat) (Option.some Jvm.ClassFile.FieldType.int) [((0 : Nat), (12 : Nat), (15 : Nat), (29 : Nat)), ((0 : Nat), (12 : Nat), (19 : Nat), (19 : Nat)), ((0 : Nat), (12 : Nat), (23 : Nat), (13 : Nat))]) ∈ lw_all := lw_g (lw_at lw_m7 170 rfl) rfl
theorem q1733 : (Jvm.Cond.methodLink "BakeryPlanLaw" (102 : Nat) ({ cls := "BakeryPlan", name := "addBatch", desc := "(III)I" } : Jvm.MethodName)) ∈ lw_all := lw_g (lw_at lw_m7 171 rfl) rfl
theorem q1790 : (Jvm.Cond.methodLink "BakeryPlanLaw" (274 : Nat) ({ cls := "BakeryPlanLaw", name := "removeBatch", desc := "(LBakeryPlan;I[J)I" } : Jvm.MethodName)) ∈ lw_all := lw_g (lw_at lw_m7 228 rfl) rfl
theorem q1791 : (Jvm.Cond.static ({ cls := "BakeryPlanLaw", name := "removeBatch", desc := "(LBakeryPlan;I[J)I" } : Jvm.MethodName)) ∈ lw_all := lw_g (lw_at lw_m7 229 rfl) rfl
theorem q1792 : (Jvm.Cond.codeWith ({ cls := "BakeryPlanLaw", name := "removeBatch", desc := "(LBakeryPlan;I[J)I" } : Jvm.MethodName) method_31_code (4 : Nat) (Option.some Jvm.ClassFile.FieldType.int) [((0 : Nat), (9 : Nat), (12 : Nat), (29 : Nat))]) ∈ lw_all := lw_g (lw_at lw_m7 230 rfl) rfl
theorem q1793 : (Jvm.Cond.methodLink "BakeryPlanLaw" (106 : Nat) ({ cls := "BakeryPlan", name := "removeBatch", desc := "(I)I" } : Jvm.MethodName)) ∈ lw_all := lw_g (lw_at lw_m7 231 rfl) rfl
theorem q1798 : (Jvm.Cond.methodLink "BakeryPlanLaw" (277 : Nat) ({ cls := "BakeryPlanLaw", name := "moveBatch", desc := "(LBakeryPlan;II[J)I" } : Jvm.MethodName)) ∈ lw_all := lw_g (lw_at lw_m7 236 rfl) rfl
theorem q1799 : (Jvm.Cond.static ({ cls := "BakeryPlanLaw", name := "moveBatch", desc := "(LBakeryPlan;II[J)I" } : Jvm.MethodName)) ∈ lw_all := lw_g (lw_at lw_m7 237 rfl) rfl
theorem q1800 : (Jvm.Cond.codeWith ({ cls := "BakeryPlanLaw", name := "moveBatch", desc := "(LBakeryPlan;II[J)I" } : Jvm.MethodName) method_32_code (5 : Nat) (Option.some Jvm.ClassFile.FieldType.int) [((0 : Nat), (10 : Nat), (13 : Nat), (29 : Nat))]) ∈ lw_all := lw_g (lw_at lw_m7 238 rfl) rfl
theorem q1801 : (Jvm.Cond.methodLink "BakeryPlanLaw" (109 : Nat) ({ cls := "BakeryPlan", name := "moveBatch", desc := "(II)I" } : Jvm.MethodName)) ∈ lw_all := lw_g (lw_at lw_m7 239 rfl) rfl
theorem q1807 : (Jvm.Cond.methodLink "BakeryPlanLaw" (280 : Nat) ({ cls := "BakeryPlanLaw", name := "setStart", desc := "(LBakeryPlan;II[J)I" } : Jvm.MethodName)) ∈ lw_all := lw_g (lw_at lw_m8 5 rfl) rfl
theorem q1808 : (Jvm.Cond.static ({ cls := "BakeryPlanLaw", name := "setStart", desc := "(LBakeryPlan;II[J)I" } : Jvm.MethodName)) ∈ lw_all := lw_g (lw_at lw_m8 6 rfl) rfl
theorem q1809 : (Jvm.Cond.codeWith ({ cls := "BakeryPlanLaw", name := "setStart", desc := "(LBakeryPlan;II[J)I" } : Jvm.MethodName) method_33_code (5 : Nat) (Option.some Jvm.ClassFile.FieldType.int) [((0 : Nat), (10 : Nat), (13 : Nat), (29 : Nat)), ((0 : Nat), (10 : Nat), (17 : Nat), (19 : Nat))]) ∈ lw_all := lw_g (lw_at lw_m8 7 rfl) rfl
theorem q1810 : (Jvm.Cond.methodLink "BakeryPlanLaw" (112 : Nat) ({ cls := "BakeryPlan", name := "setStart", desc := "(II)I" } : Jvm.MethodName)) ∈ lw_all := lw_g (lw_at lw_m8 8 rfl) rfl
theorem q1814 : (Jvm.Cond.methodLink "BakeryPlanLaw" (283 : Nat) ({ cls := "BakeryPlanLaw", name := "setWave", desc := "(LBakeryPlan;II[J)I" } : Jvm.MethodName)) ∈ lw_all := lw_g (lw_at lw_m8 12 rfl) rfl
theorem q1815 : (Jvm.Cond.static ({ cls := "BakeryPlanLaw", name := "setWave", desc := "(LBakeryPlan;II[J)I" } : Jvm.MethodName)) ∈ lw_all := lw_g (lw_at lw_m8 13 rfl) rfl
theorem q1816 : (Jvm.Cond.codeWith ({ cls := "BakeryPlanLaw", name := "setWave", desc := "(LBakeryPlan;II[J)I" } : Jvm.MethodName) method_34_code (5 : Nat) (Option.some Jvm.ClassFile.FieldType.int) [((0 : Nat), (10 : Nat), (13 : Nat), (29 : Nat))]) ∈ lw_all := lw_g (lw_at lw_m8 14 rfl) rfl
theorem q1817 : (Jvm.Cond.methodLink "BakeryPlanLaw" (115 : Nat) ({ cls := "BakeryPlan", name := "setWave", desc := "(II)I" } : Jvm.MethodName)) ∈ lw_all := lw_g (lw_at lw_m8 15 rfl) rfl
theorem q1821 : (Jvm.Cond.methodLink "BakeryPlanLaw" (286 : Nat) ({ cls := "BakeryPlanLaw", name := "setSetting", desc := "(LBakeryPlan;II[J)I" } : Jvm.MethodName)) ∈ lw_all := lw_g (lw_at lw_m8 19 rfl) rfl
theorem q1822 : (Jvm.Cond.static ({ cls := "BakeryPlanLaw", name := "setSetting", desc := "(LBakeryPlan;II[J)I" } : Jvm.MethodName)) ∈ lw_all := lw_g (lw_at lw_m8 20 rfl) rfl
theorem q1823 : (Jvm.Cond.codeWith ({ cls := "BakeryPlanLaw", name := "setSetting", desc := "(LBakeryPlan;II[J)I" } : Jvm.MethodName) method_35_code (5 : Nat) (Option.some Jvm.ClassFile.FieldType.int) [((0 : Nat), (10 : Nat), (13 : Nat), (19 : Nat))]) ∈ lw_all := lw_g (lw_at lw_m8 21 rfl) rfl
theorem q1824 : (Jvm.Cond.methodLink "BakeryPlanLaw" (118 : Nat) ({ cls := "BakeryPlan", name := "setSetting", desc := "(II)I" } : Jvm.MethodName)) ∈ lw_all := lw_g (lw_at lw_m8 22 rfl) rfl
theorem q1828 : (Jvm.Cond.methodLink "BakeryPlanLaw" (289 : Nat) ({ cls := "BakeryPlanLaw", name := "setPolicy", desc := "(LBakeryPlan;I[J)I" } : Jvm.MethodName)) ∈ lw_all := lw_g (lw_at lw_m8 26 rfl) rfl
theorem q1829 : (Jvm.Cond.static ({ cls := "BakeryPlanLaw", name := "setPolicy", desc := "(LBakeryPlan;I[J)I" } : Jvm.MethodName)) ∈ lw_all := lw_g (lw_at lw_m8 27 rfl) rfl
theorem q1830 : (Jvm.Cond.codeWith ({ cls := "BakeryPlanLaw", name := "setPolicy", desc := "(LBakeryPlan;I[J)I" } : Jvm.MethodName) method_36_code (4 : Nat) (Option.some Jvm.ClassFile.FieldType.int) [((0 : Nat), (9 : Nat), (12 : Nat), (19 : Nat))]) ∈ lw_all := lw_g (lw_at lw_m8 28 rfl) rfl
theorem q1831 : (Jvm.Cond.methodLink "BakeryPlanLaw" (121 : Nat) ({ cls := "BakeryPlan", name := "setPolicy", desc := "(I)I" } : Jvm.MethodName)) ∈ lw_all := lw_g (lw_at lw_m8 29 rfl) rfl
theorem q1836 : (Jvm.Cond.methodLink "BakeryPlanLaw" (292 : Nat) ({ cls := "BakeryPlanLaw", name := "undo", desc := "(LBakeryPlan;[J)I" } : Jvm.MethodName)) ∈ lw_all := lw_g (lw_at lw_m8 34 rfl) rfl
theorem q1837 : (Jvm.Cond.static ({ cls := "BakeryPlanLaw", name := "undo", desc := "(LBakeryPlan;[J)I" } : Jvm.MethodName)) ∈ lw_all := lw_g (lw_at lw_m8 35 rfl) rfl
theorem q1838 : (Jvm.Cond.codeWith ({ cls := "BakeryPlanLaw", name := "undo", desc := "(LBakeryPlan;[J)I" } : Jvm.MethodName) method_37_code (3 : Nat) (Option.some Jvm.ClassFile.FieldType.int) [((0 : Nat), (8 : Nat), (11 : Nat), (13 : Nat))]) ∈ lw_all := lw_g (lw_at lw_m8 36 rfl) rfl
theorem q1839 : (Jvm.Cond.methodLink "BakeryPlanLaw" (124 : Nat) ({ cls := "BakeryPlan", name := "undo", desc := "()I" } : Jvm.MethodName)) ∈ lw_all := lw_g (lw_at lw_m8 37 rfl) rfl
theorem q1858 : (Jvm.Cond.methodLink "BakeryPlanLaw" (295 : Nat) ({ cls := "BakeryPlanLaw", name := "format", desc := "(LBakeryPlan;I[J)I" } : Jvm.MethodName)) ∈ lw_all := lw_g (lw_at lw_m8 56 rfl) rfl
theorem q1859 : (Jvm.Cond.static ({ cls := "BakeryPlanLaw", name := "format", desc := "(LBakeryPlan;I[J)I" } : Jvm.MethodName)) ∈ lw_all := lw_g (lw_at lw_m8 57 rfl) rfl
theorem q1860 : (Jvm.Cond.codeWith ({ cls := "BakeryPlanLaw", name := "format", desc := "(LBakeryPlan;I[J)I" } : Jvm.MethodName) method_38_code (4 : Nat) (Option.some Jvm.ClassFile.FieldType.int) [((0 : Nat), (9 : Nat), (12 : Nat), (29 : Nat))]) ∈ lw_all := lw_g (lw_at lw_m8 58 rfl) rfl
theorem q1861 : (Jvm.Cond.methodLink "BakeryPlanLaw" (127 : Nat) ({ cls := "BakeryPlan", name := "format", desc := "(I)I" } : Jvm.MethodName)) ∈ lw_all := lw_g (lw_at lw_m8 59 rfl) rfl
theorem q1883 : (Jvm.Cond.methodLink "BakeryPlanLaw" (298 : Nat) ({ cls := "BakeryPlanLaw", name := "formattedCharacter", desc := "(LBakeryPlan;I[J)I" } : Jvm.MethodName)) ∈ lw_all := lw_g (lw_at lw_m8 81 rfl) rfl
theorem q1884 : (Jvm.Cond.static ({ cls := "BakeryPlanLaw", name := "formattedCharacter", desc := "(LBakeryPlan;I[J)I" } : Jvm.MethodName)) ∈ lw_all := lw_g (lw_at lw_m8 82 rfl) rfl
theorem q1885 : (Jvm.Cond.codeWith ({ cls := "BakeryPlanLaw", name := "formattedCharacter", desc := "(LBakeryPlan;I[J)I" } : Jvm.MethodName) method_39_code (4 : Nat) (Option.some Jvm.ClassFile.FieldType.int) [((0 : Nat), (9 : Nat), (12 : Nat), (29 : Nat))]) ∈ lw_all := lw_g (lw_at lw_m8 83 rfl) rfl
theorem q1886 : (Jvm.Cond.methodLink "BakeryPlanLaw" (130 : Nat) ({ cls := "BakeryPlan", name := "formattedCharacter", desc := "(I)C" } : Jvm.MethodName)) ∈ lw_all := lw_g (lw_at lw_m8 84 rfl) rfl
theorem q1891 : (Jvm.Cond.classLink "BakeryPlanLaw" (135 : Nat) "BakeryPlanModel") ∈ lw_all := lw_g (lw_at lw_m8 89 rfl) rfl
theorem q1893 : (Jvm.Cond.methodLink "BakeryPlanLaw" (137 : Nat) ({ cls := "BakeryPlanModel", name := "<init>", desc := "()V" } : Jvm.MethodName)) ∈ lw_all := lw_g (lw_at lw_m8 91 rfl) rfl
theorem q2095 : (Jvm.Cond.methodLink "BakeryPlanLaw" (144 : Nat) ({ cls := "BakeryPlanModel", name := "thrown", desc := "()I" } : Jvm.MethodName)) ∈ lw_all := lw_g (lw_at lw_m9 53 rfl) rfl
theorem q2099 : (Jvm.Cond.methodLink "BakeryPlanLaw" (143 : Nat) ({ cls := "BakeryPlanModel", name := "append", desc := "(IIIII)I" } : Jvm.MethodName)) ∈ lw_all := lw_g (lw_at lw_m9 57 rfl) rfl
theorem q2111 : (Jvm.Cond.methodLink "BakeryPlanLaw" (150 : Nat) ({ cls := "BakeryPlanModel", name := "truncate", desc := "(I)V" } : Jvm.MethodName)) ∈ lw_all := lw_g (lw_at lw_m9 69 rfl) rfl
theorem q2118 : (Jvm.Cond.methodLink "BakeryPlanLaw" (154 : Nat) ({ cls := "BakeryPlanModel", name := "load", desc := "()I" } : Jvm.MethodName)) ∈ lw_all := lw_g (lw_at lw_m9 76 rfl) rfl
theorem q2233 : (Jvm.Cond.methodLink "BakeryPlanLaw" (158 : Nat) ({ cls := "BakeryPlanModel", name := "errorOffset", desc := "()I" } : Jvm.MethodName)) ∈ lw_all := lw_g (lw_at lw_m9 191 rfl) rfl
theorem q2237 : (Jvm.Cond.methodLink "BakeryPlanLaw" (162 : Nat) ({ cls := "BakeryPlanModel", name := "products", desc := "()I" } : Jvm.MethodName)) ∈ lw_all := lw_g (lw_at lw_m9 195 rfl) rfl
theorem q2241 : (Jvm.Cond.methodLink "BakeryPlanLaw" (166 : Nat) ({ cls := "BakeryPlanModel", name := "waves", desc := "()I" } : Jvm.MethodName)) ∈ lw_all := lw_g (lw_at lw_m9 199 rfl) rfl
theorem q2245 : (Jvm.Cond.methodLink "BakeryPlanLaw" (170 : Nat) ({ cls := "BakeryPlanModel", name := "batches", desc := "()I" } : Jvm.MethodName)) ∈ lw_all := lw_g (lw_at lw_m9 203 rfl) rfl
theorem q2249 : (Jvm.Cond.methodLink "BakeryPlanLaw" (174 : Nat) ({ cls := "BakeryPlanModel", name := "waveMinute", desc := "(I)I" } : Jvm.MethodName)) ∈ lw_all := lw_g (lw_at lw_m9 207 rfl) rfl
theorem q2257 : (Jvm.Cond.methodLink "BakeryPlanLaw" (177 : Nat) ({ cls := "BakeryPlanModel", name := "productOf", desc := "(I)I" } : Jvm.MethodName)) ∈ lw_all := lw_g (lw_at lw_m9 215 rfl) rfl
theorem q2273 : (Jvm.Cond.methodLink "BakeryPlanLaw" (180 : Nat) ({ cls := "BakeryPlanModel", name := "startOf", desc := "(I)I" } : Jvm.MethodName)) ∈ lw_all := lw_g (lw_at lw_m9 231 rfl) rfl
theorem q2277 : (Jvm.Cond.methodLink "BakeryPlanLaw" (183 : Nat) ({ cls := "BakeryPlanModel", name := "waveOf", desc := "(I)I" } : Jvm.MethodName)) ∈ lw_all := lw_g (lw_at lw_m9 235 rfl) rfl
theorem q2281 : (Jvm.Cond.methodLink "BakeryPlanLaw" (186 : Nat) ({ cls := "BakeryPlanModel", name := "setting", desc := "(I)I" } : Jvm.MethodName)) ∈ lw_all := lw_g (lw_at lw_m9 239 rfl) rfl
theorem q2285 : (Jvm.Cond.methodLink "BakeryPlanLaw" (190 : Nat) ({ cls := "BakeryPlanModel", name := "policy", desc := "()I" } : Jvm.MethodName)) ∈ lw_all := lw_g (lw_at lw_m10 3 rfl) rfl
theorem q2289 : (Jvm.Cond.methodLink "BakeryPlanLaw" (193 : Nat) ({ cls := "BakeryPlanModel", name := "state", desc := "(I)I" } : Jvm.MethodName)) ∈ lw_all := lw_g (lw_at lw_m10 7 rfl) rfl
theorem q2411 : (Jvm.Cond.methodLink "BakeryPlanLaw" (196 : Nat) ({ cls := "BakeryPlanModel", name := "mixerOf", desc := "(I)I" } : Jvm.MethodName)) ∈ lw_all := lw_g (lw_at lw_m10 129 rfl) rfl
theorem q2419 : (Jvm.Cond.methodLink "BakeryPlanLaw" (199 : Nat) ({ cls := "BakeryPlanModel", name := "mixStart", desc := "(I)I" } : Jvm.MethodName)) ∈ lw_all := lw_g (lw_at lw_m10 137 rfl) rfl
theorem q2423 : (Jvm.Cond.methodLink "BakeryPlanLaw" (202 : Nat) ({ cls := "BakeryPlanModel", name := "proofStart", desc := "(I)I" } : Jvm.MethodName)) ∈ lw_all := lw_g (lw_at lw_m10 141 rfl) rfl
theorem q2427 : (Jvm.Cond.methodLink "BakeryPlanLaw" (205 : Nat) ({ cls := "BakeryPlanModel", name := "deckOf", desc := "(I)I" } : Jvm.MethodName)) ∈ lw_all := lw_g (lw_at lw_m10 145 rfl) rfl
theorem q2431 : (Jvm.Cond.methodLink "BakeryPlanLaw" (208 : Nat) ({ cls := "BakeryPlanModel", name := "bakeStart", desc := "(I)I" } : Jvm.MethodName)) ∈ lw_all := lw_g (lw_at lw_m10 149 rfl) rfl
theorem q2435 : (Jvm.Cond.methodLink "BakeryPlanLaw" (211 : Nat) ({ cls := "BakeryPlanModel", name := "bakeEnd", desc := "(I)I" } : Jvm.MethodName)) ∈ lw_all := lw_g (lw_at lw_m10 153 rfl) rfl
theorem q2439 : (Jvm.Cond.methodLink "BakeryPlanLaw" (214 : Nat) ({ cls := "BakeryPlanModel", name := "lostAt", desc := "(I)I" } : Jvm.MethodName)) ∈ lw_all := lw_g (lw_at lw_m10 157 rfl) rfl
theorem q2443 : (Jvm.Cond.methodLink "BakeryPlanLaw" (217 : Nat) ({ cls := "BakeryPlanModel", name := "shelfMinutes", desc := "(I)I" } : Jvm.MethodName)) ∈ lw_all := lw_g (lw_at lw_m10 161 rfl) rfl
theorem q2447 : (Jvm.Cond.methodLink "BakeryPlanLaw" (221 : Nat) ({ cls := "BakeryPlanModel", name := "age", desc := "(I)D" } : Jvm.MethodName)) ∈ lw_all := lw_g (lw_at lw_m10 165 rfl) rfl
theorem q2452 : (Jvm.Cond.methodLink "BakeryPlanLaw" (224 : Nat) ({ cls := "BakeryPlanModel", name := "count", desc := "(I)I" } : Jvm.MethodName)) ∈ lw_all := lw_g (lw_at lw_m10 170 rfl) rfl
theorem q2460 : (Jvm.Cond.methodLink "BakeryPlanLaw" (228 : Nat) ({ cls := "BakeryPlanModel", name := "lastEnd", desc := "()I" } : Jvm.MethodName)) ∈ lw_all := lw_g (lw_at lw_m10 178 rfl) rfl
theorem q2468 : (Jvm.Cond.methodLink "BakeryPlanLaw" (232 : Nat) ({ cls := "BakeryPlanModel", name := "cleanings", desc := "()I" } : Jvm.MethodName)) ∈ lw_all := lw_g (lw_at lw_m10 186 rfl) rfl
theorem q2472 : (Jvm.Cond.methodLink "BakeryPlanLaw" (236 : Nat) ({ cls := "BakeryPlanModel", name := "degrees", desc := "()I" } : Jvm.MethodName)) ∈ lw_all := lw_g (lw_at lw_m10 190 rfl) rfl
theorem q2476 : (Jvm.Cond.methodLink "BakeryPlanLaw" (239 : Nat) ({ cls := "BakeryPlanModel", name := "utilization", desc := "(I)D" } : Jvm.MethodName)) ∈ lw_all := lw_g (lw_at lw_m10 194 rfl) rfl
theorem q2485 : (Jvm.Cond.methodLink "BakeryPlanLaw" (242 : Nat) ({ cls := "BakeryPlanModel", name := "begunBy", desc := "(I)I" } : Jvm.MethodName)) ∈ lw_all := lw_g (lw_at lw_m10 203 rfl) rfl
theorem q2489 : (Jvm.Cond.methodLink "BakeryPlanLaw" (246 : Nat) ({ cls := "BakeryPlanModel", name := "temperature", desc := "(II)I" } : Jvm.MethodName)) ∈ lw_all := lw_g (lw_at lw_m10 207 rfl) rfl
theorem q2496 : (Jvm.Cond.methodLink "BakeryPlanLaw" (249 : Nat) ({ cls := "BakeryPlanModel", name := "baking", desc := "(II)I" } : Jvm.MethodName)) ∈ lw_all := lw_g (lw_at lw_m10 214 rfl) rfl
theorem q2500 : (Jvm.Cond.methodLink "BakeryPlanLaw" (252 : Nat) ({ cls := "BakeryPlanModel", name := "inRoom", desc := "(I)I" } : Jvm.MethodName)) ∈ lw_all := lw_g (lw_at lw_m10 218 rfl) rfl
theorem q2504 : (Jvm.Cond.methodLink "BakeryPlanLaw" (255 : Nat) ({ cls := "BakeryPlanModel", name := "onShelves", desc := "(I)I" } : Jvm.MethodName)) ∈ lw_all := lw_g (lw_at lw_m10 222 rfl) rfl
theorem q2508 : (Jvm.Cond.methodLink "BakeryPlanLaw" (259 : Nat) ({ cls := "BakeryPlanModel", name := "bestSwap", desc := "()I" } : Jvm.MethodName)) ∈ lw_all := lw_g (lw_at lw_m10 226 rfl) rfl
theorem q2540 : (Jvm.Cond.methodLink "BakeryPlanLaw" (262 : Nat) ({ cls := "BakeryPlanModel", name := "needed", desc := "(I)I" } : Jvm.MethodName)) ∈ lw_all := lw_g (lw_at lw_m11 18 rfl) rfl
theorem q2552 : (Jvm.Cond.methodLink "BakeryPlanLaw" (265 : Nat) ({ cls := "BakeryPlanModel", name := "slack", desc := "(II)I" } : Jvm.MethodName)) ∈ lw_all := lw_g (lw_at lw_m11 30 rfl) rfl
theorem q2564 : (Jvm.Cond.methodLink "BakeryPlanLaw" (269 : Nat) ({ cls := "BakeryPlanModel", name := "bestPolicy", desc := "()I" } : Jvm.MethodName)) ∈ lw_all := lw_g (lw_at lw_m11 42 rfl) rfl
theorem q2568 : (Jvm.Cond.methodLink "BakeryPlanLaw" (294 : Nat) ({ cls := "BakeryPlanModel", name := "undo", desc := "()I" } : Jvm.MethodName)) ∈ lw_all := lw_g (lw_at lw_m11 46 rfl) rfl
theorem q2576 : (Jvm.Cond.methodLink "BakeryPlanLaw" (273 : Nat) ({ cls := "BakeryPlanModel", name := "addBatch", desc := "(III)I" } : Jvm.MethodName)) ∈ lw_all := lw_g (lw_at lw_m11 54 rfl) rfl
theorem q2588 : (Jvm.Cond.methodLink "BakeryPlanLaw" (276 : Nat) ({ cls := "BakeryPlanModel", name := "removeBatch", desc := "(I)I" } : Jvm.MethodName)) ∈ lw_all := lw_g (lw_at lw_m11 66 rfl) rfl
theorem q2592 : (Jvm.Cond.methodLink "BakeryPlanLaw" (279 : Nat) ({ cls := "BakeryPlanModel", name := "moveBatch", desc := "(II)I" } : Jvm.MethodName)) ∈ lw_all := lw_g (lw_at lw_m11 70 rfl) rfl
theorem q2596 : (Jvm.Cond.methodLink "BakeryPlanLaw" (282 : Nat) ({ cls := "BakeryPlanModel", name := "setStart", desc := "(II)I" } : Jvm.MethodName)) ∈ lw_all := lw_g (lw_at lw_m11 74 rfl) rfl
theorem q2600 : (Jvm.Cond.methodLink "BakeryPlanLaw" (285 : Nat) ({ cls := "BakeryPlanModel", name := "setWave", desc := "(II)I" } : Jvm.MethodName)) ∈ lw_all := lw_g (lw_at lw_m11 78 rfl) rfl
theorem q2604 : (Jvm.Cond.methodLink "BakeryPlanLaw" (288 : Nat) ({ cls := "BakeryPlanModel", name := "setSetting", desc := "(II)I" } : Jvm.MethodName)) ∈ lw_all := lw_g (lw_at lw_m11 82 rfl) rfl
theorem q2612 : (Jvm.Cond.methodLink "BakeryPlanLaw" (291 : Nat) ({ cls := "BakeryPlanModel", name := "setPolicy", desc := "(I)I" } : Jvm.MethodName)) ∈ lw_all := lw_g (lw_at lw_m11 90 rfl) rfl
theorem q2616 : (Jvm.Cond.methodLink "BakeryPlanLaw" (297 : Nat) ({ cls := "BakeryPlanModel", name := "format", desc := "(I)I" } : Jvm.MethodName)) ∈ lw_all := lw_g (lw_at lw_m11 94 rfl) rfl
theorem q2650 : (Jvm.Cond.methodLink "BakeryPlanLaw" (300 : Nat) ({ cls := "BakeryPlanModel", name := "formattedCharacter", desc := "(I)C" } : Jvm.MethodName)) ∈ lw_all := lw_g (lw_at lw_m11 128 rfl) rfl
