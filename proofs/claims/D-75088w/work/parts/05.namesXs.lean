/-! BakeryPlan$Plan -/
set_option maxRecDepth 100000
def RX2 : String := "BakeryPlan$Plan"
def TX2 : u_T := fun k => match k with
  | 0 => ("BakeryPlan$Plan", "products", "Ljava/util/ArrayList;", true)
  | 1 => ("BakeryPlan$Plan", "waves", "[I", true)
  | 2 => ("BakeryPlan$Plan", "settings", "[I", true)
  | 3 => ("BakeryPlan$Plan", "batches", "Ljava/util/ArrayList;", true)
  | 4 => ("BakeryPlan$Plan", "waveCount", "I", false)
  | _ => ("BakeryPlan$Plan", "policy", "I", false)
def tyX2 : Nat → FieldType := fun k => match k with
  | 0 => .object "java/util/ArrayList"
  | 1 => .array .int
  | 2 => .array .int
  | 3 => .object "java/util/ArrayList"
  | 4 => .int
  | _ => .int
abbrev wsX20 : List Cond := u_ws RX2 TX2 6
theorem nmX2 : ∀ a, a < 6 → ∀ b, b < 6 → a ≠ b → (TX2 a).2.1 ≠ (TX2 b).2.1 := by decide +kernel
theorem tyX2_ok : ∀ k, k < 6 → parseFieldDescriptor (TX2 k).2.2.1 = some (tyX2 k) := by decide +kernel
abbrev cX2_init : ByteArray := prog_8_method_1_code
def yX2_init : MethodName := ⟨RX2, "<init>", "(Ljava/util/ArrayList;[I)V"⟩
def dkwX2_init_2 : List UInt8 := [16, 20, 183, 0, 17, 181, 0, 20, 42, 43, 181, 0, 24, 42, 44, 181, 0, 27, 177]
abbrev dktX2_init_2 : List UInt8 := dkwX2_init_2 ++ []
def dkwX2_init_1 : List UInt8 := [79, 89, 7, 7, 79, 89, 8, 8, 79, 89, 16, 6, 16, 10, 79, 181, 0, 9, 42, 187, 0, 15, 89]
abbrev dktX2_init_1 : List UInt8 := dkwX2_init_1 ++ dktX2_init_2
def dkwX2_init_0 : List UInt8 := [42, 183, 0, 3, 42, 16, 7, 188, 10, 89, 3, 4, 79, 89, 4, 4, 79, 89, 5, 3, 79, 89, 6, 8]
abbrev dktX2_init_0 : List UInt8 := dkwX2_init_0 ++ dktX2_init_1
theorem dksX2_init_0 : cX2_init.data.toList.drop 0 = dktX2_init_0 := by decide +kernel
theorem dksX2_init_1 : cX2_init.data.toList.drop 24 = dktX2_init_1 := dk_seg dksX2_init_0 24 rfl rfl
theorem dksX2_init_2 : cX2_init.data.toList.drop 47 = dktX2_init_2 := dk_seg dksX2_init_1 23 rfl rfl
theorem dX2_init_0 : decode cX2_init 0 = .ok (.aload_n 0, 1) := dk_42 (dk_at dksX2_init_0 0 rfl rfl)
theorem dX2_init_1 : decode cX2_init 1 = .ok (.invokespecial 3, 3) := dk_183 0 3 (dk_at dksX2_init_0 1 rfl rfl)
theorem dX2_init_4 : decode cX2_init 4 = .ok (.aload_n 0, 1) := dk_42 (dk_at dksX2_init_0 4 rfl rfl)
theorem dX2_init_5 : decode cX2_init 5 = .ok (.bipush 7, 2) := dk_16 7 (dk_at dksX2_init_0 5 rfl rfl)
theorem dX2_init_7 : decode cX2_init 7 = .ok (.newarray .int, 2) := dk_188_10 (dk_at dksX2_init_0 7 rfl rfl)
theorem dX2_init_9 : decode cX2_init 9 = .ok (.dup, 1) := dk_89 (dk_at dksX2_init_0 9 rfl rfl)
theorem dX2_init_10 : decode cX2_init 10 = .ok (.iconst 0, 1) := dk_3 (dk_at dksX2_init_0 10 rfl rfl)
theorem dX2_init_11 : decode cX2_init 11 = .ok (.iconst 1, 1) := dk_4 (dk_at dksX2_init_0 11 rfl rfl)
theorem dX2_init_12 : decode cX2_init 12 = .ok (.iastore, 1) := dk_79 (dk_at dksX2_init_0 12 rfl rfl)
theorem dX2_init_13 : decode cX2_init 13 = .ok (.dup, 1) := dk_89 (dk_at dksX2_init_0 13 rfl rfl)
theorem dX2_init_14 : decode cX2_init 14 = .ok (.iconst 1, 1) := dk_4 (dk_at dksX2_init_0 14 rfl rfl)
theorem dX2_init_15 : decode cX2_init 15 = .ok (.iconst 1, 1) := dk_4 (dk_at dksX2_init_0 15 rfl rfl)
theorem dX2_init_16 : decode cX2_init 16 = .ok (.iastore, 1) := dk_79 (dk_at dksX2_init_0 16 rfl rfl)
theorem dX2_init_17 : decode cX2_init 17 = .ok (.dup, 1) := dk_89 (dk_at dksX2_init_0 17 rfl rfl)
theorem dX2_init_18 : decode cX2_init 18 = .ok (.iconst 2, 1) := dk_5 (dk_at dksX2_init_0 18 rfl rfl)
theorem dX2_init_19 : decode cX2_init 19 = .ok (.iconst 0, 1) := dk_3 (dk_at dksX2_init_0 19 rfl rfl)
theorem dX2_init_20 : decode cX2_init 20 = .ok (.iastore, 1) := dk_79 (dk_at dksX2_init_0 20 rfl rfl)
theorem dX2_init_21 : decode cX2_init 21 = .ok (.dup, 1) := dk_89 (dk_at dksX2_init_0 21 rfl rfl)
theorem dX2_init_22 : decode cX2_init 22 = .ok (.iconst 3, 1) := dk_6 (dk_at dksX2_init_0 22 rfl rfl)
theorem dX2_init_23 : decode cX2_init 23 = .ok (.iconst 5, 1) := dk_8 (dk_at dksX2_init_0 23 rfl rfl)
theorem dX2_init_24 : decode cX2_init 24 = .ok (.iastore, 1) := dk_79 (dk_at dksX2_init_1 0 rfl rfl)
theorem dX2_init_25 : decode cX2_init 25 = .ok (.dup, 1) := dk_89 (dk_at dksX2_init_1 1 rfl rfl)
theorem dX2_init_26 : decode cX2_init 26 = .ok (.iconst 4, 1) := dk_7 (dk_at dksX2_init_1 2 rfl rfl)
theorem dX2_init_27 : decode cX2_init 27 = .ok (.iconst 4, 1) := dk_7 (dk_at dksX2_init_1 3 rfl rfl)
theorem dX2_init_28 : decode cX2_init 28 = .ok (.iastore, 1) := dk_79 (dk_at dksX2_init_1 4 rfl rfl)
theorem dX2_init_29 : decode cX2_init 29 = .ok (.dup, 1) := dk_89 (dk_at dksX2_init_1 5 rfl rfl)
theorem dX2_init_30 : decode cX2_init 30 = .ok (.iconst 5, 1) := dk_8 (dk_at dksX2_init_1 6 rfl rfl)
theorem dX2_init_31 : decode cX2_init 31 = .ok (.iconst 5, 1) := dk_8 (dk_at dksX2_init_1 7 rfl rfl)
theorem dX2_init_32 : decode cX2_init 32 = .ok (.iastore, 1) := dk_79 (dk_at dksX2_init_1 8 rfl rfl)
theorem dX2_init_33 : decode cX2_init 33 = .ok (.dup, 1) := dk_89 (dk_at dksX2_init_1 9 rfl rfl)
theorem dX2_init_34 : decode cX2_init 34 = .ok (.bipush 6, 2) := dk_16 6 (dk_at dksX2_init_1 10 rfl rfl)
theorem dX2_init_36 : decode cX2_init 36 = .ok (.bipush 10, 2) := dk_16 10 (dk_at dksX2_init_1 12 rfl rfl)
theorem dX2_init_38 : decode cX2_init 38 = .ok (.iastore, 1) := dk_79 (dk_at dksX2_init_1 14 rfl rfl)
theorem dX2_init_39 : decode cX2_init 39 = .ok (.putfield 9, 3) := dk_181 0 9 (dk_at dksX2_init_1 15 rfl rfl)
theorem dX2_init_42 : decode cX2_init 42 = .ok (.aload_n 0, 1) := dk_42 (dk_at dksX2_init_1 18 rfl rfl)
theorem dX2_init_43 : decode cX2_init 43 = .ok (.new 15, 3) := dk_187 0 15 (dk_at dksX2_init_1 19 rfl rfl)
theorem dX2_init_46 : decode cX2_init 46 = .ok (.dup, 1) := dk_89 (dk_at dksX2_init_1 22 rfl rfl)
theorem dX2_init_47 : decode cX2_init 47 = .ok (.bipush 20, 2) := dk_16 20 (dk_at dksX2_init_2 0 rfl rfl)
theorem dX2_init_49 : decode cX2_init 49 = .ok (.invokespecial 17, 3) := dk_183 0 17 (dk_at dksX2_init_2 2 rfl rfl)
theorem dX2_init_52 : decode cX2_init 52 = .ok (.putfield 20, 3) := dk_181 0 20 (dk_at dksX2_init_2 5 rfl rfl)
theorem dX2_init_55 : decode cX2_init 55 = .ok (.aload_n 0, 1) := dk_42 (dk_at dksX2_init_2 8 rfl rfl)
theorem dX2_init_56 : decode cX2_init 56 = .ok (.aload_n 1, 1) := dk_43 (dk_at dksX2_init_2 9 rfl rfl)
theorem dX2_init_57 : decode cX2_init 57 = .ok (.putfield 24, 3) := dk_181 0 24 (dk_at dksX2_init_2 10 rfl rfl)
theorem dX2_init_60 : decode cX2_init 60 = .ok (.aload_n 0, 1) := dk_42 (dk_at dksX2_init_2 13 rfl rfl)
theorem dX2_init_61 : decode cX2_init 61 = .ok (.aload_n 2, 1) := dk_44 (dk_at dksX2_init_2 14 rfl rfl)
theorem dX2_init_62 : decode cX2_init 62 = .ok (.putfield 27, 3) := dk_181 0 27 (dk_at dksX2_init_2 15 rfl rfl)
theorem dX2_init_65 : decode cX2_init 65 = .ok (.return_, 1) := dk_177 (dk_at dksX2_init_2 18 rfl rfl)
abbrev cX2_productOf : ByteArray := prog_8_method_3_code
def yX2_productOf : MethodName := ⟨RX2, "productOf", "(I)LBakeryPlan$Product;"⟩
def dkwX2_productOf_1 : List UInt8 := [176]
abbrev dktX2_productOf_1 : List UInt8 := dkwX2_productOf_1 ++ []
def dkwX2_productOf_0 : List UInt8 := [42, 180, 0, 24, 42, 180, 0, 20, 27, 182, 0, 70, 192, 0, 47, 180, 0, 74, 182, 0, 70, 192, 0, 77]
abbrev dktX2_productOf_0 : List UInt8 := dkwX2_productOf_0 ++ dktX2_productOf_1
theorem dksX2_productOf_0 : cX2_productOf.data.toList.drop 0 = dktX2_productOf_0 := by decide +kernel
theorem dksX2_productOf_1 : cX2_productOf.data.toList.drop 24 = dktX2_productOf_1 := dk_seg dksX2_productOf_0 24 rfl rfl
theorem dX2_productOf_0 : decode cX2_productOf 0 = .ok (.aload_n 0, 1) := dk_42 (dk_at dksX2_productOf_0 0 rfl rfl)
theorem dX2_productOf_1 : decode cX2_productOf 1 = .ok (.getfield 24, 3) := dk_180 0 24 (dk_at dksX2_productOf_0 1 rfl rfl)
theorem dX2_productOf_4 : decode cX2_productOf 4 = .ok (.aload_n 0, 1) := dk_42 (dk_at dksX2_productOf_0 4 rfl rfl)
theorem dX2_productOf_5 : decode cX2_productOf 5 = .ok (.getfield 20, 3) := dk_180 0 20 (dk_at dksX2_productOf_0 5 rfl rfl)
theorem dX2_productOf_8 : decode cX2_productOf 8 = .ok (.iload_n 1, 1) := dk_27 (dk_at dksX2_productOf_0 8 rfl rfl)
theorem dX2_productOf_9 : decode cX2_productOf 9 = .ok (.invokevirtual 70, 3) := dk_182 0 70 (dk_at dksX2_productOf_0 9 rfl rfl)
theorem dX2_productOf_12 : decode cX2_productOf 12 = .ok (.checkcast 47, 3) := dk_192 0 47 (dk_at dksX2_productOf_0 12 rfl rfl)
theorem dX2_productOf_15 : decode cX2_productOf 15 = .ok (.getfield 74, 3) := dk_180 0 74 (dk_at dksX2_productOf_0 15 rfl rfl)
theorem dX2_productOf_18 : decode cX2_productOf 18 = .ok (.invokevirtual 70, 3) := dk_182 0 70 (dk_at dksX2_productOf_0 18 rfl rfl)
theorem dX2_productOf_21 : decode cX2_productOf 21 = .ok (.checkcast 77, 3) := dk_192 0 77 (dk_at dksX2_productOf_0 21 rfl rfl)
theorem dX2_productOf_24 : decode cX2_productOf 24 = .ok (.areturn, 1) := dk_176 (dk_at dksX2_productOf_1 0 rfl rfl)
abbrev cX2_copy : ByteArray := prog_8_method_2_code
def yX2_copy : MethodName := ⟨RX2, "copy", "()LBakeryPlan$Plan;"⟩
def dkwX2_copy_3 : List UInt8 := [184, 0, 57, 43, 42, 180, 0, 63, 181, 0, 63, 43, 42, 180, 0, 67, 181, 0, 67, 43, 176]
abbrev dktX2_copy_3 : List UInt8 := dkwX2_copy_3 ++ []
def dkwX2_copy_2 : List UInt8 := [182, 0, 49, 182, 0, 53, 87, 167, 255, 225, 42, 180, 0, 9, 3, 43, 180, 0, 9, 3, 16, 7]
abbrev dktX2_copy_2 : List UInt8 := dkwX2_copy_2 ++ dktX2_copy_3
def dkwX2_copy_1 : List UInt8 := [44, 185, 0, 37, 1, 0, 153, 0, 28, 44, 185, 0, 43, 1, 0, 192, 0, 47, 78, 43, 180, 0, 20, 45]
abbrev dktX2_copy_1 : List UInt8 := dkwX2_copy_1 ++ dktX2_copy_2
def dkwX2_copy_0 : List UInt8 := [187, 0, 10, 89, 42, 180, 0, 24, 42, 180, 0, 27, 183, 0, 30, 76, 42, 180, 0, 20, 182, 0, 33, 77]
abbrev dktX2_copy_0 : List UInt8 := dkwX2_copy_0 ++ dktX2_copy_1
theorem dksX2_copy_0 : cX2_copy.data.toList.drop 0 = dktX2_copy_0 := by decide +kernel
theorem dksX2_copy_1 : cX2_copy.data.toList.drop 24 = dktX2_copy_1 := dk_seg dksX2_copy_0 24 rfl rfl
theorem dksX2_copy_2 : cX2_copy.data.toList.drop 48 = dktX2_copy_2 := dk_seg dksX2_copy_1 24 rfl rfl
theorem dksX2_copy_3 : cX2_copy.data.toList.drop 70 = dktX2_copy_3 := dk_seg dksX2_copy_2 22 rfl rfl
theorem dX2_copy_0 : decode cX2_copy 0 = .ok (.new 10, 3) := dk_187 0 10 (dk_at dksX2_copy_0 0 rfl rfl)
theorem dX2_copy_3 : decode cX2_copy 3 = .ok (.dup, 1) := dk_89 (dk_at dksX2_copy_0 3 rfl rfl)
theorem dX2_copy_4 : decode cX2_copy 4 = .ok (.aload_n 0, 1) := dk_42 (dk_at dksX2_copy_0 4 rfl rfl)
theorem dX2_copy_5 : decode cX2_copy 5 = .ok (.getfield 24, 3) := dk_180 0 24 (dk_at dksX2_copy_0 5 rfl rfl)
theorem dX2_copy_8 : decode cX2_copy 8 = .ok (.aload_n 0, 1) := dk_42 (dk_at dksX2_copy_0 8 rfl rfl)
theorem dX2_copy_9 : decode cX2_copy 9 = .ok (.getfield 27, 3) := dk_180 0 27 (dk_at dksX2_copy_0 9 rfl rfl)
theorem dX2_copy_12 : decode cX2_copy 12 = .ok (.invokespecial 30, 3) := dk_183 0 30 (dk_at dksX2_copy_0 12 rfl rfl)
theorem dX2_copy_15 : decode cX2_copy 15 = .ok (.astore_n 1, 1) := dk_76 (dk_at dksX2_copy_0 15 rfl rfl)
theorem dX2_copy_16 : decode cX2_copy 16 = .ok (.aload_n 0, 1) := dk_42 (dk_at dksX2_copy_0 16 rfl rfl)
theorem dX2_copy_17 : decode cX2_copy 17 = .ok (.getfield 20, 3) := dk_180 0 20 (dk_at dksX2_copy_0 17 rfl rfl)
theorem dX2_copy_20 : decode cX2_copy 20 = .ok (.invokevirtual 33, 3) := dk_182 0 33 (dk_at dksX2_copy_0 20 rfl rfl)
theorem dX2_copy_23 : decode cX2_copy 23 = .ok (.astore_n 2, 1) := dk_77 (dk_at dksX2_copy_0 23 rfl rfl)
theorem dX2_copy_24 : decode cX2_copy 24 = .ok (.aload_n 2, 1) := dk_44 (dk_at dksX2_copy_1 0 rfl rfl)
theorem dX2_copy_25 : decode cX2_copy 25 = .ok (.invokeinterface 37 1, 5) := by decide +kernel
theorem dX2_copy_30 : decode cX2_copy 30 = .ok (.ifCond .eq 28, 3) := dk_153 0 28 (dk_at dksX2_copy_1 6 rfl rfl)
theorem dX2_copy_33 : decode cX2_copy 33 = .ok (.aload_n 2, 1) := dk_44 (dk_at dksX2_copy_1 9 rfl rfl)
theorem dX2_copy_34 : decode cX2_copy 34 = .ok (.invokeinterface 43 1, 5) := by decide +kernel
theorem dX2_copy_39 : decode cX2_copy 39 = .ok (.checkcast 47, 3) := dk_192 0 47 (dk_at dksX2_copy_1 15 rfl rfl)
theorem dX2_copy_42 : decode cX2_copy 42 = .ok (.astore_n 3, 1) := dk_78 (dk_at dksX2_copy_1 18 rfl rfl)
theorem dX2_copy_43 : decode cX2_copy 43 = .ok (.aload_n 1, 1) := dk_43 (dk_at dksX2_copy_1 19 rfl rfl)
theorem dX2_copy_44 : decode cX2_copy 44 = .ok (.getfield 20, 3) := dk_180 0 20 (dk_at dksX2_copy_1 20 rfl rfl)
theorem dX2_copy_47 : decode cX2_copy 47 = .ok (.aload_n 3, 1) := dk_45 (dk_at dksX2_copy_1 23 rfl rfl)
theorem dX2_copy_48 : decode cX2_copy 48 = .ok (.invokevirtual 49, 3) := dk_182 0 49 (dk_at dksX2_copy_2 0 rfl rfl)
theorem dX2_copy_51 : decode cX2_copy 51 = .ok (.invokevirtual 53, 3) := dk_182 0 53 (dk_at dksX2_copy_2 3 rfl rfl)
theorem dX2_copy_54 : decode cX2_copy 54 = .ok (.pop, 1) := dk_87 (dk_at dksX2_copy_2 6 rfl rfl)
theorem dX2_copy_55 : decode cX2_copy 55 = .ok (.goto (-31), 3) := dk_167 255 225 (dk_at dksX2_copy_2 7 rfl rfl)
theorem dX2_copy_58 : decode cX2_copy 58 = .ok (.aload_n 0, 1) := dk_42 (dk_at dksX2_copy_2 10 rfl rfl)
theorem dX2_copy_59 : decode cX2_copy 59 = .ok (.getfield 9, 3) := dk_180 0 9 (dk_at dksX2_copy_2 11 rfl rfl)
theorem dX2_copy_62 : decode cX2_copy 62 = .ok (.iconst 0, 1) := dk_3 (dk_at dksX2_copy_2 14 rfl rfl)
theorem dX2_copy_63 : decode cX2_copy 63 = .ok (.aload_n 1, 1) := dk_43 (dk_at dksX2_copy_2 15 rfl rfl)
theorem dX2_copy_64 : decode cX2_copy 64 = .ok (.getfield 9, 3) := dk_180 0 9 (dk_at dksX2_copy_2 16 rfl rfl)
theorem dX2_copy_67 : decode cX2_copy 67 = .ok (.iconst 0, 1) := dk_3 (dk_at dksX2_copy_2 19 rfl rfl)
theorem dX2_copy_68 : decode cX2_copy 68 = .ok (.bipush 7, 2) := dk_16 7 (dk_at dksX2_copy_2 20 rfl rfl)
theorem dX2_copy_70 : decode cX2_copy 70 = .ok (.invokestatic 57, 3) := dk_184 0 57 (dk_at dksX2_copy_3 0 rfl rfl)
theorem dX2_copy_73 : decode cX2_copy 73 = .ok (.aload_n 1, 1) := dk_43 (dk_at dksX2_copy_3 3 rfl rfl)
theorem dX2_copy_74 : decode cX2_copy 74 = .ok (.aload_n 0, 1) := dk_42 (dk_at dksX2_copy_3 4 rfl rfl)
theorem dX2_copy_75 : decode cX2_copy 75 = .ok (.getfield 63, 3) := dk_180 0 63 (dk_at dksX2_copy_3 5 rfl rfl)
theorem dX2_copy_78 : decode cX2_copy 78 = .ok (.putfield 63, 3) := dk_181 0 63 (dk_at dksX2_copy_3 8 rfl rfl)
theorem dX2_copy_81 : decode cX2_copy 81 = .ok (.aload_n 1, 1) := dk_43 (dk_at dksX2_copy_3 11 rfl rfl)
theorem dX2_copy_82 : decode cX2_copy 82 = .ok (.aload_n 0, 1) := dk_42 (dk_at dksX2_copy_3 12 rfl rfl)
theorem dX2_copy_83 : decode cX2_copy 83 = .ok (.getfield 67, 3) := dk_180 0 67 (dk_at dksX2_copy_3 13 rfl rfl)
theorem dX2_copy_86 : decode cX2_copy 86 = .ok (.putfield 67, 3) := dk_181 0 67 (dk_at dksX2_copy_3 16 rfl rfl)
theorem dX2_copy_89 : decode cX2_copy 89 = .ok (.aload_n 1, 1) := dk_43 (dk_at dksX2_copy_3 19 rfl rfl)
theorem dX2_copy_90 : decode cX2_copy 90 = .ok (.areturn, 1) := dk_176 (dk_at dksX2_copy_3 20 rfl rfl)
abbrev cX2_swap : ByteArray := prog_8_method_4_code
def yX2_swap : MethodName := ⟨RX2, "swap", "(I)V"⟩
def dkwX2_swap_0 : List UInt8 := [42, 180, 0, 20, 27, 182, 0, 79, 192, 0, 47, 77, 42, 180, 0, 20, 27, 4, 96, 44, 182, 0, 82, 177]
abbrev dktX2_swap_0 : List UInt8 := dkwX2_swap_0 ++ []
theorem dksX2_swap_0 : cX2_swap.data.toList.drop 0 = dktX2_swap_0 := by decide +kernel
theorem dX2_swap_0 : decode cX2_swap 0 = .ok (.aload_n 0, 1) := dk_42 (dk_at dksX2_swap_0 0 rfl rfl)
theorem dX2_swap_1 : decode cX2_swap 1 = .ok (.getfield 20, 3) := dk_180 0 20 (dk_at dksX2_swap_0 1 rfl rfl)
theorem dX2_swap_4 : decode cX2_swap 4 = .ok (.iload_n 1, 1) := dk_27 (dk_at dksX2_swap_0 4 rfl rfl)
theorem dX2_swap_5 : decode cX2_swap 5 = .ok (.invokevirtual 79, 3) := dk_182 0 79 (dk_at dksX2_swap_0 5 rfl rfl)
theorem dX2_swap_8 : decode cX2_swap 8 = .ok (.checkcast 47, 3) := dk_192 0 47 (dk_at dksX2_swap_0 8 rfl rfl)
theorem dX2_swap_11 : decode cX2_swap 11 = .ok (.astore_n 2, 1) := dk_77 (dk_at dksX2_swap_0 11 rfl rfl)
theorem dX2_swap_12 : decode cX2_swap 12 = .ok (.aload_n 0, 1) := dk_42 (dk_at dksX2_swap_0 12 rfl rfl)
theorem dX2_swap_13 : decode cX2_swap 13 = .ok (.getfield 20, 3) := dk_180 0 20 (dk_at dksX2_swap_0 13 rfl rfl)
theorem dX2_swap_16 : decode cX2_swap 16 = .ok (.iload_n 1, 1) := dk_27 (dk_at dksX2_swap_0 16 rfl rfl)
theorem dX2_swap_17 : decode cX2_swap 17 = .ok (.iconst 1, 1) := dk_4 (dk_at dksX2_swap_0 17 rfl rfl)
theorem dX2_swap_18 : decode cX2_swap 18 = .ok (.iadd, 1) := dk_96 (dk_at dksX2_swap_0 18 rfl rfl)
theorem dX2_swap_19 : decode cX2_swap 19 = .ok (.aload_n 2, 1) := dk_44 (dk_at dksX2_swap_0 19 rfl rfl)
theorem dX2_swap_20 : decode cX2_swap 20 = .ok (.invokevirtual 82, 3) := dk_182 0 82 (dk_at dksX2_swap_0 20 rfl rfl)
theorem dX2_swap_23 : decode cX2_swap 23 = .ok (.return_, 1) := dk_177 (dk_at dksX2_swap_0 23 rfl rfl)
theorem q124 : (Jvm.Cond.initialized "BakeryPlan$Plan") ∈ lw_all := lw_g (lw_at lw_m1 2 rfl) rfl
theorem q169 : (Jvm.Cond.instantiable "BakeryPlan$Plan" (6 : Nat)) ∈ lw_all := lw_g (lw_at lw_m1 47 rfl) rfl
theorem q518 : (Jvm.Cond.instanceMethod ({ cls := "BakeryPlan$Plan", name := "<init>", desc := "(Ljava/util/ArrayList;[I)V" } : Jvm.MethodName)) ∈ lw_all := lw_g (lw_at lw_m2 156 rfl) rfl
theorem q519 : (Jvm.Cond.code ({ cls := "BakeryPlan$Plan", name := "<init>", desc := "(Ljava/util/ArrayList;[I)V" } : Jvm.MethodName) prog_8_method_1_code (3 : Nat) (Option.none : Option Jvm.ClassFile.FieldType)) ∈ lw_all := lw_g (lw_at lw_m2 157 rfl) rfl
theorem q520 : (Jvm.Cond.methodLink "BakeryPlan$Plan" (3 : Nat) ({ cls := "java/lang/Object", name := "<init>", desc := "()V" } : Jvm.MethodName)) ∈ lw_all := lw_g (lw_at lw_m2 158 rfl) rfl
theorem q521 : (Jvm.Cond.classLink "BakeryPlan$Plan" (15 : Nat) "java/util/ArrayList") ∈ lw_all := lw_g (lw_at lw_m2 159 rfl) rfl
theorem q522 : (Jvm.Cond.methodLink "BakeryPlan$Plan" (17 : Nat) ({ cls := "java/util/ArrayList", name := "<init>", desc := "(I)V" } : Jvm.MethodName)) ∈ lw_all := lw_g (lw_at lw_m2 160 rfl) rfl
theorem q523 : (Jvm.Cond.fieldLink "BakeryPlan$Plan" (24 : Nat) "BakeryPlan$Plan" "products" "Ljava/util/ArrayList;") ∈ lw_all := lw_g (lw_at lw_m2 161 rfl) rfl
theorem q526 : (Jvm.Cond.fieldLink "BakeryPlan$Plan" (27 : Nat) "BakeryPlan$Plan" "waves" "[I") ∈ lw_all := lw_g (lw_at lw_m2 164 rfl) rfl
theorem q530 : (Jvm.Cond.fieldLink "BakeryPlan$Plan" (9 : Nat) "BakeryPlan$Plan" "settings" "[I") ∈ lw_all := lw_g (lw_at lw_m2 168 rfl) rfl
theorem q534 : (Jvm.Cond.fieldLink "BakeryPlan$Plan" (20 : Nat) "BakeryPlan$Plan" "batches" "Ljava/util/ArrayList;") ∈ lw_all := lw_g (lw_at lw_m2 172 rfl) rfl
theorem q539 : (Jvm.Cond.fieldLink "BakeryPlan$Plan" (63 : Nat) "BakeryPlan$Plan" "waveCount" "I") ∈ lw_all := lw_g (lw_at lw_m2 177 rfl) rfl
theorem q543 : (Jvm.Cond.fieldLink "BakeryPlan$Plan" (67 : Nat) "BakeryPlan$Plan" "policy" "I") ∈ lw_all := lw_g (lw_at lw_m2 181 rfl) rfl
theorem q546 : (Jvm.Cond.laysFinal "BakeryPlan$Plan" "BakeryPlan$Plan" "products" "Ljava/util/ArrayList;") ∈ lw_all := lw_g (lw_at lw_m2 184 rfl) rfl
theorem q547 : (Jvm.Cond.soleField "BakeryPlan$Plan" "products") ∈ lw_all := lw_g (lw_at lw_m2 185 rfl) rfl
theorem q548 : (Jvm.Cond.laysFinal "BakeryPlan$Plan" "BakeryPlan$Plan" "waves" "[I") ∈ lw_all := lw_g (lw_at lw_m2 186 rfl) rfl
theorem q549 : (Jvm.Cond.soleField "BakeryPlan$Plan" "waves") ∈ lw_all := lw_g (lw_at lw_m2 187 rfl) rfl
theorem q550 : (Jvm.Cond.laysFinal "BakeryPlan$Plan" "BakeryPlan$Plan" "settings" "[I") ∈ lw_all := lw_g (lw_at lw_m2 188 rfl) rfl
theorem q551 : (Jvm.Cond.soleField "BakeryPlan$Plan" "settings") ∈ lw_all := lw_g (lw_at lw_m2 189 rfl) rfl
theorem q552 : (Jvm.Cond.laysFinal "BakeryPlan$Plan" "BakeryPlan$Plan" "batches" "Ljava/util/ArrayList;") ∈ lw_all := lw_g (lw_at lw_m2 190 rfl) rfl
theorem q553 : (Jvm.Cond.soleField "BakeryPlan$Plan" "batches") ∈ lw_all := lw_g (lw_at lw_m2 191 rfl) rfl
theorem q554 : (Jvm.Cond.lays "BakeryPlan$Plan" "BakeryPlan$Plan" "waveCount" "I") ∈ lw_all := lw_g (lw_at lw_m2 192 rfl) rfl
theorem q555 : (Jvm.Cond.soleField "BakeryPlan$Plan" "waveCount") ∈ lw_all := lw_g (lw_at lw_m2 193 rfl) rfl
theorem q556 : (Jvm.Cond.lays "BakeryPlan$Plan" "BakeryPlan$Plan" "policy" "I") ∈ lw_all := lw_g (lw_at lw_m2 194 rfl) rfl
theorem q557 : (Jvm.Cond.soleField "BakeryPlan$Plan" "policy") ∈ lw_all := lw_g (lw_at lw_m2 195 rfl) rfl
theorem q558 : (Jvm.Cond.superclass "BakeryPlan$Plan" "java/lang/Object") ∈ lw_all := lw_g (lw_at lw_m2 196 rfl) rfl
theorem q783 : (Jvm.Cond.instanceMethod ({ cls := "BakeryPlan$Plan", name := "productOf", desc := "(I)LBakeryPlan$Product;" } : Jvm.MethodName)) ∈ lw_all := lw_g (lw_at lw_m3 181 rfl) rfl
theorem q784 : (Jvm.Cond.selects "BakeryPlan$Plan" ({ cls := "BakeryPlan$Plan", name := "productOf", desc := "(I)LBakeryPlan$Product;" } : Jvm.MethodName) ({ cls := "BakeryPlan$Plan", name := "productOf", desc := "(I)LBakeryPlan$Product;" } : Jvm.MethodName)) ∈ lw_all := lw_g (lw_at lw_m3 182 rfl) rfl
theorem q785 : (Jvm.Cond.code ({ cls := "BakeryPlan$Plan", name := "productOf", desc := "(I)LBakeryPlan$Product;" } : Jvm.MethodName) prog_8_method_3_code (2 : Nat) (Option.some (Jvm.ClassFile.FieldType.object "BakeryPlan$Product"))) ∈ lw_all := lw_g (lw_at lw_m3 183 rfl) rfl
theorem q786 : (Jvm.Cond.methodLink "BakeryPlan$Plan" (70 : Nat) ({ cls := "java/util/ArrayList", name := "get", desc := "(I)Ljava/lang/Object;" } : Jvm.MethodName)) ∈ lw_all := lw_g (lw_at lw_m3 184 rfl) rfl
theorem q800 : (Jvm.Cond.classLink "BakeryPlan$Plan" (47 : Nat) "BakeryPlan$Batch") ∈ lw_all := lw_g (lw_at lw_m3 198 rfl) rfl
theorem q801 : (Jvm.Cond.classLink "BakeryPlan$Plan" (77 : Nat) "BakeryPlan$Product") ∈ lw_all := lw_g (lw_at lw_m3 199 rfl) rfl
theorem q912 : (Jvm.Cond.instanceMethod ({ cls := "BakeryPlan$Plan", name := "copy", desc := "()LBakeryPlan$Plan;" } : Jvm.MethodName)) ∈ lw_all := lw_g (lw_at lw_m4 70 rfl) rfl
theorem q913 : (Jvm.Cond.selects "BakeryPlan$Plan" ({ cls := "BakeryPlan$Plan", name := "copy", desc := "()LBakeryPlan$Plan;" } : Jvm.MethodName) ({ cls := "BakeryPlan$Plan", name := "copy", desc := "()LBakeryPlan$Plan;" } : Jvm.MethodName)) ∈ lw_all := lw_g (lw_at lw_m4 71 rfl) rfl
theorem q914 : (Jvm.Cond.code ({ cls := "BakeryPlan$Plan", name := "copy", desc := "()LBakeryPlan$Plan;" } : Jvm.MethodName) prog_8_method_2_code (4 : Nat) (Option.some (Jvm.ClassFile.FieldType.object "BakeryPlan$Plan"))) ∈ lw_all := lw_g (lw_at lw_m4 72 rfl) rfl
theorem q915 : (Jvm.Cond.classLink "BakeryPlan$Plan" (10 : Nat) "BakeryPlan$Plan") ∈ lw_all := lw_g (lw_at lw_m4 73 rfl) rfl
theorem q916 : (Jvm.Cond.methodLink "BakeryPlan$Plan" (30 : Nat) ({ cls := "BakeryPlan$Plan", name := "<init>", desc := "(Ljava/util/ArrayList;[I)V" } : Jvm.MethodName)) ∈ lw_all := lw_g (lw_at lw_m4 74 rfl) rfl
theorem q917 : (Jvm.Cond.methodLink "BakeryPlan$Plan" (33 : Nat) ({ cls := "java/util/ArrayList", name := "iterator", desc := "()Ljava/util/Iterator;" } : Jvm.MethodName)) ∈ lw_all := lw_g (lw_at lw_m4 75 rfl) rfl
theorem q940 : (Jvm.Cond.interfaceEntry "BakeryPlan$Plan" (37 : Nat)) ∈ lw_tbl := lw_at lw_m4 98 rfl
theorem q941 : (Jvm.Cond.methodLink "BakeryPlan$Plan" (37 : Nat) ({ cls := "java/util/Iterator", name := "hasNext", desc := "()Z" } : Jvm.MethodName)) ∈ lw_all := lw_g (lw_at lw_m4 99 rfl) rfl
theorem q950 : (Jvm.Cond.interfaceEntry "BakeryPlan$Plan" (43 : Nat)) ∈ lw_tbl := lw_at lw_m4 108 rfl
theorem q951 : (Jvm.Cond.methodLink "BakeryPlan$Plan" (43 : Nat) ({ cls := "java/util/Iterator", name := "next", desc := "()Ljava/lang/Object;" } : Jvm.MethodName)) ∈ lw_all := lw_g (lw_at lw_m4 109 rfl) rfl
theorem q963 : (Jvm.Cond.methodLink "BakeryPlan$Plan" (49 : Nat) ({ cls := "BakeryPlan$Batch", name := "copy", desc := "()LBakeryPlan$Batch;" } : Jvm.MethodName)) ∈ lw_all := lw_g (lw_at lw_m4 121 rfl) rfl
theorem q974 : (Jvm.Cond.fieldLinkNest "BakeryPlan$Plan" (74 : Nat) "BakeryPlan$Batch" "product" "I" "BakeryPlan") ∈ lw_tbl := lw_at lw_m4 132 rfl
theorem q990 : (Jvm.Cond.methodLink "BakeryPlan$Plan" (53 : Nat) ({ cls := "java/util/ArrayList", name := "add", desc := "(Ljava/lang/Object;)Z" } : Jvm.MethodName)) ∈ lw_all := lw_g (lw_at lw_m4 148 rfl) rfl
theorem q1022 : (Jvm.Cond.selects "BakeryPlan$Plan" ({ cls := "java/lang/Object", name := "getClass", desc := "()Ljava/lang/Class;" } : Jvm.MethodName) ({ cls := "java/lang/Object", name := "getClass", desc := "()Ljava/lang/Class;" } : Jvm.MethodName)) ∈ lw_all := lw_g (lw_at lw_m4 180 rfl) rfl
theorem q1043 : (Jvm.Cond.methodLink "BakeryPlan$Plan" (57 : Nat) ({ cls := "java/lang/System", name := "arraycopy", desc := "(Ljava/lang/Object;ILjava/lang/Object;II)V" } : Jvm.MethodName)) ∈ lw_all := lw_g (lw_at lw_m4 201 rfl) rfl
theorem q1059 : (Jvm.Cond.instanceMethod ({ cls := "BakeryPlan$Plan", name := "swap", desc := "(I)V" } : Jvm.MethodName)) ∈ lw_all := lw_g (lw_at lw_m4 217 rfl) rfl
theorem q1060 : (Jvm.Cond.selects "BakeryPlan$Plan" ({ cls := "BakeryPlan$Plan", name := "swap", desc := "(I)V" } : Jvm.MethodName) ({ cls := "BakeryPlan$Plan", name := "swap", desc := "(I)V" } : Jvm.MethodName)) ∈ lw_all := lw_g (lw_at lw_m4 218 rfl) rfl
theorem q1061 : (Jvm.Cond.code ({ cls := "BakeryPlan$Plan", name := "swap", desc := "(I)V" } : Jvm.MethodName) prog_8_method_4_code (3 : Nat) (Option.none : Option Jvm.ClassFile.FieldType)) ∈ lw_all := lw_g (lw_at lw_m4 219 rfl) rfl
theorem q1062 : (Jvm.Cond.methodLink "BakeryPlan$Plan" (79 : Nat) ({ cls := "java/util/ArrayList", name := "remove", desc := "(I)Ljava/lang/Object;" } : Jvm.MethodName)) ∈ lw_all := lw_g (lw_at lw_m4 220 rfl) rfl
theorem q1071 : (Jvm.Cond.methodLink "BakeryPlan$Plan" (82 : Nat) ({ cls := "java/util/ArrayList", name := "add", desc := "(ILjava/lang/Object;)V" } : Jvm.MethodName)) ∈ lw_all := lw_g (lw_at lw_m4 229 rfl) rfl
theorem q2669 : (Jvm.Cond.castable "BakeryPlan$Plan" "java/lang/Object") ∈ lw_tbl := lw_at lw_m11 147 rfl
theorem in_X2 : ∀ w ∈ wsX20, w ∈ lw_all := lw_in wsX20 [546, 548, 550, 552, 554, 556] (by decide +kernel) (by decide +kernel)
/-! BakeryPlan$Day -/
set_option maxRecDepth 100000
def RX3 : String := "BakeryPlan$Day"
def TX3 : u_T := fun k => match k with
  | 0 => ("BakeryPlan$Day", "phase", "[I", true)
  | 1 => ("BakeryPlan$Day", "mixer", "[I", true)
  | 2 => ("BakeryPlan$Day", "mixStart", "[I", true)
  | 3 => ("BakeryPlan$Day", "proofStart", "[I", true)
  | 4 => ("BakeryPlan$Day", "deck", "[I", true)
  | 5 => ("BakeryPlan$Day", "bakeStart", "[I", true)
  | 6 => ("BakeryPlan$Day", "bakeEnd", "[I", true)
  | 7 => ("BakeryPlan$Day", "lostAt", "[I", true)
  | 8 => ("BakeryPlan$Day", "shelfMinutes", "[I", true)
  | 9 => ("BakeryPlan$Day", "age", "[I", true)
  | 10 => ("BakeryPlan$Day", "bakeAge", "[I", true)
  | 11 => ("BakeryPlan$Day", "isShelved", "[Z", true)
  | 12 => ("BakeryPlan$Day", "mixing", "[I", true)
  | 13 => ("BakeryPlan$Day", "until", "[I", true)
  | 14 => ("BakeryPlan$Day", "dough", "[I", true)
  | 15 => ("BakeryPlan$Day", "begun", "[I", true)
  | 16 => ("BakeryPlan$Day", "taken", "[I", true)
  | 17 => ("BakeryPlan$Day", "heat", "[I", true)
  | 18 => ("BakeryPlan$Day", "busy", "[I", true)
  | 19 => ("BakeryPlan$Day", "cleanings", "I", false)
  | 20 => ("BakeryPlan$Day", "degrees", "I", false)
  | 21 => ("BakeryPlan$Day", "count", "I", false)
  | 22 => ("BakeryPlan$Day", "plan", "LBakeryPlan$Plan;", false)
  | _ => ("BakeryPlan$Day", "policy", "LBakeryPlan$Policy;", false)
def tyX3 : Nat → FieldType := fun k => match k with
  | 0 => .array .int
  | 1 => .array .int
  | 2 => .array .int
  | 3 => .array .int
  | 4 => .array .int
  | 5 => .array .int
  | 6 => .array .int
  | 7 => .array .int
  | 8 => .array .int
  | 9 => .array .int
  | 10 => .array .int
  | 11 => .array .boolean
  | 12 => .array .int
  | 13 => .array .int
  | 14 => .array .int
  | 15 => .array .int
  | 16 => .array .int
  | 17 => .array .int
  | 18 => .array .int
  | 19 => .int
  | 20 => .int
  | 21 => .int
  | 22 => .object "BakeryPlan$Plan"
  | _ => .object "BakeryPlan$Policy"
abbrev wsX30 : List Cond := u_ws RX3 TX3 24
set_option maxRecDepth 100000 in
theorem nmX3 : ∀ a, a < 24 → ∀ b, b < 24 → a ≠ b → (TX3 a).2.1 ≠ (TX3 b).2.1 := by decide +kernel
set_option maxRecDepth 100000 in
theorem tyX3_ok : ∀ k, k < 24 → parseFieldDescriptor (TX3 k).2.2.1 = some (tyX3 k) := by decide +kernel
abbrev cX3_init : ByteArray := prog_6_method_1_code
def yX3_init : MethodName := ⟨RX3, "<init>", "(LBakeryPlan$Plan;)V"⟩
def dkwX3_init_6 : List UInt8 := [42, 7, 188, 10, 181, 0, 67, 42, 43, 181, 0, 70, 42, 3, 184, 0, 74, 181, 0, 80, 177]
abbrev dktX3_init_6 : List UInt8 := dkwX3_init_6 ++ []
def dkwX3_init_5 : List UInt8 := [181, 0, 55, 42, 6, 188, 10, 181, 0, 58, 42, 7, 188, 10, 181, 0, 61, 42, 7, 188, 10, 181, 0, 64]
abbrev dktX3_init_5 : List UInt8 := dkwX3_init_5 ++ dktX3_init_6
def dkwX3_init_4 : List UInt8 := [188, 4, 181, 0, 45, 42, 6, 188, 10, 181, 0, 49, 42, 6, 188, 10, 181, 0, 52, 42, 6, 188, 10]
abbrev dktX3_init_4 : List UInt8 := dkwX3_init_4 ++ dktX3_init_5
def dkwX3_init_3 : List UInt8 := [188, 10, 181, 0, 36, 42, 16, 20, 188, 10, 181, 0, 39, 42, 16, 20, 188, 10, 181, 0, 42, 42, 16, 20]
abbrev dktX3_init_3 : List UInt8 := dkwX3_init_3 ++ dktX3_init_4
def dkwX3_init_2 : List UInt8 := [188, 10, 181, 0, 27, 42, 16, 20, 188, 10, 181, 0, 30, 42, 16, 20, 188, 10, 181, 0, 33, 42, 16, 20]
abbrev dktX3_init_2 : List UInt8 := dkwX3_init_2 ++ dktX3_init_3
def dkwX3_init_1 : List UInt8 := [188, 10, 181, 0, 18, 42, 16, 20, 188, 10, 181, 0, 21, 42, 16, 20, 188, 10, 181, 0, 24, 42, 16, 20]
abbrev dktX3_init_1 : List UInt8 := dkwX3_init_1 ++ dktX3_init_2
def dkwX3_init_0 : List UInt8 := [42, 183, 0, 3, 42, 16, 20, 188, 10, 181, 0, 9, 42, 16, 20, 188, 10, 181, 0, 15, 42, 16, 20]
abbrev dktX3_init_0 : List UInt8 := dkwX3_init_0 ++ dktX3_init_1
theorem dksX3_init_0 : cX3_init.data.toList.drop 0 = dktX3_init_0 := by decide +kernel
theorem dksX3_init_1 : cX3_init.data.toList.drop 23 = dktX3_init_1 := dk_seg dksX3_init_0 23 rfl rfl
theorem dksX3_init_2 : cX3_init.data.toList.drop 47 = dktX3_init_2 := dk_seg dksX3_init_1 24 rfl rfl
theorem dksX3_init_3 : cX3_init.data.toList.drop 71 = dktX3_init_3 := dk_seg dksX3_init_2 24 rfl rfl
theorem dksX3_init_4 : cX3_init.data.toList.drop 95 = dktX3_init_4 := dk_seg dksX3_init_3 24 rfl rfl
theorem dksX3_init_5 : cX3_init.data.toList.drop 118 = dktX3_init_5 := dk_seg dksX3_init_4 23 rfl rfl
theorem dksX3_init_6 : cX3_init.data.toList.drop 142 = dktX3_init_6 := dk_seg dksX3_init_5 24 rfl rfl
theorem dX3_init_0 : decode cX3_init 0 = .ok (.aload_n 0, 1) := dk_42 (dk_at dksX3_init_0 0 rfl rfl)
theorem dX3_init_1 : decode cX3_init 1 = .ok (.invokespecial 3, 3) := dk_183 0 3 (dk_at dksX3_init_0 1 rfl rfl)
theorem dX3_init_4 : decode cX3_init 4 = .ok (.aload_n 0, 1) := dk_42 (dk_at dksX3_init_0 4 rfl rfl)
theorem dX3_init_5 : decode cX3_init 5 = .ok (.bipush 20, 2) := dk_16 20 (dk_at dksX3_init_0 5 rfl rfl)
theorem dX3_init_7 : decode cX3_init 7 = .ok (.newarray .int, 2) := dk_188_10 (dk_at dksX3_init_0 7 rfl rfl)
theorem dX3_init_9 : decode cX3_init 9 = .ok (.putfield 9, 3) := dk_181 0 9 (dk_at dksX3_init_0 9 rfl rfl)
theorem dX3_init_12 : decode cX3_init 12 = .ok (.aload_n 0, 1) := dk_42 (dk_at dksX3_init_0 12 rfl rfl)
theorem dX3_init_13 : decode cX3_init 13 = .ok (.bipush 20, 2) := dk_16 20 (dk_at dksX3_init_0 13 rfl rfl)
theorem dX3_init_15 : decode cX3_init 15 = .ok (.newarray .int, 2) := dk_188_10 (dk_at dksX3_init_0 15 rfl rfl)
theorem dX3_init_17 : decode cX3_init 17 = .ok (.putfield 15, 3) := dk_181 0 15 (dk_at dksX3_init_0 17 rfl rfl)
theorem dX3_init_20 : decode cX3_init 20 = .ok (.aload_n 0, 1) := dk_42 (dk_at dksX3_init_0 20 rfl rfl)
theorem dX3_init_21 : decode cX3_init 21 = .ok (.bipush 20, 2) := dk_16 20 (dk_at dksX3_init_0 21 rfl rfl)
theorem dX3_init_23 : decode cX3_init 23 = .ok (.newarray .int, 2) := dk_188_10 (dk_at dksX3_init_1 0 rfl rfl)
theorem dX3_init_25 : decode cX3_init 25 = .ok (.putfield 18, 3) := dk_181 0 18 (dk_at dksX3_init_1 2 rfl rfl)
theorem dX3_init_28 : decode cX3_init 28 = .ok (.aload_n 0, 1) := dk_42 (dk_at dksX3_init_1 5 rfl rfl)
theorem dX3_init_29 : decode cX3_init 29 = .ok (.bipush 20, 2) := dk_16 20 (dk_at dksX3_init_1 6 rfl rfl)
theorem dX3_init_31 : decode cX3_init 31 = .ok (.newarray .int, 2) := dk_188_10 (dk_at dksX3_init_1 8 rfl rfl)
theorem dX3_init_33 : decode cX3_init 33 = .ok (.putfield 21, 3) := dk_181 0 21 (dk_at dksX3_init_1 10 rfl rfl)
theorem dX3_init_36 : decode cX3_init 36 = .ok (.aload_n 0, 1) := dk_42 (dk_at dksX3_init_1 13 rfl rfl)
theorem dX3_init_37 : decode cX3_init 37 = .ok (.bipush 20, 2) := dk_16 20 (dk_at dksX3_init_1 14 rfl rfl)
theorem dX3_init_39 : decode cX3_init 39 = .ok (.newarray .int, 2) := dk_188_10 (dk_at dksX3_init_1 16 rfl rfl)
theorem dX3_init_41 : decode cX3_init 41 = .ok (.putfield 24, 3) := dk_181 0 24 (dk_at dksX3_init_1 18 rfl rfl)
theorem dX3_init_44 : decode cX3_init 44 = .ok (.aload_n 0, 1) := dk_42 (dk_at dksX3_init_1 21 rfl rfl)
theorem dX3_init_45 : decode cX3_init 45 = .ok (.bipush 20, 2) := dk_16 20 (dk_at dksX3_init_1 22 rfl rfl)
theorem dX3_init_47 : decode cX3_init 47 = .ok (.newarray .int, 2) := dk_188_10 (dk_at dksX3_init_2 0 rfl rfl)
theorem dX3_init_49 : decode cX3_init 49 = .ok (.putfield 27, 3) := dk_181 0 27 (dk_at dksX3_init_2 2 rfl rfl)
theorem dX3_init_52 : decode cX3_init 52 = .ok (.aload_n 0, 1) := dk_42 (dk_at dksX3_init_2 5 rfl rfl)
theorem dX3_init_53 : decode cX3_init 53 = .ok (.bipush 20, 2) := dk_16 20 (dk_at dksX3_init_2 6 rfl rfl)
theorem dX3_init_55 : decode cX3_init 55 = .ok (.newarray .int, 2) := dk_188_10 (dk_at dksX3_init_2 8 rfl rfl)
theorem dX3_init_57 : decode cX3_init 57 = .ok (.putfield 30, 3) := dk_181 0 30 (dk_at dksX3_init_2 10 rfl rfl)
theorem dX3_init_60 : decode cX3_init 60 = .ok (.aload_n 0, 1) := dk_42 (dk_at dksX3_init_2 13 rfl rfl)
theorem dX3_init_61 : decode cX3_init 61 = .ok (.bipush 20, 2) := dk_16 20 (dk_at dksX3_init_2 14 rfl rfl)
theorem dX3_init_63 : decode cX3_init 63 = .ok (.newarray .int, 2) := dk_188_10 (dk_at dksX3_init_2 16 rfl rfl)
theorem dX3_init_65 : decode cX3_init 65 = .ok (.putfield 33, 3) := dk_181 0 33 (dk_at dksX3_init_2 18 rfl rfl)
theorem dX3_init_68 : decode cX3_init 68 = .ok (.aload_n 0, 1) := dk_42 (dk_at dksX3_init_2 21 rfl rfl)
theorem dX3_init_69 : decode cX3_init 69 = .ok (.bipush 20, 2) := dk_16 20 (dk_at dksX3_init_2 22 rfl rfl)
theorem dX3_init_71 : decode cX3_init 71 = .ok (.newarray .int, 2) := dk_188_10 (dk_at dksX3_init_3 0 rfl rfl)
theorem dX3_init_73 : decode cX3_init 73 = .ok (.putfield 36, 3) := dk_181 0 36 (dk_at dksX3_init_3 2 rfl rfl)
theorem dX3_init_76 : decode cX3_init 76 = .ok (.aload_n 0, 1) := dk_42 (dk_at dksX3_init_3 5 rfl rfl)
theorem dX3_init_77 : decode cX3_init 77 = .ok (.bipush 20, 2) := dk_16 20 (dk_at dksX3_init_3 6 rfl rfl)
theorem dX3_init_79 : decode cX3_init 79 = .ok (.newarray .int, 2) := dk_188_10 (dk_at dksX3_init_3 8 rfl rfl)
theorem dX3_init_81 : decode cX3_init 81 = .ok (.putfield 39, 3) := dk_181 0 39 (dk_at dksX3_init_3 10 rfl rfl)
theorem dX3_init_84 : decode cX3_init 84 = .ok (.aload_n 0, 1) := dk_42 (dk_at dksX3_init_3 13 rfl rfl)
theorem dX3_init_85 : decode cX3_init 85 = .ok (.bipush 20, 2) := dk_16 20 (dk_at dksX3_init_3 14 rfl rfl)
theorem dX3_init_87 : decode cX3_init 87 = .ok (.newarray .int, 2) := dk_188_10 (dk_at dksX3_init_3 16 rfl rfl)
theorem dX3_init_89 : decode cX3_init 89 = .ok (.putfield 42, 3) := dk_181 0 42 (dk_at dksX3_init_3 18 rfl rfl)
theorem dX3_init_92 : decode cX3_init 92 = .ok (.aload_n 0, 1) := dk_42 (dk_at dksX3_init_3 21 rfl rfl)
theorem dX3_init_93 : decode cX3_init 93 = .ok (.bipush 20, 2) := dk_16 20 (dk_at dksX3_init_3 22 rfl rfl)
theorem dX3_init_95 : decode cX3_init 95 = .ok (.newarray .boolean, 2) := dk_188_4 (dk_at dksX3_init_4 0 rfl rfl)
theorem dX3_init_97 : decode cX3_init 97 = .ok (.putfield 45, 3) := dk_181 0 45 (dk_at dksX3_init_4 2 rfl rfl)
theorem dX3_init_100 : decode cX3_init 100 = .ok (.aload_n 0, 1) := dk_42 (dk_at dksX3_init_4 5 rfl rfl)
theorem dX3_init_101 : decode cX3_init 101 = .ok (.iconst 3, 1) := dk_6 (dk_at dksX3_init_4 6 rfl rfl)
theorem dX3_init_102 : decode cX3_init 102 = .ok (.newarray .int, 2) := dk_188_10 (dk_at dksX3_init_4 7 rfl rfl)
theorem dX3_init_104 : decode cX3_init 104 = .ok (.putfield 49, 3) := dk_181 0 49 (dk_at dksX3_init_4 9 rfl rfl)
theorem dX3_init_107 : decode cX3_init 107 = .ok (.aload_n 0, 1) := dk_42 (dk_at dksX3_init_4 12 rfl rfl)
theorem dX3_init_108 : decode cX3_init 108 = .ok (.iconst 3, 1) := dk_6 (dk_at dksX3_init_4 13 rfl rfl)
theorem dX3_init_109 : decode cX3_init 109 = .ok (.newarray .int, 2) := dk_188_10 (dk_at dksX3_init_4 14 rfl rfl)
theorem dX3_init_111 : decode cX3_init 111 = .ok (.putfield 52, 3) := dk_181 0 52 (dk_at dksX3_init_4 16 rfl rfl)
theorem dX3_init_114 : decode cX3_init 114 = .ok (.aload_n 0, 1) := dk_42 (dk_at dksX3_init_4 19 rfl rfl)
theorem dX3_init_115 : decode cX3_init 115 = .ok (.iconst 3, 1) := dk_6 (dk_at dksX3_init_4 20 rfl rfl)
theorem dX3_init_116 : decode cX3_init 116 = .ok (.newarray .int, 2) := dk_188_10 (dk_at dksX3_init_4 21 rfl rfl)
theorem dX3_init_118 : decode cX3_init 118 = .ok (.putfield 55, 3) := dk_181 0 55 (dk_at dksX3_init_5 0 rfl rfl)
theorem dX3_init_121 : decode cX3_init 121 = .ok (.aload_n 0, 1) := dk_42 (dk_at dksX3_init_5 3 rfl rfl)
theorem dX3_init_122 : decode cX3_init 122 = .ok (.iconst 3, 1) := dk_6 (dk_at dksX3_init_5 4 rfl rfl)
theorem dX3_init_123 : decode cX3_init 123 = .ok (.newarray .int, 2) := dk_188_10 (dk_at dksX3_init_5 5 rfl rfl)
theorem dX3_init_125 : decode cX3_init 125 = .ok (.putfield 58, 3) := dk_181 0 58 (dk_at dksX3_init_5 7 rfl rfl)
theorem dX3_init_128 : decode cX3_init 128 = .ok (.aload_n 0, 1) := dk_42 (dk_at dksX3_init_5 10 rfl rfl)
theorem dX3_init_129 : decode cX3_init 129 = .ok (.iconst 4, 1) := dk_7 (dk_at dksX3_init_5 11 rfl rfl)
theorem dX3_init_130 : decode cX3_init 130 = .ok (.newarray .int, 2) := dk_188_10 (dk_at dksX3_init_5 12 rfl rfl)
theorem dX3_init_132 : decode cX3_init 132 = .ok (.putfield 61, 3) := dk_181 0 61 (dk_at dksX3_init_5 14 rfl rfl)
theorem dX3_init_135 : decode cX3_init 135 = .ok (.aload_n 0, 1) := dk_42 (dk_at dksX3_init_5 17 rfl rfl)
theorem dX3_init_136 : decode cX3_init 136 = .ok (.iconst 4, 1) := dk_7 (dk_at dksX3_init_5 18 rfl rfl)
theorem dX3_init_137 : decode cX3_init 137 = .ok (.newarray .int, 2) := dk_188_10 (dk_at dksX3_init_5 19 rfl rfl)
theorem dX3_init_139 : decode cX3_init 139 = .ok (.putfield 64, 3) := dk_181 0 64 (dk_at dksX3_init_5 21 rfl rfl)
theorem dX3_init_142 : decode cX3_init 142 = .ok (.aload_n 0, 1) := dk_42 (dk_at dksX3_init_6 0 rfl rfl)
theorem dX3_init_143 : decode cX3_init 143 = .ok (.iconst 4, 1) := dk_7 (dk_at dksX3_init_6 1 rfl rfl)
theorem dX3_init_144 : decode cX3_init 144 = .ok (.newarray .int, 2) := dk_188_10 (dk_at dksX3_init_6 2 rfl rfl)
theorem dX3_init_146 : decode cX3_init 146 = .ok (.putfield 67, 3) := dk_181 0 67 (dk_at dksX3_init_6 4 rfl rfl)
theorem dX3_init_149 : decode cX3_init 149 = .ok (.aload_n 0, 1) := dk_42 (dk_at dksX3_init_6 7 rfl rfl)
theorem dX3_init_150 : decode cX3_init 150 = .ok (.aload_n 1, 1) := dk_43 (dk_at dksX3_init_6 8 rfl rfl)
theorem dX3_init_151 : decode cX3_init 151 = .ok (.putfield 70, 3) := dk_181 0 70 (dk_at dksX3_init_6 9 rfl rfl)
theorem dX3_init_154 : decode cX3_init 154 = .ok (.aload_n 0, 1) := dk_42 (dk_at dksX3_init_6 12 rfl rfl)
theorem dX3_init_155 : decode cX3_init 155 = .ok (.iconst 0, 1) := dk_3 (dk_at dksX3_init_6 13 rfl rfl)
theorem dX3_init_156 : decode cX3_init 156 = .ok (.invokestatic 74, 3) := dk_184 0 74 (dk_at dksX3_init_6 14 rfl rfl)
theorem dX3_init_159 : decode cX3_init 159 = .ok (.putfield 80, 3) := dk_181 0 80 (dk_at dksX3_init_6 17 rfl rfl)
theorem dX3_init_162 : decode cX3_init 162 = .ok (.return_, 1) := dk_177 (dk_at dksX3_init_6 20 rfl rfl)
abbrev cX3_run : ByteArray := prog_6_method_3_code
def yX3_run : MethodName := ⟨RX3, "run", "(LBakeryPlan$Plan;I)LBakeryPlan$Day;"⟩
def dkwX3_run_1 : List UInt8 := [132, 3, 1, 167, 255, 236, 42, 176]
abbrev dktX3_run_1 : List UInt8 := dkwX3_run_1 ++ []
def dkwX3_run_0 : List UInt8 := [42, 43, 182, 0, 108, 3, 62, 29, 28, 162, 0, 21, 42, 182, 0, 112, 154, 0, 14, 42, 29, 182, 0, 116]
abbrev dktX3_run_0 : List UInt8 := dkwX3_run_0 ++ dktX3_run_1
theorem dksX3_run_0 : cX3_run.data.toList.drop 0 = dktX3_run_0 := by decide +kernel
theorem dksX3_run_1 : cX3_run.data.toList.drop 24 = dktX3_run_1 := dk_seg dksX3_run_0 24 rfl rfl
theorem dX3_run_0 : decode cX3_run 0 = .ok (.aload_n 0, 1) := dk_42 (dk_at dksX3_run_0 0 rfl rfl)
theorem dX3_run_1 : decode cX3_run 1 = .ok (.aload_n 1, 1) := dk_43 (dk_at dksX3_run_0 1 rfl rfl)
theorem dX3_run_2 : decode cX3_run 2 = .ok (.invokevirtual 108, 3) := dk_182 0 108 (dk_at dksX3_run_0 2 rfl rfl)
theorem dX3_run_5 : decode cX3_run 5 = .ok (.iconst 0, 1) := dk_3 (dk_at dksX3_run_0 5 rfl rfl)
theorem dX3_run_6 : decode cX3_run 6 = .ok (.istore_n 3, 1) := dk_62 (dk_at dksX3_run_0 6 rfl rfl)
theorem dX3_run_7 : decode cX3_run 7 = .ok (.iload_n 3, 1) := dk_29 (dk_at dksX3_run_0 7 rfl rfl)
theorem dX3_run_8 : decode cX3_run 8 = .ok (.iload_n 2, 1) := dk_28 (dk_at dksX3_run_0 8 rfl rfl)
theorem dX3_run_9 : decode cX3_run 9 = .ok (.if_icmp .ge 21, 3) := dk_162 0 21 (dk_at dksX3_run_0 9 rfl rfl)
theorem dX3_run_12 : decode cX3_run 12 = .ok (.aload_n 0, 1) := dk_42 (dk_at dksX3_run_0 12 rfl rfl)
theorem dX3_run_13 : decode cX3_run 13 = .ok (.invokevirtual 112, 3) := dk_182 0 112 (dk_at dksX3_run_0 13 rfl rfl)
theorem dX3_run_16 : decode cX3_run 16 = .ok (.ifCond .ne 14, 3) := dk_154 0 14 (dk_at dksX3_run_0 16 rfl rfl)
theorem dX3_run_19 : decode cX3_run 19 = .ok (.aload_n 0, 1) := dk_42 (dk_at dksX3_run_0 19 rfl rfl)
theorem dX3_run_20 : decode cX3_run 20 = .ok (.iload_n 3, 1) := dk_29 (dk_at dksX3_run_0 20 rfl rfl)
theorem dX3_run_21 : decode cX3_run 21 = .ok (.invokevirtual 116, 3) := dk_182 0 116 (dk_at dksX3_run_0 21 rfl rfl)
theorem dX3_run_24 : decode cX3_run 24 = .ok (.iinc 3 1, 3) := dk_132 3 1 (dk_at dksX3_run_1 0 rfl rfl)
theorem dX3_run_27 : decode cX3_run 27 = .ok (.goto (-20), 3) := dk_167 255 236 (dk_at dksX3_run_1 3 rfl rfl)
theorem dX3_run_30 : decode cX3_run 30 = .ok (.aload_n 0, 1) := dk_42 (dk_at dksX3_run_1 6 rfl rfl)
theorem dX3_run_31 : decode cX3_run 31 = .ok (.areturn, 1) := dk_176 (dk_at dksX3_run_1 7 rfl rfl)
abbrev cX3_begin : ByteArray := prog_6_method_2_code
def yX3_begin : MethodName := ⟨RX3, "begin", "(LBakeryPlan$Plan;)V"⟩
def dkwX3_begin_8 : List UInt8 := [28, 17, 0, 200, 79, 42, 180, 0, 67, 28, 3, 79, 132, 2, 1, 167, 255, 225, 177]
abbrev dktX3_begin_8 : List UInt8 := dkwX3_begin_8 ++ []
def dkwX3_begin_7 : List UInt8 := [132, 2, 1, 167, 255, 227, 3, 61, 28, 7, 162, 0, 32, 42, 180, 0, 61, 28, 2, 79, 42, 180, 0, 64]
abbrev dktX3_begin_7 : List UInt8 := dkwX3_begin_7 ++ dktX3_begin_8
def dkwX3_begin_6 : List UInt8 := [162, 0, 30, 42, 180, 0, 49, 28, 2, 79, 42, 180, 0, 55, 28, 2, 79, 42, 180, 0, 58, 28, 3, 79]
abbrev dktX3_begin_6 : List UInt8 := dkwX3_begin_6 ++ dktX3_begin_7
def dkwX3_begin_5 : List UInt8 := [180, 0, 42, 28, 2, 79, 42, 180, 0, 45, 28, 3, 84, 132, 2, 1, 167, 255, 161, 3, 61, 28, 6]
abbrev dktX3_begin_5 : List UInt8 := dkwX3_begin_5 ++ dktX3_begin_6
def dkwX3_begin_4 : List UInt8 := [42, 180, 0, 33, 28, 2, 79, 42, 180, 0, 36, 28, 3, 79, 42, 180, 0, 39, 28, 3, 79, 42]
abbrev dktX3_begin_4 : List UInt8 := dkwX3_begin_4 ++ dktX3_begin_5
def dkwX3_begin_3 : List UInt8 := [28, 2, 79, 42, 180, 0, 24, 28, 2, 79, 42, 180, 0, 27, 28, 2, 79, 42, 180, 0, 30, 28, 2, 79]
abbrev dktX3_begin_3 : List UInt8 := dkwX3_begin_3 ++ dktX3_begin_4
def dkwX3_begin_2 : List UInt8 := [180, 0, 9, 28, 3, 79, 42, 180, 0, 15, 28, 2, 79, 42, 180, 0, 18, 28, 2, 79, 42, 180, 0, 21]
abbrev dktX3_begin_2 : List UInt8 := dkwX3_begin_2 ++ dktX3_begin_3
def dkwX3_begin_1 : List UInt8 := [181, 0, 99, 42, 3, 181, 0, 102, 42, 3, 181, 0, 105, 3, 61, 28, 42, 180, 0, 99, 162, 0, 93, 42]
abbrev dktX3_begin_1 : List UInt8 := dkwX3_begin_1 ++ dktX3_begin_2
def dkwX3_begin_0 : List UInt8 := [42, 43, 181, 0, 70, 42, 43, 180, 0, 84, 184, 0, 74, 181, 0, 80, 42, 43, 180, 0, 89, 182, 0, 93]
abbrev dktX3_begin_0 : List UInt8 := dkwX3_begin_0 ++ dktX3_begin_1
theorem dksX3_begin_0 : cX3_begin.data.toList.drop 0 = dktX3_begin_0 := by decide +kernel
theorem dksX3_begin_1 : cX3_begin.data.toList.drop 24 = dktX3_begin_1 := dk_seg dksX3_begin_0 24 rfl rfl
theorem dksX3_begin_2 : cX3_begin.data.toList.drop 48 = dktX3_begin_2 := dk_seg dksX3_begin_1 24 rfl rfl
theorem dksX3_begin_3 : cX3_begin.data.toList.drop 72 = dktX3_begin_3 := dk_seg dksX3_begin_2 24 rfl rfl
theorem dksX3_begin_4 : cX3_begin.data.toList.drop 96 = dktX3_begin_4 := dk_seg dksX3_begin_3 24 rfl rfl
theorem dksX3_begin_5 : cX3_begin.data.toList.drop 118 = dktX3_begin_5 := dk_seg dksX3_begin_4 22 rfl rfl
theorem dksX3_begin_6 : cX3_begin.data.toList.drop 141 = dktX3_begin_6 := dk_seg dksX3_begin_5 23 rfl rfl
theorem dksX3_begin_7 : cX3_begin.data.toList.drop 165 = dktX3_begin_7 := dk_seg dksX3_begin_6 24 rfl rfl
theorem dksX3_begin_8 : cX3_begin.data.toList.drop 189 = dktX3_begin_8 := dk_seg dksX3_begin_7 24 rfl rfl
theorem dX3_begin_0 : decode cX3_begin 0 = .ok (.aload_n 0, 1) := dk_42 (dk_at dksX3_begin_0 0 rfl rfl)
theorem dX3_begin_1 : decode cX3_begin 1 = .ok (.aload_n 1, 1) := dk_43 (dk_at dksX3_begin_0 1 rfl rfl)
theorem dX3_begin_2 : decode cX3_begin 2 = .ok (.putfield 70, 3) := dk_181 0 70 (dk_at dksX3_begin_0 2 rfl rfl)
theorem dX3_begin_5 : decode cX3_begin 5 = .ok (.aload_n 0, 1) := dk_42 (dk_at dksX3_begin_0 5 rfl rfl)
theorem dX3_begin_6 : decode cX3_begin 6 = .ok (.aload_n 1, 1) := dk_43 (dk_at dksX3_begin_0 6 rfl rfl)
theorem dX3_begin_7 : decode cX3_begin 7 = .ok (.getfield 84, 3) := dk_180 0 84 (dk_at dksX3_begin_0 7 rfl rfl)
theorem dX3_begin_10 : decode cX3_begin 10 = .ok (.invokestatic 74, 3) := dk_184 0 74 (dk_at dksX3_begin_0 10 rfl rfl)
theorem dX3_begin_13 : decode cX3_begin 13 = .ok (.putfield 80, 3) := dk_181 0 80 (dk_at dksX3_begin_0 13 rfl rfl)
theorem dX3_begin_16 : decode cX3_begin 16 = .ok (.aload_n 0, 1) := dk_42 (dk_at dksX3_begin_0 16 rfl rfl)
theorem dX3_begin_17 : decode cX3_begin 17 = .ok (.aload_n 1, 1) := dk_43 (dk_at dksX3_begin_0 17 rfl rfl)
theorem dX3_begin_18 : decode cX3_begin 18 = .ok (.getfield 89, 3) := dk_180 0 89 (dk_at dksX3_begin_0 18 rfl rfl)
theorem dX3_begin_21 : decode cX3_begin 21 = .ok (.invokevirtual 93, 3) := dk_182 0 93 (dk_at dksX3_begin_0 21 rfl rfl)
theorem dX3_begin_24 : decode cX3_begin 24 = .ok (.putfield 99, 3) := dk_181 0 99 (dk_at dksX3_begin_1 0 rfl rfl)
theorem dX3_begin_27 : decode cX3_begin 27 = .ok (.aload_n 0, 1) := dk_42 (dk_at dksX3_begin_1 3 rfl rfl)
theorem dX3_begin_28 : decode cX3_begin 28 = .ok (.iconst 0, 1) := dk_3 (dk_at dksX3_begin_1 4 rfl rfl)
theorem dX3_begin_29 : decode cX3_begin 29 = .ok (.putfield 102, 3) := dk_181 0 102 (dk_at dksX3_begin_1 5 rfl rfl)
theorem dX3_begin_32 : decode cX3_begin 32 = .ok (.aload_n 0, 1) := dk_42 (dk_at dksX3_begin_1 8 rfl rfl)
theorem dX3_begin_33 : decode cX3_begin 33 = .ok (.iconst 0, 1) := dk_3 (dk_at dksX3_begin_1 9 rfl rfl)
theorem dX3_begin_34 : decode cX3_begin 34 = .ok (.putfield 105, 3) := dk_181 0 105 (dk_at dksX3_begin_1 10 rfl rfl)
theorem dX3_begin_37 : decode cX3_begin 37 = .ok (.iconst 0, 1) := dk_3 (dk_at dksX3_begin_1 13 rfl rfl)
theorem dX3_begin_38 : decode cX3_begin 38 = .ok (.istore_n 2, 1) := dk_61 (dk_at dksX3_begin_1 14 rfl rfl)
theorem dX3_begin_39 : decode cX3_begin 39 = .ok (.iload_n 2, 1) := dk_28 (dk_at dksX3_begin_1 15 rfl rfl)
theorem dX3_begin_40 : decode cX3_begin 40 = .ok (.aload_n 0, 1) := dk_42 (dk_at dksX3_begin_1 16 rfl rfl)
theorem dX3_begin_41 : decode cX3_begin 41 = .ok (.getfield 99, 3) := dk_180 0 99 (dk_at dksX3_begin_1 17 rfl rfl)
theorem dX3_begin_44 : decode cX3_begin 44 = .ok (.if_icmp .ge 93, 3) := dk_162 0 93 (dk_at dksX3_begin_1 20 rfl rfl)
theorem dX3_begin_47 : decode cX3_begin 47 = .ok (.aload_n 0, 1) := dk_42 (dk_at dksX3_begin_1 23 rfl rfl)
theorem dX3_begin_48 : decode cX3_begin 48 = .ok (.getfield 9, 3) := dk_180 0 9 (dk_at dksX3_begin_2 0 rfl rfl)
theorem dX3_begin_51 : decode cX3_begin 51 = .ok (.iload_n 2, 1) := dk_28 (dk_at dksX3_begin_2 3 rfl rfl)
theorem dX3_begin_52 : decode cX3_begin 52 = .ok (.iconst 0, 1) := dk_3 (dk_at dksX3_begin_2 4 rfl rfl)
theorem dX3_begin_53 : decode cX3_begin 53 = .ok (.iastore, 1) := dk_79 (dk_at dksX3_begin_2 5 rfl rfl)
theorem dX3_begin_54 : decode cX3_begin 54 = .ok (.aload_n 0, 1) := dk_42 (dk_at dksX3_begin_2 6 rfl rfl)
theorem dX3_begin_55 : decode cX3_begin 55 = .ok (.getfield 15, 3) := dk_180 0 15 (dk_at dksX3_begin_2 7 rfl rfl)
theorem dX3_begin_58 : decode cX3_begin 58 = .ok (.iload_n 2, 1) := dk_28 (dk_at dksX3_begin_2 10 rfl rfl)
theorem dX3_begin_59 : decode cX3_begin 59 = .ok (.iconst (-1), 1) := dk_2 (dk_at dksX3_begin_2 11 rfl rfl)
theorem dX3_begin_60 : decode cX3_begin 60 = .ok (.iastore, 1) := dk_79 (dk_at dksX3_begin_2 12 rfl rfl)
theorem dX3_begin_61 : decode cX3_begin 61 = .ok (.aload_n 0, 1) := dk_42 (dk_at dksX3_begin_2 13 rfl rfl)
theorem dX3_begin_62 : decode cX3_begin 62 = .ok (.getfield 18, 3) := dk_180 0 18 (dk_at dksX3_begin_2 14 rfl rfl)
theorem dX3_begin_65 : decode cX3_begin 65 = .ok (.iload_n 2, 1) := dk_28 (dk_at dksX3_begin_2 17 rfl rfl)
theorem dX3_begin_66 : decode cX3_begin 66 = .ok (.iconst (-1), 1) := dk_2 (dk_at dksX3_begin_2 18 rfl rfl)
theorem dX3_begin_67 : decode cX3_begin 67 = .ok (.iastore, 1) := dk_79 (dk_at dksX3_begin_2 19 rfl rfl)
theorem dX3_begin_68 : decode cX3_begin 68 = .ok (.aload_n 0, 1) := dk_42 (dk_at dksX3_begin_2 20 rfl rfl)
theorem dX3_begin_69 : decode cX3_begin 69 = .ok (.getfield 21, 3) := dk_180 0 21 (dk_at dksX3_begin_2 21 rfl rfl)
theorem dX3_begin_72 : decode cX3_begin 72 = .ok (.iload_n 2, 1) := dk_28 (dk_at dksX3_begin_3 0 rfl rfl)
theorem dX3_begin_73 : decode cX3_begin 73 = .ok (.iconst (-1), 1) := dk_2 (dk_at dksX3_begin_3 1 rfl rfl)
theorem dX3_begin_74 : decode cX3_begin 74 = .ok (.iastore, 1) := dk_79 (dk_at dksX3_begin_3 2 rfl rfl)
theorem dX3_begin_75 : decode cX3_begin 75 = .ok (.aload_n 0, 1) := dk_42 (dk_at dksX3_begin_3 3 rfl rfl)
theorem dX3_begin_76 : decode cX3_begin 76 = .ok (.getfield 24, 3) := dk_180 0 24 (dk_at dksX3_begin_3 4 rfl rfl)
theorem dX3_begin_79 : decode cX3_begin 79 = .ok (.iload_n 2, 1) := dk_28 (dk_at dksX3_begin_3 7 rfl rfl)
theorem dX3_begin_80 : decode cX3_begin 80 = .ok (.iconst (-1), 1) := dk_2 (dk_at dksX3_begin_3 8 rfl rfl)
theorem dX3_begin_81 : decode cX3_begin 81 = .ok (.iastore, 1) := dk_79 (dk_at dksX3_begin_3 9 rfl rfl)
theorem dX3_begin_82 : decode cX3_begin 82 = .ok (.aload_n 0, 1) := dk_42 (dk_at dksX3_begin_3 10 rfl rfl)
theorem dX3_begin_83 : decode cX3_begin 83 = .ok (.getfield 27, 3) := dk_180 0 27 (dk_at dksX3_begin_3 11 rfl rfl)
theorem dX3_begin_86 : decode cX3_begin 86 = .ok (.iload_n 2, 1) := dk_28 (dk_at dksX3_begin_3 14 rfl rfl)
theorem dX3_begin_87 : decode cX3_begin 87 = .ok (.iconst (-1), 1) := dk_2 (dk_at dksX3_begin_3 15 rfl rfl)
theorem dX3_begin_88 : decode cX3_begin 88 = .ok (.iastore, 1) := dk_79 (dk_at dksX3_begin_3 16 rfl rfl)
theorem dX3_begin_89 : decode cX3_begin 89 = .ok (.aload_n 0, 1) := dk_42 (dk_at dksX3_begin_3 17 rfl rfl)
theorem dX3_begin_90 : decode cX3_begin 90 = .ok (.getfield 30, 3) := dk_180 0 30 (dk_at dksX3_begin_3 18 rfl rfl)
theorem dX3_begin_93 : decode cX3_begin 93 = .ok (.iload_n 2, 1) := dk_28 (dk_at dksX3_begin_3 21 rfl rfl)
theorem dX3_begin_94 : decode cX3_begin 94 = .ok (.iconst (-1), 1) := dk_2 (dk_at dksX3_begin_3 22 rfl rfl)
theorem dX3_begin_95 : decode cX3_begin 95 = .ok (.iastore, 1) := dk_79 (dk_at dksX3_begin_3 23 rfl rfl)
theorem dX3_begin_96 : decode cX3_begin 96 = .ok (.aload_n 0, 1) := dk_42 (dk_at dksX3_begin_4 0 rfl rfl)
theorem dX3_begin_97 : decode cX3_begin 97 = .ok (.getfield 33, 3) := dk_180 0 33 (dk_at dksX3_begin_4 1 rfl rfl)
theorem dX3_begin_100 : decode cX3_begin 100 = .ok (.iload_n 2, 1) := dk_28 (dk_at dksX3_begin_4 4 rfl rfl)
theorem dX3_begin_101 : decode cX3_begin 101 = .ok (.iconst (-1), 1) := dk_2 (dk_at dksX3_begin_4 5 rfl rfl)
theorem dX3_begin_102 : decode cX3_begin 102 = .ok (.iastore, 1) := dk_79 (dk_at dksX3_begin_4 6 rfl rfl)
theorem dX3_begin_103 : decode cX3_begin 103 = .ok (.aload_n 0, 1) := dk_42 (dk_at dksX3_begin_4 7 rfl rfl)
theorem dX3_begin_104 : decode cX3_begin 104 = .ok (.getfield 36, 3) := dk_180 0 36 (dk_at dksX3_begin_4 8 rfl rfl)
theorem dX3_begin_107 : decode cX3_begin 107 = .ok (.iload_n 2, 1) := dk_28 (dk_at dksX3_begin_4 11 rfl rfl)
theorem dX3_begin_108 : decode cX3_begin 108 = .ok (.iconst 0, 1) := dk_3 (dk_at dksX3_begin_4 12 rfl rfl)
theorem dX3_begin_109 : decode cX3_begin 109 = .ok (.iastore, 1) := dk_79 (dk_at dksX3_begin_4 13 rfl rfl)
theorem dX3_begin_110 : decode cX3_begin 110 = .ok (.aload_n 0, 1) := dk_42 (dk_at dksX3_begin_4 14 rfl rfl)
theorem dX3_begin_111 : decode cX3_begin 111 = .ok (.getfield 39, 3) := dk_180 0 39 (dk_at dksX3_begin_4 15 rfl rfl)
theorem dX3_begin_114 : decode cX3_begin 114 = .ok (.iload_n 2, 1) := dk_28 (dk_at dksX3_begin_4 18 rfl rfl)
theorem dX3_begin_115 : decode cX3_begin 115 = .ok (.iconst 0, 1) := dk_3 (dk_at dksX3_begin_4 19 rfl rfl)
theorem dX3_begin_116 : decode cX3_begin 116 = .ok (.iastore, 1) := dk_79 (dk_at dksX3_begin_4 20 rfl rfl)
theorem dX3_begin_117 : decode cX3_begin 117 = .ok (.aload_n 0, 1) := dk_42 (dk_at dksX3_begin_4 21 rfl rfl)
theorem dX3_begin_118 : decode cX3_begin 118 = .ok (.getfield 42, 3) := dk_180 0 42 (dk_at dksX3_begin_5 0 rfl rfl)
theorem dX3_begin_121 : decode cX3_begin 121 = .ok (.iload_n 2, 1) := dk_28 (dk_at dksX3_begin_5 3 rfl rfl)
theorem dX3_begin_122 : decode cX3_begin 122 = .ok (.iconst (-1), 1) := dk_2 (dk_at dksX3_begin_5 4 rfl rfl)
theorem dX3_begin_123 : decode cX3_begin 123 = .ok (.iastore, 1) := dk_79 (dk_at dksX3_begin_5 5 rfl rfl)
theorem dX3_begin_124 : decode cX3_begin 124 = .ok (.aload_n 0, 1) := dk_42 (dk_at dksX3_begin_5 6 rfl rfl)
theorem dX3_begin_125 : decode cX3_begin 125 = .ok (.getfield 45, 3) := dk_180 0 45 (dk_at dksX3_begin_5 7 rfl rfl)
theorem dX3_begin_128 : decode cX3_begin 128 = .ok (.iload_n 2, 1) := dk_28 (dk_at dksX3_begin_5 10 rfl rfl)
theorem dX3_begin_129 : decode cX3_begin 129 = .ok (.iconst 0, 1) := dk_3 (dk_at dksX3_begin_5 11 rfl rfl)
theorem dX3_begin_130 : decode cX3_begin 130 = .ok (.bastore, 1) := dk_84 (dk_at dksX3_begin_5 12 rfl rfl)
theorem dX3_begin_131 : decode cX3_begin 131 = .ok (.iinc 2 1, 3) := dk_132 2 1 (dk_at dksX3_begin_5 13 rfl rfl)
theorem dX3_begin_134 : decode cX3_begin 134 = .ok (.goto (-95), 3) := dk_167 255 161 (dk_at dksX3_begin_5 16 rfl rfl)
theorem dX3_begin_137 : decode cX3_begin 137 = .ok (.iconst 0, 1) := dk_3 (dk_at dksX3_begin_5 19 rfl rfl)
theorem dX3_begin_138 : decode cX3_begin 138 = .ok (.istore_n 2, 1) := dk_61 (dk_at dksX3_begin_5 20 rfl rfl)
theorem dX3_begin_139 : decode cX3_begin 139 = .ok (.iload_n 2, 1) := dk_28 (dk_at dksX3_begin_5 21 rfl rfl)
theorem dX3_begin_140 : decode cX3_begin 140 = .ok (.iconst 3, 1) := dk_6 (dk_at dksX3_begin_5 22 rfl rfl)
theorem dX3_begin_141 : decode cX3_begin 141 = .ok (.if_icmp .ge 30, 3) := dk_162 0 30 (dk_at dksX3_begin_6 0 rfl rfl)
theorem dX3_begin_144 : decode cX3_begin 144 = .ok (.aload_n 0, 1) := dk_42 (dk_at dksX3_begin_6 3 rfl rfl)
theorem dX3_begin_145 : decode cX3_begin 145 = .ok (.getfield 49, 3) := dk_180 0 49 (dk_at dksX3_begin_6 4 rfl rfl)
theorem dX3_begin_148 : decode cX3_begin 148 = .ok (.iload_n 2, 1) := dk_28 (dk_at dksX3_begin_6 7 rfl rfl)
theorem dX3_begin_149 : decode cX3_begin 149 = .ok (.iconst (-1), 1) := dk_2 (dk_at dksX3_begin_6 8 rfl rfl)
theorem dX3_begin_150 : decode cX3_begin 150 = .ok (.iastore, 1) := dk_79 (dk_at dksX3_begin_6 9 rfl rfl)
theorem dX3_begin_151 : decode cX3_begin 151 = .ok (.aload_n 0, 1) := dk_42 (dk_at dksX3_begin_6 10 rfl rfl)
theorem dX3_begin_152 : decode cX3_begin 152 = .ok (.getfield 55, 3) := dk_180 0 55 (dk_at dksX3_begin_6 11 rfl rfl)
theorem dX3_begin_155 : decode cX3_begin 155 = .ok (.iload_n 2, 1) := dk_28 (dk_at dksX3_begin_6 14 rfl rfl)
theorem dX3_begin_156 : decode cX3_begin 156 = .ok (.iconst (-1), 1) := dk_2 (dk_at dksX3_begin_6 15 rfl rfl)
theorem dX3_begin_157 : decode cX3_begin 157 = .ok (.iastore, 1) := dk_79 (dk_at dksX3_begin_6 16 rfl rfl)
theorem dX3_begin_158 : decode cX3_begin 158 = .ok (.aload_n 0, 1) := dk_42 (dk_at dksX3_begin_6 17 rfl rfl)
theorem dX3_begin_159 : decode cX3_begin 159 = .ok (.getfield 58, 3) := dk_180 0 58 (dk_at dksX3_begin_6 18 rfl rfl)
theorem dX3_begin_162 : decode cX3_begin 162 = .ok (.iload_n 2, 1) := dk_28 (dk_at dksX3_begin_6 21 rfl rfl)
theorem dX3_begin_163 : decode cX3_begin 163 = .ok (.iconst 0, 1) := dk_3 (dk_at dksX3_begin_6 22 rfl rfl)
theorem dX3_begin_164 : decode cX3_begin 164 = .ok (.iastore, 1) := dk_79 (dk_at dksX3_begin_6 23 rfl rfl)
theorem dX3_begin_165 : decode cX3_begin 165 = .ok (.iinc 2 1, 3) := dk_132 2 1 (dk_at dksX3_begin_7 0 rfl rfl)
theorem dX3_begin_168 : decode cX3_begin 168 = .ok (.goto (-29), 3) := dk_167 255 227 (dk_at dksX3_begin_7 3 rfl rfl)
theorem dX3_begin_171 : decode cX3_begin 171 = .ok (.iconst 0, 1) := dk_3 (dk_at dksX3_begin_7 6 rfl rfl)
theorem dX3_begin_172 : decode cX3_begin 172 = .ok (.istore_n 2, 1) := dk_61 (dk_at dksX3_begin_7 7 rfl rfl)
theorem dX3_begin_173 : decode cX3_begin 173 = .ok (.iload_n 2, 1) := dk_28 (dk_at dksX3_begin_7 8 rfl rfl)
theorem dX3_begin_174 : decode cX3_begin 174 = .ok (.iconst 4, 1) := dk_7 (dk_at dksX3_begin_7 9 rfl rfl)
theorem dX3_begin_175 : decode cX3_begin 175 = .ok (.if_icmp .ge 32, 3) := dk_162 0 32 (dk_at dksX3_begin_7 10 rfl rfl)
theorem dX3_begin_178 : decode cX3_begin 178 = .ok (.aload_n 0, 1) := dk_42 (dk_at dksX3_begin_7 13 rfl rfl)
theorem dX3_begin_179 : decode cX3_begin 179 = .ok (.getfield 61, 3) := dk_180 0 61 (dk_at dksX3_begin_7 14 rfl rfl)
theorem dX3_begin_182 : decode cX3_begin 182 = .ok (.iload_n 2, 1) := dk_28 (dk_at dksX3_begin_7 17 rfl rfl)
theorem dX3_begin_183 : decode cX3_begin 183 = .ok (.iconst (-1), 1) := dk_2 (dk_at dksX3_begin_7 18 rfl rfl)
theorem dX3_begin_184 : decode cX3_begin 184 = .ok (.iastore, 1) := dk_79 (dk_at dksX3_begin_7 19 rfl rfl)
theorem dX3_begin_185 : decode cX3_begin 185 = .ok (.aload_n 0, 1) := dk_42 (dk_at dksX3_begin_7 20 rfl rfl)
theorem dX3_begin_186 : decode cX3_begin 186 = .ok (.getfield 64, 3) := dk_180 0 64 (dk_at dksX3_begin_7 21 rfl rfl)
theorem dX3_begin_189 : decode cX3_begin 189 = .ok (.iload_n 2, 1) := dk_28 (dk_at dksX3_begin_8 0 rfl rfl)
theorem dX3_begin_190 : decode cX3_begin 190 = .ok (.sipush 200, 3) := dk_17 0 200 (dk_at dksX3_begin_8 1 rfl rfl)
theorem dX3_begin_193 : decode cX3_begin 193 = .ok (.iastore, 1) := dk_79 (dk_at dksX3_begin_8 4 rfl rfl)
theorem dX3_begin_194 : decode cX3_begin 194 = .ok (.aload_n 0, 1) := dk_42 (dk_at dksX3_begin_8 5 rfl rfl)
theorem dX3_begin_195 : decode cX3_begin 195 = .ok (.getfield 67, 3) := dk_180 0 67 (dk_at dksX3_begin_8 6 rfl rfl)
theorem dX3_begin_198 : decode cX3_begin 198 = .ok (.iload_n 2, 1) := dk_28 (dk_at dksX3_begin_8 9 rfl rfl)
theorem dX3_begin_199 : decode cX3_begin 199 = .ok (.iconst 0, 1) := dk_3 (dk_at dksX3_begin_8 10 rfl rfl)
theorem dX3_begin_200 : decode cX3_begin 200 = .ok (.iastore, 1) := dk_79 (dk_at dksX3_begin_8 11 rfl rfl)
theorem dX3_begin_201 : decode cX3_begin 201 = .ok (.iinc 2 1, 3) := dk_132 2 1 (dk_at dksX3_begin_8 12 rfl rfl)
theorem dX3_begin_204 : decode cX3_begin 204 = .ok (.goto (-31), 3) := dk_167 255 225 (dk_at dksX3_begin_8 15 rfl rfl)
theorem dX3_begin_207 : decode cX3_begin 207 = .ok (.return_, 1) := dk_177 (dk_at dksX3_begin_8 18 rfl rfl)
abbrev cX3_isOver : ByteArray := prog_6_method_5_code
def yX3_isOver : MethodName := ⟨RX3, "isOver", "()Z"⟩
def dkwX3_isOver_1 : List UInt8 := [132, 1, 1, 167, 255, 233, 4, 172]
abbrev dktX3_isOver_1 : List UInt8 := dkwX3_isOver_1 ++ []
def dkwX3_isOver_0 : List UInt8 := [3, 60, 27, 42, 180, 0, 99, 162, 0, 21, 42, 180, 0, 9, 27, 46, 7, 162, 0, 5, 3, 172]
abbrev dktX3_isOver_0 : List UInt8 := dkwX3_isOver_0 ++ dktX3_isOver_1
theorem dksX3_isOver_0 : cX3_isOver.data.toList.drop 0 = dktX3_isOver_0 := by decide +kernel
theorem dksX3_isOver_1 : cX3_isOver.data.toList.drop 22 = dktX3_isOver_1 := dk_seg dksX3_isOver_0 22 rfl rfl
theorem dX3_isOver_0 : decode cX3_isOver 0 = .ok (.iconst 0, 1) := dk_3 (dk_at dksX3_isOver_0 0 rfl rfl)
theorem dX3_isOver_1 : decode cX3_isOver 1 = .ok (.istore_n 1, 1) := dk_60 (dk_at dksX3_isOver_0 1 rfl rfl)
theorem dX3_isOver_2 : decode cX3_isOver 2 = .ok (.iload_n 1, 1) := dk_27 (dk_at dksX3_isOver_0 2 rfl rfl)
theorem dX3_isOver_3 : decode cX3_isOver 3 = .ok (.aload_n 0, 1) := dk_42 (dk_at dksX3_isOver_0 3 rfl rfl)
theorem dX3_isOver_4 : decode cX3_isOver 4 = .ok (.getfield 99, 3) := dk_180 0 99 (dk_at dksX3_isOver_0 4 rfl rfl)
theorem dX3_isOver_7 : decode cX3_isOver 7 = .ok (.if_icmp .ge 21, 3) := dk_162 0 21 (dk_at dksX3_isOver_0 7 rfl rfl)
theorem dX3_isOver_10 : decode cX3_isOver 10 = .ok (.aload_n 0, 1) := dk_42 (dk_at dksX3_isOver_0 10 rfl rfl)
theorem dX3_isOver_11 : decode cX3_isOver 11 = .ok (.getfield 9, 3) := dk_180 0 9 (dk_at dksX3_isOver_0 11 rfl rfl)
theorem dX3_isOver_14 : decode cX3_isOver 14 = .ok (.iload_n 1, 1) := dk_27 (dk_at dksX3_isOver_0 14 rfl rfl)
theorem dX3_isOver_15 : decode cX3_isOver 15 = .ok (.iaload, 1) := dk_46 (dk_at dksX3_isOver_0 15 rfl rfl)
theorem dX3_isOver_16 : decode cX3_isOver 16 = .ok (.iconst 4, 1) := dk_7 (dk_at dksX3_isOver_0 16 rfl rfl)
theorem dX3_isOver_17 : decode cX3_isOver 17 = .ok (.if_icmp .ge 5, 3) := dk_162 0 5 (dk_at dksX3_isOver_0 17 rfl rfl)
theorem dX3_isOver_20 : decode cX3_isOver 20 = .ok (.iconst 0, 1) := dk_3 (dk_at dksX3_isOver_0 20 rfl rfl)
theorem dX3_isOver_21 : decode cX3_isOver 21 = .ok (.ireturn, 1) := dk_172 (dk_at dksX3_isOver_0 21 rfl rfl)
theorem dX3_isOver_22 : decode cX3_isOver 22 = .ok (.iinc 1 1, 3) := dk_132 1 1 (dk_at dksX3_isOver_1 0 rfl rfl)
theorem dX3_isOver_25 : decode cX3_isOver 25 = .ok (.goto (-23), 3) := dk_167 255 233 (dk_at dksX3_isOver_1 3 rfl rfl)
theorem dX3_isOver_28 : decode cX3_isOver 28 = .ok (.iconst 1, 1) := dk_4 (dk_at dksX3_isOver_1 6 rfl rfl)
theorem dX3_isOver_29 : decode cX3_isOver 29 = .ok (.ireturn, 1) := dk_172 (dk_at dksX3_isOver_1 7 rfl rfl)
abbrev cX3_minute : ByteArray := prog_6_method_6_code
def yX3_minute : MethodName := ⟨RX3, "minute", "(I)V"⟩
def dkwX3_minute_1 : List UInt8 := [27, 182, 0, 160, 42, 182, 0, 163, 177]
abbrev dktX3_minute_1 : List UInt8 := dkwX3_minute_1 ++ []
def dkwX3_minute_0 : List UInt8 := [42, 27, 182, 0, 145, 42, 27, 182, 0, 148, 42, 182, 0, 151, 42, 27, 182, 0, 154, 42, 182, 0, 157, 42]
abbrev dktX3_minute_0 : List UInt8 := dkwX3_minute_0 ++ dktX3_minute_1
theorem dksX3_minute_0 : cX3_minute.data.toList.drop 0 = dktX3_minute_0 := by decide +kernel
theorem dksX3_minute_1 : cX3_minute.data.toList.drop 24 = dktX3_minute_1 := dk_seg dksX3_minute_0 24 rfl rfl
theorem dX3_minute_0 : decode cX3_minute 0 = .ok (.aload_n 0, 1) := dk_42 (dk_at dksX3_minute_0 0 rfl rfl)
theorem dX3_minute_1 : decode cX3_minute 1 = .ok (.iload_n 1, 1) := dk_27 (dk_at dksX3_minute_0 1 rfl rfl)
theorem dX3_minute_2 : decode cX3_minute 2 = .ok (.invokevirtual 145, 3) := dk_182 0 145 (dk_at dksX3_minute_0 2 rfl rfl)
theorem dX3_minute_5 : decode cX3_minute 5 = .ok (.aload_n 0, 1) := dk_42 (dk_at dksX3_minute_0 5 rfl rfl)
theorem dX3_minute_6 : decode cX3_minute 6 = .ok (.iload_n 1, 1) := dk_27 (dk_at dksX3_minute_0 6 rfl rfl)
theorem dX3_minute_7 : decode cX3_minute 7 = .ok (.invokevirtual 148, 3) := dk_182 0 148 (dk_at dksX3_minute_0 7 rfl rfl)
theorem dX3_minute_10 : decode cX3_minute 10 = .ok (.aload_n 0, 1) := dk_42 (dk_at dksX3_minute_0 10 rfl rfl)
theorem dX3_minute_11 : decode cX3_minute 11 = .ok (.invokevirtual 151, 3) := dk_182 0 151 (dk_at dksX3_minute_0 11 rfl rfl)
theorem dX3_minute_14 : decode cX3_minute 14 = .ok (.aload_n 0, 1) := dk_42 (dk_at dksX3_minute_0 14 rfl rfl)
theorem dX3_minute_15 : decode cX3_minute 15 = .ok (.iload_n 1, 1) := dk_27 (dk_at dksX3_minute_0 15 rfl rfl)
theorem dX3_minute_16 : decode cX3_minute 16 = .ok (.invokevirtual 154, 3) := dk_182 0 154 (dk_at dksX3_minute_0 16 rfl rfl)
theorem dX3_minute_19 : decode cX3_minute 19 = .ok (.aload_n 0, 1) := dk_42 (dk_at dksX3_minute_0 19 rfl rfl)
theorem dX3_minute_20 : decode cX3_minute 20 = .ok (.invokevirtual 157, 3) := dk_182 0 157 (dk_at dksX3_minute_0 20 rfl rfl)
theorem dX3_minute_23 : decode cX3_minute 23 = .ok (.aload_n 0, 1) := dk_42 (dk_at dksX3_minute_0 23 rfl rfl)
theorem dX3_minute_24 : decode cX3_minute 24 = .ok (.iload_n 1, 1) := dk_27 (dk_at dksX3_minute_1 0 rfl rfl)
theorem dX3_minute_25 : decode cX3_minute 25 = .ok (.invokevirtual 160, 3) := dk_182 0 160 (dk_at dksX3_minute_1 1 rfl rfl)
theorem dX3_minute_28 : decode cX3_minute 28 = .ok (.aload_n 0, 1) := dk_42 (dk_at dksX3_minute_1 4 rfl rfl)
theorem dX3_minute_29 : decode cX3_minute 29 = .ok (.invokevirtual 163, 3) := dk_182 0 163 (dk_at dksX3_minute_1 5 rfl rfl)
theorem dX3_minute_32 : decode cX3_minute 32 = .ok (.return_, 1) := dk_177 (dk_at dksX3_minute_1 8 rfl rfl)
abbrev cX3_end : ByteArray := prog_6_method_10_code
def yX3_end : MethodName := ⟨RX3, "end", "(I)V"⟩
def dkwX3_end_6 : List UInt8 := [46, 27, 79, 42, 180, 0, 61, 28, 2, 79, 132, 2, 1, 167, 255, 173, 177]
abbrev dktX3_end_6 : List UInt8 := dkwX3_end_6 ++ []
def dkwX3_end_5 : List UInt8 := [160, 0, 34, 42, 180, 0, 9, 42, 180, 0, 61, 28, 46, 7, 79, 42, 180, 0, 30, 42, 180, 0, 61, 28]
abbrev dktX3_end_5 : List UInt8 := dkwX3_end_5 ++ dktX3_end_6
def dkwX3_end_4 : List UInt8 := [180, 0, 61, 28, 46, 46, 42, 180, 0, 70, 42, 180, 0, 61, 28, 46, 182, 0, 169, 180, 0, 188, 96, 27]
abbrev dktX3_end_4 : List UInt8 := dkwX3_end_4 ++ dktX3_end_5
def dkwX3_end_3 : List UInt8 := [3, 61, 28, 42, 4, 182, 0, 132, 162, 0, 80, 42, 28, 182, 0, 184, 153, 0, 66, 42, 180, 0, 27, 42]
abbrev dktX3_end_3 : List UInt8 := dkwX3_end_3 ++ dktX3_end_4
def dkwX3_end_2 : List UInt8 := [180, 0, 21, 42, 180, 0, 49, 28, 46, 27, 79, 42, 180, 0, 49, 28, 2, 79, 132, 2, 1, 167, 255, 193]
abbrev dktX3_end_2 : List UInt8 := dkwX3_end_2 ++ dktX3_end_3
def dkwX3_end_1 : List UInt8 := [180, 0, 52, 28, 46, 27, 160, 0, 34, 42, 180, 0, 9, 42, 180, 0, 49, 28, 46, 5, 79, 42]
abbrev dktX3_end_1 : List UInt8 := dkwX3_end_1 ++ dktX3_end_2
def dkwX3_end_0 : List UInt8 := [3, 61, 28, 42, 3, 182, 0, 132, 162, 0, 60, 42, 180, 0, 49, 28, 46, 2, 159, 0, 44, 42]
abbrev dktX3_end_0 : List UInt8 := dkwX3_end_0 ++ dktX3_end_1
theorem dksX3_end_0 : cX3_end.data.toList.drop 0 = dktX3_end_0 := by decide +kernel
theorem dksX3_end_1 : cX3_end.data.toList.drop 22 = dktX3_end_1 := dk_seg dksX3_end_0 22 rfl rfl
theorem dksX3_end_2 : cX3_end.data.toList.drop 44 = dktX3_end_2 := dk_seg dksX3_end_1 22 rfl rfl
theorem dksX3_end_3 : cX3_end.data.toList.drop 68 = dktX3_end_3 := dk_seg dksX3_end_2 24 rfl rfl
theorem dksX3_end_4 : cX3_end.data.toList.drop 92 = dktX3_end_4 := dk_seg dksX3_end_3 24 rfl rfl
theorem dksX3_end_5 : cX3_end.data.toList.drop 116 = dktX3_end_5 := dk_seg dksX3_end_4 24 rfl rfl
theorem dksX3_end_6 : cX3_end.data.toList.drop 140 = dktX3_end_6 := dk_seg dksX3_end_5 24 rfl rfl
theorem dX3_end_0 : decode cX3_end 0 = .ok (.iconst 0, 1) := dk_3 (dk_at dksX3_end_0 0 rfl rfl)
theorem dX3_end_1 : decode cX3_end 1 = .ok (.istore_n 2, 1) := dk_61 (dk_at dksX3_end_0 1 rfl rfl)
theorem dX3_end_2 : decode cX3_end 2 = .ok (.iload_n 2, 1) := dk_28 (dk_at dksX3_end_0 2 rfl rfl)
theorem dX3_end_3 : decode cX3_end 3 = .ok (.aload_n 0, 1) := dk_42 (dk_at dksX3_end_0 3 rfl rfl)
theorem dX3_end_4 : decode cX3_end 4 = .ok (.iconst 0, 1) := dk_3 (dk_at dksX3_end_0 4 rfl rfl)
theorem dX3_end_5 : decode cX3_end 5 = .ok (.invokevirtual 132, 3) := dk_182 0 132 (dk_at dksX3_end_0 5 rfl rfl)
theorem dX3_end_8 : decode cX3_end 8 = .ok (.if_icmp .ge 60, 3) := dk_162 0 60 (dk_at dksX3_end_0 8 rfl rfl)
theorem dX3_end_11 : decode cX3_end 11 = .ok (.aload_n 0, 1) := dk_42 (dk_at dksX3_end_0 11 rfl rfl)
theorem dX3_end_12 : decode cX3_end 12 = .ok (.getfield 49, 3) := dk_180 0 49 (dk_at dksX3_end_0 12 rfl rfl)
theorem dX3_end_15 : decode cX3_end 15 = .ok (.iload_n 2, 1) := dk_28 (dk_at dksX3_end_0 15 rfl rfl)
theorem dX3_end_16 : decode cX3_end 16 = .ok (.iaload, 1) := dk_46 (dk_at dksX3_end_0 16 rfl rfl)
theorem dX3_end_17 : decode cX3_end 17 = .ok (.iconst (-1), 1) := dk_2 (dk_at dksX3_end_0 17 rfl rfl)
theorem dX3_end_18 : decode cX3_end 18 = .ok (.if_icmp .eq 44, 3) := dk_159 0 44 (dk_at dksX3_end_0 18 rfl rfl)
theorem dX3_end_21 : decode cX3_end 21 = .ok (.aload_n 0, 1) := dk_42 (dk_at dksX3_end_0 21 rfl rfl)
theorem dX3_end_22 : decode cX3_end 22 = .ok (.getfield 52, 3) := dk_180 0 52 (dk_at dksX3_end_1 0 rfl rfl)
theorem dX3_end_25 : decode cX3_end 25 = .ok (.iload_n 2, 1) := dk_28 (dk_at dksX3_end_1 3 rfl rfl)
theorem dX3_end_26 : decode cX3_end 26 = .ok (.iaload, 1) := dk_46 (dk_at dksX3_end_1 4 rfl rfl)
theorem dX3_end_27 : decode cX3_end 27 = .ok (.iload_n 1, 1) := dk_27 (dk_at dksX3_end_1 5 rfl rfl)
theorem dX3_end_28 : decode cX3_end 28 = .ok (.if_icmp .ne 34, 3) := dk_160 0 34 (dk_at dksX3_end_1 6 rfl rfl)
theorem dX3_end_31 : decode cX3_end 31 = .ok (.aload_n 0, 1) := dk_42 (dk_at dksX3_end_1 9 rfl rfl)
theorem dX3_end_32 : decode cX3_end 32 = .ok (.getfield 9, 3) := dk_180 0 9 (dk_at dksX3_end_1 10 rfl rfl)
theorem dX3_end_35 : decode cX3_end 35 = .ok (.aload_n 0, 1) := dk_42 (dk_at dksX3_end_1 13 rfl rfl)
theorem dX3_end_36 : decode cX3_end 36 = .ok (.getfield 49, 3) := dk_180 0 49 (dk_at dksX3_end_1 14 rfl rfl)
theorem dX3_end_39 : decode cX3_end 39 = .ok (.iload_n 2, 1) := dk_28 (dk_at dksX3_end_1 17 rfl rfl)
theorem dX3_end_40 : decode cX3_end 40 = .ok (.iaload, 1) := dk_46 (dk_at dksX3_end_1 18 rfl rfl)
theorem dX3_end_41 : decode cX3_end 41 = .ok (.iconst 2, 1) := dk_5 (dk_at dksX3_end_1 19 rfl rfl)
theorem dX3_end_42 : decode cX3_end 42 = .ok (.iastore, 1) := dk_79 (dk_at dksX3_end_1 20 rfl rfl)
theorem dX3_end_43 : decode cX3_end 43 = .ok (.aload_n 0, 1) := dk_42 (dk_at dksX3_end_1 21 rfl rfl)
theorem dX3_end_44 : decode cX3_end 44 = .ok (.getfield 21, 3) := dk_180 0 21 (dk_at dksX3_end_2 0 rfl rfl)
theorem dX3_end_47 : decode cX3_end 47 = .ok (.aload_n 0, 1) := dk_42 (dk_at dksX3_end_2 3 rfl rfl)
theorem dX3_end_48 : decode cX3_end 48 = .ok (.getfield 49, 3) := dk_180 0 49 (dk_at dksX3_end_2 4 rfl rfl)
theorem dX3_end_51 : decode cX3_end 51 = .ok (.iload_n 2, 1) := dk_28 (dk_at dksX3_end_2 7 rfl rfl)
theorem dX3_end_52 : decode cX3_end 52 = .ok (.iaload, 1) := dk_46 (dk_at dksX3_end_2 8 rfl rfl)
theorem dX3_end_53 : decode cX3_end 53 = .ok (.iload_n 1, 1) := dk_27 (dk_at dksX3_end_2 9 rfl rfl)
theorem dX3_end_54 : decode cX3_end 54 = .ok (.iastore, 1) := dk_79 (dk_at dksX3_end_2 10 rfl rfl)
theorem dX3_end_55 : decode cX3_end 55 = .ok (.aload_n 0, 1) := dk_42 (dk_at dksX3_end_2 11 rfl rfl)
theorem dX3_end_56 : decode cX3_end 56 = .ok (.getfield 49, 3) := dk_180 0 49 (dk_at dksX3_end_2 12 rfl rfl)
theorem dX3_end_59 : decode cX3_end 59 = .ok (.iload_n 2, 1) := dk_28 (dk_at dksX3_end_2 15 rfl rfl)
theorem dX3_end_60 : decode cX3_end 60 = .ok (.iconst (-1), 1) := dk_2 (dk_at dksX3_end_2 16 rfl rfl)
theorem dX3_end_61 : decode cX3_end 61 = .ok (.iastore, 1) := dk_79 (dk_at dksX3_end_2 17 rfl rfl)
theorem dX3_end_62 : decode cX3_end 62 = .ok (.iinc 2 1, 3) := dk_132 2 1 (dk_at dksX3_end_2 18 rfl rfl)
theorem dX3_end_65 : decode cX3_end 65 = .ok (.goto (-63), 3) := dk_167 255 193 (dk_at dksX3_end_2 21 rfl rfl)
theorem dX3_end_68 : decode cX3_end 68 = .ok (.iconst 0, 1) := dk_3 (dk_at dksX3_end_3 0 rfl rfl)
theorem dX3_end_69 : decode cX3_end 69 = .ok (.istore_n 2, 1) := dk_61 (dk_at dksX3_end_3 1 rfl rfl)
theorem dX3_end_70 : decode cX3_end 70 = .ok (.iload_n 2, 1) := dk_28 (dk_at dksX3_end_3 2 rfl rfl)
theorem dX3_end_71 : decode cX3_end 71 = .ok (.aload_n 0, 1) := dk_42 (dk_at dksX3_end_3 3 rfl rfl)
theorem dX3_end_72 : decode cX3_end 72 = .ok (.iconst 1, 1) := dk_4 (dk_at dksX3_end_3 4 rfl rfl)
theorem dX3_end_73 : decode cX3_end 73 = .ok (.invokevirtual 132, 3) := dk_182 0 132 (dk_at dksX3_end_3 5 rfl rfl)
theorem dX3_end_76 : decode cX3_end 76 = .ok (.if_icmp .ge 80, 3) := dk_162 0 80 (dk_at dksX3_end_3 8 rfl rfl)
theorem dX3_end_79 : decode cX3_end 79 = .ok (.aload_n 0, 1) := dk_42 (dk_at dksX3_end_3 11 rfl rfl)
theorem dX3_end_80 : decode cX3_end 80 = .ok (.iload_n 2, 1) := dk_28 (dk_at dksX3_end_3 12 rfl rfl)
theorem dX3_end_81 : decode cX3_end 81 = .ok (.invokevirtual 184, 3) := dk_182 0 184 (dk_at dksX3_end_3 13 rfl rfl)
theorem dX3_end_84 : decode cX3_end 84 = .ok (.ifCond .eq 66, 3) := dk_153 0 66 (dk_at dksX3_end_3 16 rfl rfl)
theorem dX3_end_87 : decode cX3_end 87 = .ok (.aload_n 0, 1) := dk_42 (dk_at dksX3_end_3 19 rfl rfl)
theorem dX3_end_88 : decode cX3_end 88 = .ok (.getfield 27, 3) := dk_180 0 27 (dk_at dksX3_end_3 20 rfl rfl)
theorem dX3_end_91 : decode cX3_end 91 = .ok (.aload_n 0, 1) := dk_42 (dk_at dksX3_end_3 23 rfl rfl)
theorem dX3_end_92 : decode cX3_end 92 = .ok (.getfield 61, 3) := dk_180 0 61 (dk_at dksX3_end_4 0 rfl rfl)
theorem dX3_end_95 : decode cX3_end 95 = .ok (.iload_n 2, 1) := dk_28 (dk_at dksX3_end_4 3 rfl rfl)
theorem dX3_end_96 : decode cX3_end 96 = .ok (.iaload, 1) := dk_46 (dk_at dksX3_end_4 4 rfl rfl)
theorem dX3_end_97 : decode cX3_end 97 = .ok (.iaload, 1) := dk_46 (dk_at dksX3_end_4 5 rfl rfl)
theorem dX3_end_98 : decode cX3_end 98 = .ok (.aload_n 0, 1) := dk_42 (dk_at dksX3_end_4 6 rfl rfl)
theorem dX3_end_99 : decode cX3_end 99 = .ok (.getfield 70, 3) := dk_180 0 70 (dk_at dksX3_end_4 7 rfl rfl)
theorem dX3_end_102 : decode cX3_end 102 = .ok (.aload_n 0, 1) := dk_42 (dk_at dksX3_end_4 10 rfl rfl)
theorem dX3_end_103 : decode cX3_end 103 = .ok (.getfield 61, 3) := dk_180 0 61 (dk_at dksX3_end_4 11 rfl rfl)
theorem dX3_end_106 : decode cX3_end 106 = .ok (.iload_n 2, 1) := dk_28 (dk_at dksX3_end_4 14 rfl rfl)
theorem dX3_end_107 : decode cX3_end 107 = .ok (.iaload, 1) := dk_46 (dk_at dksX3_end_4 15 rfl rfl)
theorem dX3_end_108 : decode cX3_end 108 = .ok (.invokevirtual 169, 3) := dk_182 0 169 (dk_at dksX3_end_4 16 rfl rfl)
theorem dX3_end_111 : decode cX3_end 111 = .ok (.getfield 188, 3) := dk_180 0 188 (dk_at dksX3_end_4 19 rfl rfl)
theorem dX3_end_114 : decode cX3_end 114 = .ok (.iadd, 1) := dk_96 (dk_at dksX3_end_4 22 rfl rfl)
theorem dX3_end_115 : decode cX3_end 115 = .ok (.iload_n 1, 1) := dk_27 (dk_at dksX3_end_4 23 rfl rfl)
theorem dX3_end_116 : decode cX3_end 116 = .ok (.if_icmp .ne 34, 3) := dk_160 0 34 (dk_at dksX3_end_5 0 rfl rfl)
theorem dX3_end_119 : decode cX3_end 119 = .ok (.aload_n 0, 1) := dk_42 (dk_at dksX3_end_5 3 rfl rfl)
theorem dX3_end_120 : decode cX3_end 120 = .ok (.getfield 9, 3) := dk_180 0 9 (dk_at dksX3_end_5 4 rfl rfl)
theorem dX3_end_123 : decode cX3_end 123 = .ok (.aload_n 0, 1) := dk_42 (dk_at dksX3_end_5 7 rfl rfl)
theorem dX3_end_124 : decode cX3_end 124 = .ok (.getfield 61, 3) := dk_180 0 61 (dk_at dksX3_end_5 8 rfl rfl)
theorem dX3_end_127 : decode cX3_end 127 = .ok (.iload_n 2, 1) := dk_28 (dk_at dksX3_end_5 11 rfl rfl)
theorem dX3_end_128 : decode cX3_end 128 = .ok (.iaload, 1) := dk_46 (dk_at dksX3_end_5 12 rfl rfl)
theorem dX3_end_129 : decode cX3_end 129 = .ok (.iconst 4, 1) := dk_7 (dk_at dksX3_end_5 13 rfl rfl)
theorem dX3_end_130 : decode cX3_end 130 = .ok (.iastore, 1) := dk_79 (dk_at dksX3_end_5 14 rfl rfl)
theorem dX3_end_131 : decode cX3_end 131 = .ok (.aload_n 0, 1) := dk_42 (dk_at dksX3_end_5 15 rfl rfl)
theorem dX3_end_132 : decode cX3_end 132 = .ok (.getfield 30, 3) := dk_180 0 30 (dk_at dksX3_end_5 16 rfl rfl)
theorem dX3_end_135 : decode cX3_end 135 = .ok (.aload_n 0, 1) := dk_42 (dk_at dksX3_end_5 19 rfl rfl)
theorem dX3_end_136 : decode cX3_end 136 = .ok (.getfield 61, 3) := dk_180 0 61 (dk_at dksX3_end_5 20 rfl rfl)
theorem dX3_end_139 : decode cX3_end 139 = .ok (.iload_n 2, 1) := dk_28 (dk_at dksX3_end_5 23 rfl rfl)
theorem dX3_end_140 : decode cX3_end 140 = .ok (.iaload, 1) := dk_46 (dk_at dksX3_end_6 0 rfl rfl)
theorem dX3_end_141 : decode cX3_end 141 = .ok (.iload_n 1, 1) := dk_27 (dk_at dksX3_end_6 1 rfl rfl)
theorem dX3_end_142 : decode cX3_end 142 = .ok (.iastore, 1) := dk_79 (dk_at dksX3_end_6 2 rfl rfl)
theorem dX3_end_143 : decode cX3_end 143 = .ok (.aload_n 0, 1) := dk_42 (dk_at dksX3_end_6 3 rfl rfl)
theorem dX3_end_144 : decode cX3_end 144 = .ok (.getfield 61, 3) := dk_180 0 61 (dk_at dksX3_end_6 4 rfl rfl)
theorem dX3_end_147 : decode cX3_end 147 = .ok (.iload_n 2, 1) := dk_28 (dk_at dksX3_end_6 7 rfl rfl)
theorem dX3_end_148 : decode cX3_end 148 = .ok (.iconst (-1), 1) := dk_2 (dk_at dksX3_end_6 8 rfl rfl)
theorem dX3_end_149 : decode cX3_end 149 = .ok (.iastore, 1) := dk_79 (dk_at dksX3_end_6 9 rfl rfl)
theorem dX3_end_150 : decode cX3_end 150 = .ok (.iinc 2 1, 3) := dk_132 2 1 (dk_at dksX3_end_6 10 rfl rfl)
theorem dX3_end_153 : decode cX3_end 153 = .ok (.goto (-83), 3) := dk_167 255 173 (dk_at dksX3_end_6 13 rfl rfl)
theorem dX3_end_156 : decode cX3_end 156 = .ok (.return_, 1) := dk_177 (dk_at dksX3_end_6 16 rfl rfl)
abbrev cX3_setting : ByteArray := prog_6_method_7_code
def yX3_setting : MethodName := ⟨RX3, "setting", "(I)I"⟩
def dkwX3_setting_0 : List UInt8 := [42, 180, 0, 70, 180, 0, 166, 27, 46, 172]
abbrev dktX3_setting_0 : List UInt8 := dkwX3_setting_0 ++ []
theorem dksX3_setting_0 : cX3_setting.data.toList.drop 0 = dktX3_setting_0 := by decide +kernel
theorem dX3_setting_0 : decode cX3_setting 0 = .ok (.aload_n 0, 1) := dk_42 (dk_at dksX3_setting_0 0 rfl rfl)
theorem dX3_setting_1 : decode cX3_setting 1 = .ok (.getfield 70, 3) := dk_180 0 70 (dk_at dksX3_setting_0 1 rfl rfl)
theorem dX3_setting_4 : decode cX3_setting 4 = .ok (.getfield 166, 3) := dk_180 0 166 (dk_at dksX3_setting_0 4 rfl rfl)
theorem dX3_setting_7 : decode cX3_setting 7 = .ok (.iload_n 1, 1) := dk_27 (dk_at dksX3_setting_0 7 rfl rfl)
theorem dX3_setting_8 : decode cX3_setting 8 = .ok (.iaload, 1) := dk_46 (dk_at dksX3_setting_0 8 rfl rfl)
theorem dX3_setting_9 : decode cX3_setting 9 = .ok (.ireturn, 1) := dk_172 (dk_at dksX3_setting_0 9 rfl rfl)
abbrev cX3_isBaking : ByteArray := prog_6_method_11_code
def yX3_isBaking : MethodName := ⟨RX3, "isBaking", "(I)Z"⟩
def dkwX3_isBaking_1 : List UInt8 := [160, 0, 7, 4, 167, 0, 4, 3, 172]
abbrev dktX3_isBaking_1 : List UInt8 := dkwX3_isBaking_1 ++ []
def dkwX3_isBaking_0 : List UInt8 := [42, 180, 0, 61, 27, 46, 2, 159, 0, 22, 42, 180, 0, 9, 42, 180, 0, 61, 27, 46, 46, 6]
abbrev dktX3_isBaking_0 : List UInt8 := dkwX3_isBaking_0 ++ dktX3_isBaking_1
theorem dksX3_isBaking_0 : cX3_isBaking.data.toList.drop 0 = dktX3_isBaking_0 := by decide +kernel
theorem dksX3_isBaking_1 : cX3_isBaking.data.toList.drop 22 = dktX3_isBaking_1 := dk_seg dksX3_isBaking_0 22 rfl rfl
theorem dX3_isBaking_0 : decode cX3_isBaking 0 = .ok (.aload_n 0, 1) := dk_42 (dk_at dksX3_isBaking_0 0 rfl rfl)
theorem dX3_isBaking_1 : decode cX3_isBaking 1 = .ok (.getfield 61, 3) := dk_180 0 61 (dk_at dksX3_isBaking_0 1 rfl rfl)
theorem dX3_isBaking_4 : decode cX3_isBaking 4 = .ok (.iload_n 1, 1) := dk_27 (dk_at dksX3_isBaking_0 4 rfl rfl)
theorem dX3_isBaking_5 : decode cX3_isBaking 5 = .ok (.iaload, 1) := dk_46 (dk_at dksX3_isBaking_0 5 rfl rfl)
theorem dX3_isBaking_6 : decode cX3_isBaking 6 = .ok (.iconst (-1), 1) := dk_2 (dk_at dksX3_isBaking_0 6 rfl rfl)
theorem dX3_isBaking_7 : decode cX3_isBaking 7 = .ok (.if_icmp .eq 22, 3) := dk_159 0 22 (dk_at dksX3_isBaking_0 7 rfl rfl)
theorem dX3_isBaking_10 : decode cX3_isBaking 10 = .ok (.aload_n 0, 1) := dk_42 (dk_at dksX3_isBaking_0 10 rfl rfl)
theorem dX3_isBaking_11 : decode cX3_isBaking 11 = .ok (.getfield 9, 3) := dk_180 0 9 (dk_at dksX3_isBaking_0 11 rfl rfl)
theorem dX3_isBaking_14 : decode cX3_isBaking 14 = .ok (.aload_n 0, 1) := dk_42 (dk_at dksX3_isBaking_0 14 rfl rfl)
theorem dX3_isBaking_15 : decode cX3_isBaking 15 = .ok (.getfield 61, 3) := dk_180 0 61 (dk_at dksX3_isBaking_0 15 rfl rfl)
theorem dX3_isBaking_18 : decode cX3_isBaking 18 = .ok (.iload_n 1, 1) := dk_27 (dk_at dksX3_isBaking_0 18 rfl rfl)
theorem dX3_isBaking_19 : decode cX3_isBaking 19 = .ok (.iaload, 1) := dk_46 (dk_at dksX3_isBaking_0 19 rfl rfl)
theorem dX3_isBaking_20 : decode cX3_isBaking 20 = .ok (.iaload, 1) := dk_46 (dk_at dksX3_isBaking_0 20 rfl rfl)
theorem dX3_isBaking_21 : decode cX3_isBaking 21 = .ok (.iconst 3, 1) := dk_6 (dk_at dksX3_isBaking_0 21 rfl rfl)
theorem dX3_isBaking_22 : decode cX3_isBaking 22 = .ok (.if_icmp .ne 7, 3) := dk_160 0 7 (dk_at dksX3_isBaking_1 0 rfl rfl)
theorem dX3_isBaking_25 : decode cX3_isBaking 25 = .ok (.iconst 1, 1) := dk_4 (dk_at dksX3_isBaking_1 3 rfl rfl)
theorem dX3_isBaking_26 : decode cX3_isBaking 26 = .ok (.goto 4, 3) := dk_167 0 4 (dk_at dksX3_isBaking_1 4 rfl rfl)
theorem dX3_isBaking_29 : decode cX3_isBaking 29 = .ok (.iconst 0, 1) := dk_3 (dk_at dksX3_isBaking_1 7 rfl rfl)
theorem dX3_isBaking_30 : decode cX3_isBaking 30 = .ok (.ireturn, 1) := dk_172 (dk_at dksX3_isBaking_1 8 rfl rfl)
abbrev cX3_spoil : ByteArray := prog_6_method_12_code
def yX3_spoil : MethodName := ⟨RX3, "spoil", "(I)V"⟩
def dkwX3_spoil_4 : List UInt8 := [167, 255, 222, 132, 2, 1, 167, 255, 158, 177]
abbrev dktX3_spoil_4 : List UInt8 := dkwX3_spoil_4 ++ []
def dkwX3_spoil_3 : List UInt8 := [180, 0, 61, 29, 46, 28, 160, 0, 7, 2, 167, 0, 9, 42, 180, 0, 61, 29, 46, 79, 132, 3, 1]
abbrev dktX3_spoil_3 : List UInt8 := dkwX3_spoil_3 ++ dktX3_spoil_4
def dkwX3_spoil_2 : List UInt8 := [28, 27, 79, 42, 180, 0, 45, 28, 3, 84, 3, 62, 29, 7, 162, 0, 35, 42, 180, 0, 61, 29, 42]
abbrev dktX3_spoil_2 : List UInt8 := dkwX3_spoil_2 ++ dktX3_spoil_3
def dkwX3_spoil_1 : List UInt8 := [28, 46, 42, 28, 182, 0, 190, 163, 0, 6, 167, 0, 63, 42, 180, 0, 9, 28, 8, 79, 42, 180, 0, 33]
abbrev dktX3_spoil_1 : List UInt8 := dkwX3_spoil_1 ++ dktX3_spoil_2
def dkwX3_spoil_0 : List UInt8 := [3, 61, 28, 42, 180, 0, 99, 162, 0, 96, 42, 180, 0, 9, 28, 46, 5, 160, 0, 80, 42, 180, 0, 39]
abbrev dktX3_spoil_0 : List UInt8 := dkwX3_spoil_0 ++ dktX3_spoil_1
theorem dksX3_spoil_0 : cX3_spoil.data.toList.drop 0 = dktX3_spoil_0 := by decide +kernel
theorem dksX3_spoil_1 : cX3_spoil.data.toList.drop 24 = dktX3_spoil_1 := dk_seg dksX3_spoil_0 24 rfl rfl
theorem dksX3_spoil_2 : cX3_spoil.data.toList.drop 48 = dktX3_spoil_2 := dk_seg dksX3_spoil_1 24 rfl rfl
theorem dksX3_spoil_3 : cX3_spoil.data.toList.drop 71 = dktX3_spoil_3 := dk_seg dksX3_spoil_2 23 rfl rfl
theorem dksX3_spoil_4 : cX3_spoil.data.toList.drop 94 = dktX3_spoil_4 := dk_seg dksX3_spoil_3 23 rfl rfl
theorem dX3_spoil_0 : decode cX3_spoil 0 = .ok (.iconst 0, 1) := dk_3 (dk_at dksX3_spoil_0 0 rfl rfl)
theorem dX3_spoil_1 : decode cX3_spoil 1 = .ok (.istore_n 2, 1) := dk_61 (dk_at dksX3_spoil_0 1 rfl rfl)
theorem dX3_spoil_2 : decode cX3_spoil 2 = .ok (.iload_n 2, 1) := dk_28 (dk_at dksX3_spoil_0 2 rfl rfl)
theorem dX3_spoil_3 : decode cX3_spoil 3 = .ok (.aload_n 0, 1) := dk_42 (dk_at dksX3_spoil_0 3 rfl rfl)
theorem dX3_spoil_4 : decode cX3_spoil 4 = .ok (.getfield 99, 3) := dk_180 0 99 (dk_at dksX3_spoil_0 4 rfl rfl)
theorem dX3_spoil_7 : decode cX3_spoil 7 = .ok (.if_icmp .ge 96, 3) := dk_162 0 96 (dk_at dksX3_spoil_0 7 rfl rfl)
theorem dX3_spoil_10 : decode cX3_spoil 10 = .ok (.aload_n 0, 1) := dk_42 (dk_at dksX3_spoil_0 10 rfl rfl)
theorem dX3_spoil_11 : decode cX3_spoil 11 = .ok (.getfield 9, 3) := dk_180 0 9 (dk_at dksX3_spoil_0 11 rfl rfl)
theorem dX3_spoil_14 : decode cX3_spoil 14 = .ok (.iload_n 2, 1) := dk_28 (dk_at dksX3_spoil_0 14 rfl rfl)
theorem dX3_spoil_15 : decode cX3_spoil 15 = .ok (.iaload, 1) := dk_46 (dk_at dksX3_spoil_0 15 rfl rfl)
theorem dX3_spoil_16 : decode cX3_spoil 16 = .ok (.iconst 2, 1) := dk_5 (dk_at dksX3_spoil_0 16 rfl rfl)
theorem dX3_spoil_17 : decode cX3_spoil 17 = .ok (.if_icmp .ne 80, 3) := dk_160 0 80 (dk_at dksX3_spoil_0 17 rfl rfl)
theorem dX3_spoil_20 : decode cX3_spoil 20 = .ok (.aload_n 0, 1) := dk_42 (dk_at dksX3_spoil_0 20 rfl rfl)
theorem dX3_spoil_21 : decode cX3_spoil 21 = .ok (.getfield 39, 3) := dk_180 0 39 (dk_at dksX3_spoil_0 21 rfl rfl)
theorem dX3_spoil_24 : decode cX3_spoil 24 = .ok (.iload_n 2, 1) := dk_28 (dk_at dksX3_spoil_1 0 rfl rfl)
theorem dX3_spoil_25 : decode cX3_spoil 25 = .ok (.iaload, 1) := dk_46 (dk_at dksX3_spoil_1 1 rfl rfl)
theorem dX3_spoil_26 : decode cX3_spoil 26 = .ok (.aload_n 0, 1) := dk_42 (dk_at dksX3_spoil_1 2 rfl rfl)
theorem dX3_spoil_27 : decode cX3_spoil 27 = .ok (.iload_n 2, 1) := dk_28 (dk_at dksX3_spoil_1 3 rfl rfl)
theorem dX3_spoil_28 : decode cX3_spoil 28 = .ok (.invokevirtual 190, 3) := dk_182 0 190 (dk_at dksX3_spoil_1 4 rfl rfl)
theorem dX3_spoil_31 : decode cX3_spoil 31 = .ok (.if_icmp .gt 6, 3) := dk_163 0 6 (dk_at dksX3_spoil_1 7 rfl rfl)
theorem dX3_spoil_34 : decode cX3_spoil 34 = .ok (.goto 63, 3) := dk_167 0 63 (dk_at dksX3_spoil_1 10 rfl rfl)
theorem dX3_spoil_37 : decode cX3_spoil 37 = .ok (.aload_n 0, 1) := dk_42 (dk_at dksX3_spoil_1 13 rfl rfl)
theorem dX3_spoil_38 : decode cX3_spoil 38 = .ok (.getfield 9, 3) := dk_180 0 9 (dk_at dksX3_spoil_1 14 rfl rfl)
theorem dX3_spoil_41 : decode cX3_spoil 41 = .ok (.iload_n 2, 1) := dk_28 (dk_at dksX3_spoil_1 17 rfl rfl)
theorem dX3_spoil_42 : decode cX3_spoil 42 = .ok (.iconst 5, 1) := dk_8 (dk_at dksX3_spoil_1 18 rfl rfl)
theorem dX3_spoil_43 : decode cX3_spoil 43 = .ok (.iastore, 1) := dk_79 (dk_at dksX3_spoil_1 19 rfl rfl)
theorem dX3_spoil_44 : decode cX3_spoil 44 = .ok (.aload_n 0, 1) := dk_42 (dk_at dksX3_spoil_1 20 rfl rfl)
theorem dX3_spoil_45 : decode cX3_spoil 45 = .ok (.getfield 33, 3) := dk_180 0 33 (dk_at dksX3_spoil_1 21 rfl rfl)
theorem dX3_spoil_48 : decode cX3_spoil 48 = .ok (.iload_n 2, 1) := dk_28 (dk_at dksX3_spoil_2 0 rfl rfl)
theorem dX3_spoil_49 : decode cX3_spoil 49 = .ok (.iload_n 1, 1) := dk_27 (dk_at dksX3_spoil_2 1 rfl rfl)
theorem dX3_spoil_50 : decode cX3_spoil 50 = .ok (.iastore, 1) := dk_79 (dk_at dksX3_spoil_2 2 rfl rfl)
theorem dX3_spoil_51 : decode cX3_spoil 51 = .ok (.aload_n 0, 1) := dk_42 (dk_at dksX3_spoil_2 3 rfl rfl)
theorem dX3_spoil_52 : decode cX3_spoil 52 = .ok (.getfield 45, 3) := dk_180 0 45 (dk_at dksX3_spoil_2 4 rfl rfl)
theorem dX3_spoil_55 : decode cX3_spoil 55 = .ok (.iload_n 2, 1) := dk_28 (dk_at dksX3_spoil_2 7 rfl rfl)
theorem dX3_spoil_56 : decode cX3_spoil 56 = .ok (.iconst 0, 1) := dk_3 (dk_at dksX3_spoil_2 8 rfl rfl)
theorem dX3_spoil_57 : decode cX3_spoil 57 = .ok (.bastore, 1) := dk_84 (dk_at dksX3_spoil_2 9 rfl rfl)
theorem dX3_spoil_58 : decode cX3_spoil 58 = .ok (.iconst 0, 1) := dk_3 (dk_at dksX3_spoil_2 10 rfl rfl)
theorem dX3_spoil_59 : decode cX3_spoil 59 = .ok (.istore_n 3, 1) := dk_62 (dk_at dksX3_spoil_2 11 rfl rfl)
theorem dX3_spoil_60 : decode cX3_spoil 60 = .ok (.iload_n 3, 1) := dk_29 (dk_at dksX3_spoil_2 12 rfl rfl)
theorem dX3_spoil_61 : decode cX3_spoil 61 = .ok (.iconst 4, 1) := dk_7 (dk_at dksX3_spoil_2 13 rfl rfl)
theorem dX3_spoil_62 : decode cX3_spoil 62 = .ok (.if_icmp .ge 35, 3) := dk_162 0 35 (dk_at dksX3_spoil_2 14 rfl rfl)
theorem dX3_spoil_65 : decode cX3_spoil 65 = .ok (.aload_n 0, 1) := dk_42 (dk_at dksX3_spoil_2 17 rfl rfl)
theorem dX3_spoil_66 : decode cX3_spoil 66 = .ok (.getfield 61, 3) := dk_180 0 61 (dk_at dksX3_spoil_2 18 rfl rfl)
theorem dX3_spoil_69 : decode cX3_spoil 69 = .ok (.iload_n 3, 1) := dk_29 (dk_at dksX3_spoil_2 21 rfl rfl)
theorem dX3_spoil_70 : decode cX3_spoil 70 = .ok (.aload_n 0, 1) := dk_42 (dk_at dksX3_spoil_2 22 rfl rfl)
theorem dX3_spoil_71 : decode cX3_spoil 71 = .ok (.getfield 61, 3) := dk_180 0 61 (dk_at dksX3_spoil_3 0 rfl rfl)
theorem dX3_spoil_74 : decode cX3_spoil 74 = .ok (.iload_n 3, 1) := dk_29 (dk_at dksX3_spoil_3 3 rfl rfl)
theorem dX3_spoil_75 : decode cX3_spoil 75 = .ok (.iaload, 1) := dk_46 (dk_at dksX3_spoil_3 4 rfl rfl)
theorem dX3_spoil_76 : decode cX3_spoil 76 = .ok (.iload_n 2, 1) := dk_28 (dk_at dksX3_spoil_3 5 rfl rfl)
theorem dX3_spoil_77 : decode cX3_spoil 77 = .ok (.if_icmp .ne 7, 3) := dk_160 0 7 (dk_at dksX3_spoil_3 6 rfl rfl)
theorem dX3_spoil_80 : decode cX3_spoil 80 = .ok (.iconst (-1), 1) := dk_2 (dk_at dksX3_spoil_3 9 rfl rfl)
theorem dX3_spoil_81 : decode cX3_spoil 81 = .ok (.goto 9, 3) := dk_167 0 9 (dk_at dksX3_spoil_3 10 rfl rfl)
theorem dX3_spoil_84 : decode cX3_spoil 84 = .ok (.aload_n 0, 1) := dk_42 (dk_at dksX3_spoil_3 13 rfl rfl)
theorem dX3_spoil_85 : decode cX3_spoil 85 = .ok (.getfield 61, 3) := dk_180 0 61 (dk_at dksX3_spoil_3 14 rfl rfl)
theorem dX3_spoil_88 : decode cX3_spoil 88 = .ok (.iload_n 3, 1) := dk_29 (dk_at dksX3_spoil_3 17 rfl rfl)
theorem dX3_spoil_89 : decode cX3_spoil 89 = .ok (.iaload, 1) := dk_46 (dk_at dksX3_spoil_3 18 rfl rfl)
theorem dX3_spoil_90 : decode cX3_spoil 90 = .ok (.iastore, 1) := dk_79 (dk_at dksX3_spoil_3 19 rfl rfl)
theorem dX3_spoil_91 : decode cX3_spoil 91 = .ok (.iinc 3 1, 3) := dk_132 3 1 (dk_at dksX3_spoil_3 20 rfl rfl)
theorem dX3_spoil_94 : decode cX3_spoil 94 = .ok (.goto (-34), 3) := dk_167 255 222 (dk_at dksX3_spoil_4 0 rfl rfl)
theorem dX3_spoil_97 : decode cX3_spoil 97 = .ok (.iinc 2 1, 3) := dk_132 2 1 (dk_at dksX3_spoil_4 3 rfl rfl)
theorem dX3_spoil_100 : decode cX3_spoil 100 = .ok (.goto (-98), 3) := dk_167 255 158 (dk_at dksX3_spoil_4 6 rfl rfl)
theorem dX3_spoil_103 : decode cX3_spoil 103 = .ok (.return_, 1) := dk_177 (dk_at dksX3_spoil_4 9 rfl rfl)
abbrev cX3_oldest : ByteArray := prog_6_method_9_code
def yX3_oldest : MethodName := ⟨RX3, "oldest", "(I)I"⟩
def dkwX3_oldest_0 : List UInt8 := [42, 27, 182, 0, 178, 42, 7, 182, 0, 132, 42, 180, 0, 70, 27, 182, 0, 169, 180, 0, 181, 104, 96, 172]
abbrev dktX3_oldest_0 : List UInt8 := dkwX3_oldest_0 ++ []
theorem dksX3_oldest_0 : cX3_oldest.data.toList.drop 0 = dktX3_oldest_0 := by decide +kernel
theorem dX3_oldest_0 : decode cX3_oldest 0 = .ok (.aload_n 0, 1) := dk_42 (dk_at dksX3_oldest_0 0 rfl rfl)
theorem dX3_oldest_1 : decode cX3_oldest 1 = .ok (.iload_n 1, 1) := dk_27 (dk_at dksX3_oldest_0 1 rfl rfl)
theorem dX3_oldest_2 : decode cX3_oldest 2 = .ok (.invokevirtual 178, 3) := dk_182 0 178 (dk_at dksX3_oldest_0 2 rfl rfl)
theorem dX3_oldest_5 : decode cX3_oldest 5 = .ok (.aload_n 0, 1) := dk_42 (dk_at dksX3_oldest_0 5 rfl rfl)
theorem dX3_oldest_6 : decode cX3_oldest 6 = .ok (.iconst 4, 1) := dk_7 (dk_at dksX3_oldest_0 6 rfl rfl)
theorem dX3_oldest_7 : decode cX3_oldest 7 = .ok (.invokevirtual 132, 3) := dk_182 0 132 (dk_at dksX3_oldest_0 7 rfl rfl)
theorem dX3_oldest_10 : decode cX3_oldest 10 = .ok (.aload_n 0, 1) := dk_42 (dk_at dksX3_oldest_0 10 rfl rfl)
theorem dX3_oldest_11 : decode cX3_oldest 11 = .ok (.getfield 70, 3) := dk_180 0 70 (dk_at dksX3_oldest_0 11 rfl rfl)
theorem dX3_oldest_14 : decode cX3_oldest 14 = .ok (.iload_n 1, 1) := dk_27 (dk_at dksX3_oldest_0 14 rfl rfl)
theorem dX3_oldest_15 : decode cX3_oldest 15 = .ok (.invokevirtual 169, 3) := dk_182 0 169 (dk_at dksX3_oldest_0 15 rfl rfl)
theorem dX3_oldest_18 : decode cX3_oldest 18 = .ok (.getfield 181, 3) := dk_180 0 181 (dk_at dksX3_oldest_0 18 rfl rfl)
theorem dX3_oldest_21 : decode cX3_oldest 21 = .ok (.imul, 1) := dk_104 (dk_at dksX3_oldest_0 21 rfl rfl)
theorem dX3_oldest_22 : decode cX3_oldest 22 = .ok (.iadd, 1) := dk_96 (dk_at dksX3_oldest_0 22 rfl rfl)
theorem dX3_oldest_23 : decode cX3_oldest 23 = .ok (.ireturn, 1) := dk_172 (dk_at dksX3_oldest_0 23 rfl rfl)
abbrev cX3_ripe : ByteArray := prog_6_method_8_code
def yX3_ripe : MethodName := ⟨RX3, "ripe", "(I)I"⟩
def dkwX3_ripe_0 : List UInt8 := [42, 7, 182, 0, 132, 42, 180, 0, 70, 27, 182, 0, 169, 180, 0, 173, 104, 172]
abbrev dktX3_ripe_0 : List UInt8 := dkwX3_ripe_0 ++ []
theorem dksX3_ripe_0 : cX3_ripe.data.toList.drop 0 = dktX3_ripe_0 := by decide +kernel
theorem dX3_ripe_0 : decode cX3_ripe 0 = .ok (.aload_n 0, 1) := dk_42 (dk_at dksX3_ripe_0 0 rfl rfl)
theorem dX3_ripe_1 : decode cX3_ripe 1 = .ok (.iconst 4, 1) := dk_7 (dk_at dksX3_ripe_0 1 rfl rfl)
theorem dX3_ripe_2 : decode cX3_ripe 2 = .ok (.invokevirtual 132, 3) := dk_182 0 132 (dk_at dksX3_ripe_0 2 rfl rfl)
theorem dX3_ripe_5 : decode cX3_ripe 5 = .ok (.aload_n 0, 1) := dk_42 (dk_at dksX3_ripe_0 5 rfl rfl)
theorem dX3_ripe_6 : decode cX3_ripe 6 = .ok (.getfield 70, 3) := dk_180 0 70 (dk_at dksX3_ripe_0 6 rfl rfl)
theorem dX3_ripe_9 : decode cX3_ripe 9 = .ok (.iload_n 1, 1) := dk_27 (dk_at dksX3_ripe_0 9 rfl rfl)
theorem dX3_ripe_10 : decode cX3_ripe 10 = .ok (.invokevirtual 169, 3) := dk_182 0 169 (dk_at dksX3_ripe_0 10 rfl rfl)
theorem dX3_ripe_13 : decode cX3_ripe 13 = .ok (.getfield 173, 3) := dk_180 0 173 (dk_at dksX3_ripe_0 13 rfl rfl)
theorem dX3_ripe_16 : decode cX3_ripe 16 = .ok (.imul, 1) := dk_104 (dk_at dksX3_ripe_0 16 rfl rfl)
theorem dX3_ripe_17 : decode cX3_ripe 17 = .ok (.ireturn, 1) := dk_172 (dk_at dksX3_ripe_0 17 rfl rfl)
abbrev cX3_reserve : ByteArray := prog_6_method_16_code
def yX3_reserve : MethodName := ⟨RX3, "reserve", "()V"⟩
def dkwX3_reserve_5 : List UInt8 := [177]
abbrev dktX3_reserve_5 : List UInt8 := dkwX3_reserve_5 ++ []
def dkwX3_reserve_4 : List UInt8 := [167, 0, 4, 28, 61, 132, 3, 1, 167, 255, 180, 42, 180, 0, 61, 27, 28, 79, 132, 1, 1, 167, 255, 141]
abbrev dktX3_reserve_4 : List UInt8 := dkwX3_reserve_4 ++ dktX3_reserve_5
def dkwX3_reserve_3 : List UInt8 := [153, 0, 27, 28, 2, 159, 0, 18, 42, 180, 0, 80, 42, 29, 28, 185, 0, 211, 4, 0, 153, 0, 7, 29]
abbrev dktX3_reserve_3 : List UInt8 := dkwX3_reserve_3 ++ dktX3_reserve_4
def dkwX3_reserve_2 : List UInt8 := [182, 0, 204, 154, 0, 16, 42, 27, 29, 182, 0, 207, 153, 0, 7, 4, 167, 0, 4, 3, 54, 4, 21, 4]
abbrev dktX3_reserve_2 : List UInt8 := dkwX3_reserve_2 ++ dktX3_reserve_3
def dkwX3_reserve_1 : List UInt8 := [2, 61, 3, 62, 29, 42, 180, 0, 99, 162, 0, 74, 42, 180, 0, 9, 29, 46, 5, 160, 0, 24, 42, 29]
abbrev dktX3_reserve_1 : List UInt8 := dkwX3_reserve_1 ++ dktX3_reserve_2
def dkwX3_reserve_0 : List UInt8 := [3, 60, 27, 42, 4, 182, 0, 132, 162, 0, 112, 42, 180, 0, 61, 27, 46, 2, 159, 0, 6, 167, 0, 93]
abbrev dktX3_reserve_0 : List UInt8 := dkwX3_reserve_0 ++ dktX3_reserve_1
theorem dksX3_reserve_0 : cX3_reserve.data.toList.drop 0 = dktX3_reserve_0 := by decide +kernel
theorem dksX3_reserve_1 : cX3_reserve.data.toList.drop 24 = dktX3_reserve_1 := dk_seg dksX3_reserve_0 24 rfl rfl
theorem dksX3_reserve_2 : cX3_reserve.data.toList.drop 48 = dktX3_reserve_2 := dk_seg dksX3_reserve_1 24 rfl rfl
theorem dksX3_reserve_3 : cX3_reserve.data.toList.drop 72 = dktX3_reserve_3 := dk_seg dksX3_reserve_2 24 rfl rfl
theorem dksX3_reserve_4 : cX3_reserve.data.toList.drop 96 = dktX3_reserve_4 := dk_seg dksX3_reserve_3 24 rfl rfl
theorem dksX3_reserve_5 : cX3_reserve.data.toList.drop 120 = dktX3_reserve_5 := dk_seg dksX3_reserve_4 24 rfl rfl
theorem dX3_reserve_0 : decode cX3_reserve 0 = .ok (.iconst 0, 1) := dk_3 (dk_at dksX3_reserve_0 0 rfl rfl)
theorem dX3_reserve_1 : decode cX3_reserve 1 = .ok (.istore_n 1, 1) := dk_60 (dk_at dksX3_reserve_0 1 rfl rfl)
theorem dX3_reserve_2 : decode cX3_reserve 2 = .ok (.iload_n 1, 1) := dk_27 (dk_at dksX3_reserve_0 2 rfl rfl)
theorem dX3_reserve_3 : decode cX3_reserve 3 = .ok (.aload_n 0, 1) := dk_42 (dk_at dksX3_reserve_0 3 rfl rfl)
theorem dX3_reserve_4 : decode cX3_reserve 4 = .ok (.iconst 1, 1) := dk_4 (dk_at dksX3_reserve_0 4 rfl rfl)
theorem dX3_reserve_5 : decode cX3_reserve 5 = .ok (.invokevirtual 132, 3) := dk_182 0 132 (dk_at dksX3_reserve_0 5 rfl rfl)
theorem dX3_reserve_8 : decode cX3_reserve 8 = .ok (.if_icmp .ge 112, 3) := dk_162 0 112 (dk_at dksX3_reserve_0 8 rfl rfl)
theorem dX3_reserve_11 : decode cX3_reserve 11 = .ok (.aload_n 0, 1) := dk_42 (dk_at dksX3_reserve_0 11 rfl rfl)
theorem dX3_reserve_12 : decode cX3_reserve 12 = .ok (.getfield 61, 3) := dk_180 0 61 (dk_at dksX3_reserve_0 12 rfl rfl)
theorem dX3_reserve_15 : decode cX3_reserve 15 = .ok (.iload_n 1, 1) := dk_27 (dk_at dksX3_reserve_0 15 rfl rfl)
theorem dX3_reserve_16 : decode cX3_reserve 16 = .ok (.iaload, 1) := dk_46 (dk_at dksX3_reserve_0 16 rfl rfl)
theorem dX3_reserve_17 : decode cX3_reserve 17 = .ok (.iconst (-1), 1) := dk_2 (dk_at dksX3_reserve_0 17 rfl rfl)
theorem dX3_reserve_18 : decode cX3_reserve 18 = .ok (.if_icmp .eq 6, 3) := dk_159 0 6 (dk_at dksX3_reserve_0 18 rfl rfl)
theorem dX3_reserve_21 : decode cX3_reserve 21 = .ok (.goto 93, 3) := dk_167 0 93 (dk_at dksX3_reserve_0 21 rfl rfl)
theorem dX3_reserve_24 : decode cX3_reserve 24 = .ok (.iconst (-1), 1) := dk_2 (dk_at dksX3_reserve_1 0 rfl rfl)
theorem dX3_reserve_25 : decode cX3_reserve 25 = .ok (.istore_n 2, 1) := dk_61 (dk_at dksX3_reserve_1 1 rfl rfl)
theorem dX3_reserve_26 : decode cX3_reserve 26 = .ok (.iconst 0, 1) := dk_3 (dk_at dksX3_reserve_1 2 rfl rfl)
theorem dX3_reserve_27 : decode cX3_reserve 27 = .ok (.istore_n 3, 1) := dk_62 (dk_at dksX3_reserve_1 3 rfl rfl)
theorem dX3_reserve_28 : decode cX3_reserve 28 = .ok (.iload_n 3, 1) := dk_29 (dk_at dksX3_reserve_1 4 rfl rfl)
theorem dX3_reserve_29 : decode cX3_reserve 29 = .ok (.aload_n 0, 1) := dk_42 (dk_at dksX3_reserve_1 5 rfl rfl)
theorem dX3_reserve_30 : decode cX3_reserve 30 = .ok (.getfield 99, 3) := dk_180 0 99 (dk_at dksX3_reserve_1 6 rfl rfl)
theorem dX3_reserve_33 : decode cX3_reserve 33 = .ok (.if_icmp .ge 74, 3) := dk_162 0 74 (dk_at dksX3_reserve_1 9 rfl rfl)
theorem dX3_reserve_36 : decode cX3_reserve 36 = .ok (.aload_n 0, 1) := dk_42 (dk_at dksX3_reserve_1 12 rfl rfl)
theorem dX3_reserve_37 : decode cX3_reserve 37 = .ok (.getfield 9, 3) := dk_180 0 9 (dk_at dksX3_reserve_1 13 rfl rfl)
theorem dX3_reserve_40 : decode cX3_reserve 40 = .ok (.iload_n 3, 1) := dk_29 (dk_at dksX3_reserve_1 16 rfl rfl)
theorem dX3_reserve_41 : decode cX3_reserve 41 = .ok (.iaload, 1) := dk_46 (dk_at dksX3_reserve_1 17 rfl rfl)
theorem dX3_reserve_42 : decode cX3_reserve 42 = .ok (.iconst 2, 1) := dk_5 (dk_at dksX3_reserve_1 18 rfl rfl)
theorem dX3_reserve_43 : decode cX3_reserve 43 = .ok (.if_icmp .ne 24, 3) := dk_160 0 24 (dk_at dksX3_reserve_1 19 rfl rfl)
theorem dX3_reserve_46 : decode cX3_reserve 46 = .ok (.aload_n 0, 1) := dk_42 (dk_at dksX3_reserve_1 22 rfl rfl)
theorem dX3_reserve_47 : decode cX3_reserve 47 = .ok (.iload_n 3, 1) := dk_29 (dk_at dksX3_reserve_1 23 rfl rfl)
theorem dX3_reserve_48 : decode cX3_reserve 48 = .ok (.invokevirtual 204, 3) := dk_182 0 204 (dk_at dksX3_reserve_2 0 rfl rfl)
theorem dX3_reserve_51 : decode cX3_reserve 51 = .ok (.ifCond .ne 16, 3) := dk_154 0 16 (dk_at dksX3_reserve_2 3 rfl rfl)
theorem dX3_reserve_54 : decode cX3_reserve 54 = .ok (.aload_n 0, 1) := dk_42 (dk_at dksX3_reserve_2 6 rfl rfl)
theorem dX3_reserve_55 : decode cX3_reserve 55 = .ok (.iload_n 1, 1) := dk_27 (dk_at dksX3_reserve_2 7 rfl rfl)
theorem dX3_reserve_56 : decode cX3_reserve 56 = .ok (.iload_n 3, 1) := dk_29 (dk_at dksX3_reserve_2 8 rfl rfl)
theorem dX3_reserve_57 : decode cX3_reserve 57 = .ok (.invokevirtual 207, 3) := dk_182 0 207 (dk_at dksX3_reserve_2 9 rfl rfl)
theorem dX3_reserve_60 : decode cX3_reserve 60 = .ok (.ifCond .eq 7, 3) := dk_153 0 7 (dk_at dksX3_reserve_2 12 rfl rfl)
theorem dX3_reserve_63 : decode cX3_reserve 63 = .ok (.iconst 1, 1) := dk_4 (dk_at dksX3_reserve_2 15 rfl rfl)
theorem dX3_reserve_64 : decode cX3_reserve 64 = .ok (.goto 4, 3) := dk_167 0 4 (dk_at dksX3_reserve_2 16 rfl rfl)
theorem dX3_reserve_67 : decode cX3_reserve 67 = .ok (.iconst 0, 1) := dk_3 (dk_at dksX3_reserve_2 19 rfl rfl)
theorem dX3_reserve_68 : decode cX3_reserve 68 = .ok (.istore 4, 2) := dk_54 4 (dk_at dksX3_reserve_2 20 rfl rfl)
theorem dX3_reserve_70 : decode cX3_reserve 70 = .ok (.iload 4, 2) := dk_21 4 (dk_at dksX3_reserve_2 22 rfl rfl)
theorem dX3_reserve_72 : decode cX3_reserve 72 = .ok (.ifCond .eq 27, 3) := dk_153 0 27 (dk_at dksX3_reserve_3 0 rfl rfl)
theorem dX3_reserve_75 : decode cX3_reserve 75 = .ok (.iload_n 2, 1) := dk_28 (dk_at dksX3_reserve_3 3 rfl rfl)
theorem dX3_reserve_76 : decode cX3_reserve 76 = .ok (.iconst (-1), 1) := dk_2 (dk_at dksX3_reserve_3 4 rfl rfl)
theorem dX3_reserve_77 : decode cX3_reserve 77 = .ok (.if_icmp .eq 18, 3) := dk_159 0 18 (dk_at dksX3_reserve_3 5 rfl rfl)
theorem dX3_reserve_80 : decode cX3_reserve 80 = .ok (.aload_n 0, 1) := dk_42 (dk_at dksX3_reserve_3 8 rfl rfl)
theorem dX3_reserve_81 : decode cX3_reserve 81 = .ok (.getfield 80, 3) := dk_180 0 80 (dk_at dksX3_reserve_3 9 rfl rfl)
theorem dX3_reserve_84 : decode cX3_reserve 84 = .ok (.aload_n 0, 1) := dk_42 (dk_at dksX3_reserve_3 12 rfl rfl)
theorem dX3_reserve_85 : decode cX3_reserve 85 = .ok (.iload_n 3, 1) := dk_29 (dk_at dksX3_reserve_3 13 rfl rfl)
theorem dX3_reserve_86 : decode cX3_reserve 86 = .ok (.iload_n 2, 1) := dk_28 (dk_at dksX3_reserve_3 14 rfl rfl)
theorem dX3_reserve_87 : decode cX3_reserve 87 = .ok (.invokeinterface 211 4, 5) := by decide +kernel
theorem dX3_reserve_92 : decode cX3_reserve 92 = .ok (.ifCond .eq 7, 3) := dk_153 0 7 (dk_at dksX3_reserve_3 20 rfl rfl)
theorem dX3_reserve_95 : decode cX3_reserve 95 = .ok (.iload_n 3, 1) := dk_29 (dk_at dksX3_reserve_3 23 rfl rfl)
theorem dX3_reserve_96 : decode cX3_reserve 96 = .ok (.goto 4, 3) := dk_167 0 4 (dk_at dksX3_reserve_4 0 rfl rfl)
theorem dX3_reserve_99 : decode cX3_reserve 99 = .ok (.iload_n 2, 1) := dk_28 (dk_at dksX3_reserve_4 3 rfl rfl)
theorem dX3_reserve_100 : decode cX3_reserve 100 = .ok (.istore_n 2, 1) := dk_61 (dk_at dksX3_reserve_4 4 rfl rfl)
theorem dX3_reserve_101 : decode cX3_reserve 101 = .ok (.iinc 3 1, 3) := dk_132 3 1 (dk_at dksX3_reserve_4 5 rfl rfl)
theorem dX3_reserve_104 : decode cX3_reserve 104 = .ok (.goto (-76), 3) := dk_167 255 180 (dk_at dksX3_reserve_4 8 rfl rfl)
theorem dX3_reserve_107 : decode cX3_reserve 107 = .ok (.aload_n 0, 1) := dk_42 (dk_at dksX3_reserve_4 11 rfl rfl)
theorem dX3_reserve_108 : decode cX3_reserve 108 = .ok (.getfield 61, 3) := dk_180 0 61 (dk_at dksX3_reserve_4 12 rfl rfl)
theorem dX3_reserve_111 : decode cX3_reserve 111 = .ok (.iload_n 1, 1) := dk_27 (dk_at dksX3_reserve_4 15 rfl rfl)
theorem dX3_reserve_112 : decode cX3_reserve 112 = .ok (.iload_n 2, 1) := dk_28 (dk_at dksX3_reserve_4 16 rfl rfl)
theorem dX3_reserve_113 : decode cX3_reserve 113 = .ok (.iastore, 1) := dk_79 (dk_at dksX3_reserve_4 17 rfl rfl)
theorem dX3_reserve_114 : decode cX3_reserve 114 = .ok (.iinc 1 1, 3) := dk_132 1 1 (dk_at dksX3_reserve_4 18 rfl rfl)
theorem dX3_reserve_117 : decode cX3_reserve 117 = .ok (.goto (-115), 3) := dk_167 255 141 (dk_at dksX3_reserve_4 21 rfl rfl)
theorem dX3_reserve_120 : decode cX3_reserve 120 = .ok (.return_, 1) := dk_177 (dk_at dksX3_reserve_5 0 rfl rfl)
abbrev cX3_isReserved : ByteArray := prog_6_method_14_code
def yX3_isReserved : MethodName := ⟨RX3, "isReserved", "(I)Z"⟩
def dkwX3_isReserved_1 : List UInt8 := [3, 128, 61, 132, 3, 1, 167, 255, 230, 28, 172]
abbrev dktX3_isReserved_1 : List UInt8 := dkwX3_isReserved_1 ++ []
def dkwX3_isReserved_0 : List UInt8 := [3, 61, 3, 62, 29, 7, 162, 0, 27, 28, 42, 180, 0, 61, 29, 46, 27, 160, 0, 7, 4, 167, 0, 4]
abbrev dktX3_isReserved_0 : List UInt8 := dkwX3_isReserved_0 ++ dktX3_isReserved_1
theorem dksX3_isReserved_0 : cX3_isReserved.data.toList.drop 0 = dktX3_isReserved_0 := by decide +kernel
theorem dksX3_isReserved_1 : cX3_isReserved.data.toList.drop 24 = dktX3_isReserved_1 := dk_seg dksX3_isReserved_0 24 rfl rfl
theorem dX3_isReserved_0 : decode cX3_isReserved 0 = .ok (.iconst 0, 1) := dk_3 (dk_at dksX3_isReserved_0 0 rfl rfl)
theorem dX3_isReserved_1 : decode cX3_isReserved 1 = .ok (.istore_n 2, 1) := dk_61 (dk_at dksX3_isReserved_0 1 rfl rfl)
theorem dX3_isReserved_2 : decode cX3_isReserved 2 = .ok (.iconst 0, 1) := dk_3 (dk_at dksX3_isReserved_0 2 rfl rfl)
theorem dX3_isReserved_3 : decode cX3_isReserved 3 = .ok (.istore_n 3, 1) := dk_62 (dk_at dksX3_isReserved_0 3 rfl rfl)
theorem dX3_isReserved_4 : decode cX3_isReserved 4 = .ok (.iload_n 3, 1) := dk_29 (dk_at dksX3_isReserved_0 4 rfl rfl)
theorem dX3_isReserved_5 : decode cX3_isReserved 5 = .ok (.iconst 4, 1) := dk_7 (dk_at dksX3_isReserved_0 5 rfl rfl)
theorem dX3_isReserved_6 : decode cX3_isReserved 6 = .ok (.if_icmp .ge 27, 3) := dk_162 0 27 (dk_at dksX3_isReserved_0 6 rfl rfl)
theorem dX3_isReserved_9 : decode cX3_isReserved 9 = .ok (.iload_n 2, 1) := dk_28 (dk_at dksX3_isReserved_0 9 rfl rfl)
theorem dX3_isReserved_10 : decode cX3_isReserved 10 = .ok (.aload_n 0, 1) := dk_42 (dk_at dksX3_isReserved_0 10 rfl rfl)
theorem dX3_isReserved_11 : decode cX3_isReserved 11 = .ok (.getfield 61, 3) := dk_180 0 61 (dk_at dksX3_isReserved_0 11 rfl rfl)
theorem dX3_isReserved_14 : decode cX3_isReserved 14 = .ok (.iload_n 3, 1) := dk_29 (dk_at dksX3_isReserved_0 14 rfl rfl)
theorem dX3_isReserved_15 : decode cX3_isReserved 15 = .ok (.iaload, 1) := dk_46 (dk_at dksX3_isReserved_0 15 rfl rfl)
theorem dX3_isReserved_16 : decode cX3_isReserved 16 = .ok (.iload_n 1, 1) := dk_27 (dk_at dksX3_isReserved_0 16 rfl rfl)
theorem dX3_isReserved_17 : decode cX3_isReserved 17 = .ok (.if_icmp .ne 7, 3) := dk_160 0 7 (dk_at dksX3_isReserved_0 17 rfl rfl)
theorem dX3_isReserved_20 : decode cX3_isReserved 20 = .ok (.iconst 1, 1) := dk_4 (dk_at dksX3_isReserved_0 20 rfl rfl)
theorem dX3_isReserved_21 : decode cX3_isReserved 21 = .ok (.goto 4, 3) := dk_167 0 4 (dk_at dksX3_isReserved_0 21 rfl rfl)
theorem dX3_isReserved_24 : decode cX3_isReserved 24 = .ok (.iconst 0, 1) := dk_3 (dk_at dksX3_isReserved_1 0 rfl rfl)
theorem dX3_isReserved_25 : decode cX3_isReserved 25 = .ok (.ior, 1) := dk_128 (dk_at dksX3_isReserved_1 1 rfl rfl)
theorem dX3_isReserved_26 : decode cX3_isReserved 26 = .ok (.istore_n 2, 1) := dk_61 (dk_at dksX3_isReserved_1 2 rfl rfl)
theorem dX3_isReserved_27 : decode cX3_isReserved 27 = .ok (.iinc 3 1, 3) := dk_132 3 1 (dk_at dksX3_isReserved_1 3 rfl rfl)
theorem dX3_isReserved_30 : decode cX3_isReserved 30 = .ok (.goto (-26), 3) := dk_167 255 230 (dk_at dksX3_isReserved_1 6 rfl rfl)
theorem dX3_isReserved_33 : decode cX3_isReserved 33 = .ok (.iload_n 2, 1) := dk_28 (dk_at dksX3_isReserved_1 9 rfl rfl)
theorem dX3_isReserved_34 : decode cX3_isReserved 34 = .ok (.ireturn, 1) := dk_172 (dk_at dksX3_isReserved_1 10 rfl rfl)
abbrev cX3_canWait : ByteArray := prog_6_method_15_code
def yX3_canWait : MethodName := ⟨RX3, "canWait", "(II)Z"⟩
def dkwX3_canWait_2 : List UInt8 := [8, 182, 0, 132, 184, 0, 196, 163, 0, 7, 4, 167, 0, 4, 3, 172]
abbrev dktX3_canWait_2 : List UInt8 := dkwX3_canWait_2 ++ []
def dkwX3_canWait_1 : List UInt8 := [62, 29, 42, 180, 0, 70, 28, 182, 0, 169, 180, 0, 199, 42, 180, 0, 64, 27, 46, 100, 184, 0, 201, 42]
abbrev dktX3_canWait_1 : List UInt8 := dkwX3_canWait_1 ++ dktX3_canWait_2
def dkwX3_canWait_0 : List UInt8 := [3, 42, 28, 182, 0, 178, 42, 180, 0, 39, 28, 46, 100, 184, 0, 193, 42, 7, 182, 0, 132, 184, 0, 196]
abbrev dktX3_canWait_0 : List UInt8 := dkwX3_canWait_0 ++ dktX3_canWait_1
theorem dksX3_canWait_0 : cX3_canWait.data.toList.drop 0 = dktX3_canWait_0 := by decide +kernel
theorem dksX3_canWait_1 : cX3_canWait.data.toList.drop 24 = dktX3_canWait_1 := dk_seg dksX3_canWait_0 24 rfl rfl
theorem dksX3_canWait_2 : cX3_canWait.data.toList.drop 48 = dktX3_canWait_2 := dk_seg dksX3_canWait_1 24 rfl rfl
theorem dX3_canWait_0 : decode cX3_canWait 0 = .ok (.iconst 0, 1) := dk_3 (dk_at dksX3_canWait_0 0 rfl rfl)
theorem dX3_canWait_1 : decode cX3_canWait 1 = .ok (.aload_n 0, 1) := dk_42 (dk_at dksX3_canWait_0 1 rfl rfl)
theorem dX3_canWait_2 : decode cX3_canWait 2 = .ok (.iload_n 2, 1) := dk_28 (dk_at dksX3_canWait_0 2 rfl rfl)
theorem dX3_canWait_3 : decode cX3_canWait 3 = .ok (.invokevirtual 178, 3) := dk_182 0 178 (dk_at dksX3_canWait_0 3 rfl rfl)
theorem dX3_canWait_6 : decode cX3_canWait 6 = .ok (.aload_n 0, 1) := dk_42 (dk_at dksX3_canWait_0 6 rfl rfl)
theorem dX3_canWait_7 : decode cX3_canWait 7 = .ok (.getfield 39, 3) := dk_180 0 39 (dk_at dksX3_canWait_0 7 rfl rfl)
theorem dX3_canWait_10 : decode cX3_canWait 10 = .ok (.iload_n 2, 1) := dk_28 (dk_at dksX3_canWait_0 10 rfl rfl)
theorem dX3_canWait_11 : decode cX3_canWait 11 = .ok (.iaload, 1) := dk_46 (dk_at dksX3_canWait_0 11 rfl rfl)
theorem dX3_canWait_12 : decode cX3_canWait 12 = .ok (.isub, 1) := dk_100 (dk_at dksX3_canWait_0 12 rfl rfl)
theorem dX3_canWait_13 : decode cX3_canWait 13 = .ok (.invokestatic 193, 3) := dk_184 0 193 (dk_at dksX3_canWait_0 13 rfl rfl)
theorem dX3_canWait_16 : decode cX3_canWait 16 = .ok (.aload_n 0, 1) := dk_42 (dk_at dksX3_canWait_0 16 rfl rfl)
theorem dX3_canWait_17 : decode cX3_canWait 17 = .ok (.iconst 4, 1) := dk_7 (dk_at dksX3_canWait_0 17 rfl rfl)
theorem dX3_canWait_18 : decode cX3_canWait 18 = .ok (.invokevirtual 132, 3) := dk_182 0 132 (dk_at dksX3_canWait_0 18 rfl rfl)
theorem dX3_canWait_21 : decode cX3_canWait 21 = .ok (.invokestatic 196, 3) := dk_184 0 196 (dk_at dksX3_canWait_0 21 rfl rfl)
theorem dX3_canWait_24 : decode cX3_canWait 24 = .ok (.istore_n 3, 1) := dk_62 (dk_at dksX3_canWait_1 0 rfl rfl)
theorem dX3_canWait_25 : decode cX3_canWait 25 = .ok (.iload_n 3, 1) := dk_29 (dk_at dksX3_canWait_1 1 rfl rfl)
theorem dX3_canWait_26 : decode cX3_canWait 26 = .ok (.aload_n 0, 1) := dk_42 (dk_at dksX3_canWait_1 2 rfl rfl)
theorem dX3_canWait_27 : decode cX3_canWait 27 = .ok (.getfield 70, 3) := dk_180 0 70 (dk_at dksX3_canWait_1 3 rfl rfl)
theorem dX3_canWait_30 : decode cX3_canWait 30 = .ok (.iload_n 2, 1) := dk_28 (dk_at dksX3_canWait_1 6 rfl rfl)
theorem dX3_canWait_31 : decode cX3_canWait 31 = .ok (.invokevirtual 169, 3) := dk_182 0 169 (dk_at dksX3_canWait_1 7 rfl rfl)
theorem dX3_canWait_34 : decode cX3_canWait 34 = .ok (.getfield 199, 3) := dk_180 0 199 (dk_at dksX3_canWait_1 10 rfl rfl)
theorem dX3_canWait_37 : decode cX3_canWait 37 = .ok (.aload_n 0, 1) := dk_42 (dk_at dksX3_canWait_1 13 rfl rfl)
theorem dX3_canWait_38 : decode cX3_canWait 38 = .ok (.getfield 64, 3) := dk_180 0 64 (dk_at dksX3_canWait_1 14 rfl rfl)
theorem dX3_canWait_41 : decode cX3_canWait 41 = .ok (.iload_n 1, 1) := dk_27 (dk_at dksX3_canWait_1 17 rfl rfl)
theorem dX3_canWait_42 : decode cX3_canWait 42 = .ok (.iaload, 1) := dk_46 (dk_at dksX3_canWait_1 18 rfl rfl)
theorem dX3_canWait_43 : decode cX3_canWait 43 = .ok (.isub, 1) := dk_100 (dk_at dksX3_canWait_1 19 rfl rfl)
theorem dX3_canWait_44 : decode cX3_canWait 44 = .ok (.invokestatic 201, 3) := dk_184 0 201 (dk_at dksX3_canWait_1 20 rfl rfl)
theorem dX3_canWait_47 : decode cX3_canWait 47 = .ok (.aload_n 0, 1) := dk_42 (dk_at dksX3_canWait_1 23 rfl rfl)
theorem dX3_canWait_48 : decode cX3_canWait 48 = .ok (.iconst 5, 1) := dk_8 (dk_at dksX3_canWait_2 0 rfl rfl)
theorem dX3_canWait_49 : decode cX3_canWait 49 = .ok (.invokevirtual 132, 3) := dk_182 0 132 (dk_at dksX3_canWait_2 1 rfl rfl)
theorem dX3_canWait_52 : decode cX3_canWait 52 = .ok (.invokestatic 196, 3) := dk_184 0 196 (dk_at dksX3_canWait_2 4 rfl rfl)
theorem dX3_canWait_55 : decode cX3_canWait 55 = .ok (.if_icmp .gt 7, 3) := dk_163 0 7 (dk_at dksX3_canWait_2 7 rfl rfl)
theorem dX3_canWait_58 : decode cX3_canWait 58 = .ok (.iconst 1, 1) := dk_4 (dk_at dksX3_canWait_2 10 rfl rfl)
theorem dX3_canWait_59 : decode cX3_canWait 59 = .ok (.goto 4, 3) := dk_167 0 4 (dk_at dksX3_canWait_2 11 rfl rfl)
theorem dX3_canWait_62 : decode cX3_canWait 62 = .ok (.iconst 0, 1) := dk_3 (dk_at dksX3_canWait_2 14 rfl rfl)
theorem dX3_canWait_63 : decode cX3_canWait 63 = .ok (.ireturn, 1) := dk_172 (dk_at dksX3_canWait_2 15 rfl rfl)
abbrev cX3_up : ByteArray := prog_6_method_13_code
def yX3_up : MethodName := ⟨RX3, "up", "(II)I"⟩
def dkwX3_up_0 : List UInt8 := [26, 27, 96, 4, 100, 27, 108, 172]
abbrev dktX3_up_0 : List UInt8 := dkwX3_up_0 ++ []
theorem dksX3_up_0 : cX3_up.data.toList.drop 0 = dktX3_up_0 := by decide +kernel
theorem dX3_up_0 : decode cX3_up 0 = .ok (.iload_n 0, 1) := dk_26 (dk_at dksX3_up_0 0 rfl rfl)
theorem dX3_up_1 : decode cX3_up 1 = .ok (.iload_n 1, 1) := dk_27 (dk_at dksX3_up_0 1 rfl rfl)
theorem dX3_up_2 : decode cX3_up 2 = .ok (.iadd, 1) := dk_96 (dk_at dksX3_up_0 2 rfl rfl)
theorem dX3_up_3 : decode cX3_up 3 = .ok (.iconst 1, 1) := dk_4 (dk_at dksX3_up_0 3 rfl rfl)
theorem dX3_up_4 : decode cX3_up 4 = .ok (.isub, 1) := dk_100 (dk_at dksX3_up_0 4 rfl rfl)
theorem dX3_up_5 : decode cX3_up 5 = .ok (.iload_n 1, 1) := dk_27 (dk_at dksX3_up_0 5 rfl rfl)
theorem dX3_up_6 : decode cX3_up 6 = .ok (.idiv, 1) := dk_108 (dk_at dksX3_up_0 6 rfl rfl)
theorem dX3_up_7 : decode cX3_up 7 = .ok (.ireturn, 1) := dk_172 (dk_at dksX3_up_0 7 rfl rfl)
abbrev cX3_bake : ByteArray := prog_6_method_17_code
def yX3_bake : MethodName := ⟨RX3, "bake", "(I)V"⟩
def dkwX3_bake_4 : List UInt8 := [29, 42, 180, 0, 39, 29, 46, 79, 42, 180, 0, 45, 29, 3, 84, 132, 2, 1, 167, 255, 145, 177]
abbrev dktX3_bake_4 : List UInt8 := dkwX3_bake_4 ++ []
def dkwX3_bake_3 : List UInt8 := [180, 0, 9, 29, 6, 79, 42, 180, 0, 24, 29, 28, 79, 42, 180, 0, 27, 29, 27, 79, 42, 180, 0, 42]
abbrev dktX3_bake_3 : List UInt8 := dkwX3_bake_3 ++ dktX3_bake_4
def dkwX3_bake_2 : List UInt8 := [180, 0, 64, 28, 46, 42, 180, 0, 70, 29, 182, 0, 169, 180, 0, 199, 159, 0, 6, 167, 0, 43, 42]
abbrev dktX3_bake_2 : List UInt8 := dkwX3_bake_2 ++ dktX3_bake_3
def dkwX3_bake_1 : List UInt8 := [180, 0, 9, 29, 46, 5, 160, 0, 80, 42, 180, 0, 39, 29, 46, 42, 29, 182, 0, 178, 161, 0, 66, 42]
abbrev dktX3_bake_1 : List UInt8 := dkwX3_bake_1 ++ dktX3_bake_2
def dkwX3_bake_0 : List UInt8 := [3, 61, 28, 42, 4, 182, 0, 132, 162, 0, 108, 42, 180, 0, 61, 28, 46, 62, 29, 2, 159, 0, 90, 42]
abbrev dktX3_bake_0 : List UInt8 := dkwX3_bake_0 ++ dktX3_bake_1
theorem dksX3_bake_0 : cX3_bake.data.toList.drop 0 = dktX3_bake_0 := by decide +kernel
theorem dksX3_bake_1 : cX3_bake.data.toList.drop 24 = dktX3_bake_1 := dk_seg dksX3_bake_0 24 rfl rfl
theorem dksX3_bake_2 : cX3_bake.data.toList.drop 48 = dktX3_bake_2 := dk_seg dksX3_bake_1 24 rfl rfl
theorem dksX3_bake_3 : cX3_bake.data.toList.drop 71 = dktX3_bake_3 := dk_seg dksX3_bake_2 23 rfl rfl
theorem dksX3_bake_4 : cX3_bake.data.toList.drop 95 = dktX3_bake_4 := dk_seg dksX3_bake_3 24 rfl rfl
theorem dX3_bake_0 : decode cX3_bake 0 = .ok (.iconst 0, 1) := dk_3 (dk_at dksX3_bake_0 0 rfl rfl)
theorem dX3_bake_1 : decode cX3_bake 1 = .ok (.istore_n 2, 1) := dk_61 (dk_at dksX3_bake_0 1 rfl rfl)
theorem dX3_bake_2 : decode cX3_bake 2 = .ok (.iload_n 2, 1) := dk_28 (dk_at dksX3_bake_0 2 rfl rfl)
theorem dX3_bake_3 : decode cX3_bake 3 = .ok (.aload_n 0, 1) := dk_42 (dk_at dksX3_bake_0 3 rfl rfl)
theorem dX3_bake_4 : decode cX3_bake 4 = .ok (.iconst 1, 1) := dk_4 (dk_at dksX3_bake_0 4 rfl rfl)
theorem dX3_bake_5 : decode cX3_bake 5 = .ok (.invokevirtual 132, 3) := dk_182 0 132 (dk_at dksX3_bake_0 5 rfl rfl)
theorem dX3_bake_8 : decode cX3_bake 8 = .ok (.if_icmp .ge 108, 3) := dk_162 0 108 (dk_at dksX3_bake_0 8 rfl rfl)
theorem dX3_bake_11 : decode cX3_bake 11 = .ok (.aload_n 0, 1) := dk_42 (dk_at dksX3_bake_0 11 rfl rfl)
theorem dX3_bake_12 : decode cX3_bake 12 = .ok (.getfield 61, 3) := dk_180 0 61 (dk_at dksX3_bake_0 12 rfl rfl)
theorem dX3_bake_15 : decode cX3_bake 15 = .ok (.iload_n 2, 1) := dk_28 (dk_at dksX3_bake_0 15 rfl rfl)
theorem dX3_bake_16 : decode cX3_bake 16 = .ok (.iaload, 1) := dk_46 (dk_at dksX3_bake_0 16 rfl rfl)
theorem dX3_bake_17 : decode cX3_bake 17 = .ok (.istore_n 3, 1) := dk_62 (dk_at dksX3_bake_0 17 rfl rfl)
theorem dX3_bake_18 : decode cX3_bake 18 = .ok (.iload_n 3, 1) := dk_29 (dk_at dksX3_bake_0 18 rfl rfl)
theorem dX3_bake_19 : decode cX3_bake 19 = .ok (.iconst (-1), 1) := dk_2 (dk_at dksX3_bake_0 19 rfl rfl)
theorem dX3_bake_20 : decode cX3_bake 20 = .ok (.if_icmp .eq 90, 3) := dk_159 0 90 (dk_at dksX3_bake_0 20 rfl rfl)
theorem dX3_bake_23 : decode cX3_bake 23 = .ok (.aload_n 0, 1) := dk_42 (dk_at dksX3_bake_0 23 rfl rfl)
theorem dX3_bake_24 : decode cX3_bake 24 = .ok (.getfield 9, 3) := dk_180 0 9 (dk_at dksX3_bake_1 0 rfl rfl)
theorem dX3_bake_27 : decode cX3_bake 27 = .ok (.iload_n 3, 1) := dk_29 (dk_at dksX3_bake_1 3 rfl rfl)
theorem dX3_bake_28 : decode cX3_bake 28 = .ok (.iaload, 1) := dk_46 (dk_at dksX3_bake_1 4 rfl rfl)
theorem dX3_bake_29 : decode cX3_bake 29 = .ok (.iconst 2, 1) := dk_5 (dk_at dksX3_bake_1 5 rfl rfl)
theorem dX3_bake_30 : decode cX3_bake 30 = .ok (.if_icmp .ne 80, 3) := dk_160 0 80 (dk_at dksX3_bake_1 6 rfl rfl)
theorem dX3_bake_33 : decode cX3_bake 33 = .ok (.aload_n 0, 1) := dk_42 (dk_at dksX3_bake_1 9 rfl rfl)
theorem dX3_bake_34 : decode cX3_bake 34 = .ok (.getfield 39, 3) := dk_180 0 39 (dk_at dksX3_bake_1 10 rfl rfl)
theorem dX3_bake_37 : decode cX3_bake 37 = .ok (.iload_n 3, 1) := dk_29 (dk_at dksX3_bake_1 13 rfl rfl)
theorem dX3_bake_38 : decode cX3_bake 38 = .ok (.iaload, 1) := dk_46 (dk_at dksX3_bake_1 14 rfl rfl)
theorem dX3_bake_39 : decode cX3_bake 39 = .ok (.aload_n 0, 1) := dk_42 (dk_at dksX3_bake_1 15 rfl rfl)
theorem dX3_bake_40 : decode cX3_bake 40 = .ok (.iload_n 3, 1) := dk_29 (dk_at dksX3_bake_1 16 rfl rfl)
theorem dX3_bake_41 : decode cX3_bake 41 = .ok (.invokevirtual 178, 3) := dk_182 0 178 (dk_at dksX3_bake_1 17 rfl rfl)
theorem dX3_bake_44 : decode cX3_bake 44 = .ok (.if_icmp .lt 66, 3) := dk_161 0 66 (dk_at dksX3_bake_1 20 rfl rfl)
theorem dX3_bake_47 : decode cX3_bake 47 = .ok (.aload_n 0, 1) := dk_42 (dk_at dksX3_bake_1 23 rfl rfl)
theorem dX3_bake_48 : decode cX3_bake 48 = .ok (.getfield 64, 3) := dk_180 0 64 (dk_at dksX3_bake_2 0 rfl rfl)
theorem dX3_bake_51 : decode cX3_bake 51 = .ok (.iload_n 2, 1) := dk_28 (dk_at dksX3_bake_2 3 rfl rfl)
theorem dX3_bake_52 : decode cX3_bake 52 = .ok (.iaload, 1) := dk_46 (dk_at dksX3_bake_2 4 rfl rfl)
theorem dX3_bake_53 : decode cX3_bake 53 = .ok (.aload_n 0, 1) := dk_42 (dk_at dksX3_bake_2 5 rfl rfl)
theorem dX3_bake_54 : decode cX3_bake 54 = .ok (.getfield 70, 3) := dk_180 0 70 (dk_at dksX3_bake_2 6 rfl rfl)
theorem dX3_bake_57 : decode cX3_bake 57 = .ok (.iload_n 3, 1) := dk_29 (dk_at dksX3_bake_2 9 rfl rfl)
theorem dX3_bake_58 : decode cX3_bake 58 = .ok (.invokevirtual 169, 3) := dk_182 0 169 (dk_at dksX3_bake_2 10 rfl rfl)
theorem dX3_bake_61 : decode cX3_bake 61 = .ok (.getfield 199, 3) := dk_180 0 199 (dk_at dksX3_bake_2 13 rfl rfl)
theorem dX3_bake_64 : decode cX3_bake 64 = .ok (.if_icmp .eq 6, 3) := dk_159 0 6 (dk_at dksX3_bake_2 16 rfl rfl)
theorem dX3_bake_67 : decode cX3_bake 67 = .ok (.goto 43, 3) := dk_167 0 43 (dk_at dksX3_bake_2 19 rfl rfl)
theorem dX3_bake_70 : decode cX3_bake 70 = .ok (.aload_n 0, 1) := dk_42 (dk_at dksX3_bake_2 22 rfl rfl)
theorem dX3_bake_71 : decode cX3_bake 71 = .ok (.getfield 9, 3) := dk_180 0 9 (dk_at dksX3_bake_3 0 rfl rfl)
theorem dX3_bake_74 : decode cX3_bake 74 = .ok (.iload_n 3, 1) := dk_29 (dk_at dksX3_bake_3 3 rfl rfl)
theorem dX3_bake_75 : decode cX3_bake 75 = .ok (.iconst 3, 1) := dk_6 (dk_at dksX3_bake_3 4 rfl rfl)
theorem dX3_bake_76 : decode cX3_bake 76 = .ok (.iastore, 1) := dk_79 (dk_at dksX3_bake_3 5 rfl rfl)
theorem dX3_bake_77 : decode cX3_bake 77 = .ok (.aload_n 0, 1) := dk_42 (dk_at dksX3_bake_3 6 rfl rfl)
theorem dX3_bake_78 : decode cX3_bake 78 = .ok (.getfield 24, 3) := dk_180 0 24 (dk_at dksX3_bake_3 7 rfl rfl)
theorem dX3_bake_81 : decode cX3_bake 81 = .ok (.iload_n 3, 1) := dk_29 (dk_at dksX3_bake_3 10 rfl rfl)
theorem dX3_bake_82 : decode cX3_bake 82 = .ok (.iload_n 2, 1) := dk_28 (dk_at dksX3_bake_3 11 rfl rfl)
theorem dX3_bake_83 : decode cX3_bake 83 = .ok (.iastore, 1) := dk_79 (dk_at dksX3_bake_3 12 rfl rfl)
theorem dX3_bake_84 : decode cX3_bake 84 = .ok (.aload_n 0, 1) := dk_42 (dk_at dksX3_bake_3 13 rfl rfl)
theorem dX3_bake_85 : decode cX3_bake 85 = .ok (.getfield 27, 3) := dk_180 0 27 (dk_at dksX3_bake_3 14 rfl rfl)
theorem dX3_bake_88 : decode cX3_bake 88 = .ok (.iload_n 3, 1) := dk_29 (dk_at dksX3_bake_3 17 rfl rfl)
theorem dX3_bake_89 : decode cX3_bake 89 = .ok (.iload_n 1, 1) := dk_27 (dk_at dksX3_bake_3 18 rfl rfl)
theorem dX3_bake_90 : decode cX3_bake 90 = .ok (.iastore, 1) := dk_79 (dk_at dksX3_bake_3 19 rfl rfl)
theorem dX3_bake_91 : decode cX3_bake 91 = .ok (.aload_n 0, 1) := dk_42 (dk_at dksX3_bake_3 20 rfl rfl)
theorem dX3_bake_92 : decode cX3_bake 92 = .ok (.getfield 42, 3) := dk_180 0 42 (dk_at dksX3_bake_3 21 rfl rfl)
theorem dX3_bake_95 : decode cX3_bake 95 = .ok (.iload_n 3, 1) := dk_29 (dk_at dksX3_bake_4 0 rfl rfl)
theorem dX3_bake_96 : decode cX3_bake 96 = .ok (.aload_n 0, 1) := dk_42 (dk_at dksX3_bake_4 1 rfl rfl)
theorem dX3_bake_97 : decode cX3_bake 97 = .ok (.getfield 39, 3) := dk_180 0 39 (dk_at dksX3_bake_4 2 rfl rfl)
theorem dX3_bake_100 : decode cX3_bake 100 = .ok (.iload_n 3, 1) := dk_29 (dk_at dksX3_bake_4 5 rfl rfl)
theorem dX3_bake_101 : decode cX3_bake 101 = .ok (.iaload, 1) := dk_46 (dk_at dksX3_bake_4 6 rfl rfl)
theorem dX3_bake_102 : decode cX3_bake 102 = .ok (.iastore, 1) := dk_79 (dk_at dksX3_bake_4 7 rfl rfl)
theorem dX3_bake_103 : decode cX3_bake 103 = .ok (.aload_n 0, 1) := dk_42 (dk_at dksX3_bake_4 8 rfl rfl)
theorem dX3_bake_104 : decode cX3_bake 104 = .ok (.getfield 45, 3) := dk_180 0 45 (dk_at dksX3_bake_4 9 rfl rfl)
theorem dX3_bake_107 : decode cX3_bake 107 = .ok (.iload_n 3, 1) := dk_29 (dk_at dksX3_bake_4 12 rfl rfl)
theorem dX3_bake_108 : decode cX3_bake 108 = .ok (.iconst 0, 1) := dk_3 (dk_at dksX3_bake_4 13 rfl rfl)
theorem dX3_bake_109 : decode cX3_bake 109 = .ok (.bastore, 1) := dk_84 (dk_at dksX3_bake_4 14 rfl rfl)
theorem dX3_bake_110 : decode cX3_bake 110 = .ok (.iinc 2 1, 3) := dk_132 2 1 (dk_at dksX3_bake_4 15 rfl rfl)
theorem dX3_bake_113 : decode cX3_bake 113 = .ok (.goto (-111), 3) := dk_167 255 145 (dk_at dksX3_bake_4 18 rfl rfl)
theorem dX3_bake_116 : decode cX3_bake 116 = .ok (.return_, 1) := dk_177 (dk_at dksX3_bake_4 21 rfl rfl)
abbrev cX3_shelve : ByteArray := prog_6_method_20_code
def yX3_shelve : MethodName := ⟨RX3, "shelve", "()V"⟩
def dkwX3_shelve_3 : List UInt8 := [132, 2, 1, 167, 255, 198, 177]
abbrev dktX3_shelve_3 : List UInt8 := dkwX3_shelve_3 ++ []
def dkwX3_shelve_2 : List UInt8 := [180, 0, 39, 28, 46, 42, 28, 182, 0, 178, 161, 0, 13, 42, 180, 0, 45, 28, 4, 84, 132, 1, 255]
abbrev dktX3_shelve_2 : List UInt8 := dkwX3_shelve_2 ++ dktX3_shelve_3
def dkwX3_shelve_1 : List UInt8 := [158, 0, 52, 42, 180, 0, 9, 28, 46, 5, 160, 0, 36, 42, 180, 0, 45, 28, 51, 154, 0, 27, 42]
abbrev dktX3_shelve_1 : List UInt8 := dkwX3_shelve_1 ++ dktX3_shelve_2
def dkwX3_shelve_0 : List UInt8 := [42, 5, 182, 0, 132, 42, 182, 0, 215, 100, 60, 3, 61, 28, 42, 180, 0, 99, 162, 0, 56, 27]
abbrev dktX3_shelve_0 : List UInt8 := dkwX3_shelve_0 ++ dktX3_shelve_1
theorem dksX3_shelve_0 : cX3_shelve.data.toList.drop 0 = dktX3_shelve_0 := by decide +kernel
theorem dksX3_shelve_1 : cX3_shelve.data.toList.drop 22 = dktX3_shelve_1 := dk_seg dksX3_shelve_0 22 rfl rfl
theorem dksX3_shelve_2 : cX3_shelve.data.toList.drop 45 = dktX3_shelve_2 := dk_seg dksX3_shelve_1 23 rfl rfl
theorem dksX3_shelve_3 : cX3_shelve.data.toList.drop 68 = dktX3_shelve_3 := dk_seg dksX3_shelve_2 23 rfl rfl
theorem dX3_shelve_0 : decode cX3_shelve 0 = .ok (.aload_n 0, 1) := dk_42 (dk_at dksX3_shelve_0 0 rfl rfl)
theorem dX3_shelve_1 : decode cX3_shelve 1 = .ok (.iconst 2, 1) := dk_5 (dk_at dksX3_shelve_0 1 rfl rfl)
theorem dX3_shelve_2 : decode cX3_shelve 2 = .ok (.invokevirtual 132, 3) := dk_182 0 132 (dk_at dksX3_shelve_0 2 rfl rfl)
theorem dX3_shelve_5 : decode cX3_shelve 5 = .ok (.aload_n 0, 1) := dk_42 (dk_at dksX3_shelve_0 5 rfl rfl)
theorem dX3_shelve_6 : decode cX3_shelve 6 = .ok (.invokevirtual 215, 3) := dk_182 0 215 (dk_at dksX3_shelve_0 6 rfl rfl)
theorem dX3_shelve_9 : decode cX3_shelve 9 = .ok (.isub, 1) := dk_100 (dk_at dksX3_shelve_0 9 rfl rfl)
theorem dX3_shelve_10 : decode cX3_shelve 10 = .ok (.istore_n 1, 1) := dk_60 (dk_at dksX3_shelve_0 10 rfl rfl)
theorem dX3_shelve_11 : decode cX3_shelve 11 = .ok (.iconst 0, 1) := dk_3 (dk_at dksX3_shelve_0 11 rfl rfl)
theorem dX3_shelve_12 : decode cX3_shelve 12 = .ok (.istore_n 2, 1) := dk_61 (dk_at dksX3_shelve_0 12 rfl rfl)
theorem dX3_shelve_13 : decode cX3_shelve 13 = .ok (.iload_n 2, 1) := dk_28 (dk_at dksX3_shelve_0 13 rfl rfl)
theorem dX3_shelve_14 : decode cX3_shelve 14 = .ok (.aload_n 0, 1) := dk_42 (dk_at dksX3_shelve_0 14 rfl rfl)
theorem dX3_shelve_15 : decode cX3_shelve 15 = .ok (.getfield 99, 3) := dk_180 0 99 (dk_at dksX3_shelve_0 15 rfl rfl)
theorem dX3_shelve_18 : decode cX3_shelve 18 = .ok (.if_icmp .ge 56, 3) := dk_162 0 56 (dk_at dksX3_shelve_0 18 rfl rfl)
theorem dX3_shelve_21 : decode cX3_shelve 21 = .ok (.iload_n 1, 1) := dk_27 (dk_at dksX3_shelve_0 21 rfl rfl)
theorem dX3_shelve_22 : decode cX3_shelve 22 = .ok (.ifCond .le 52, 3) := dk_158 0 52 (dk_at dksX3_shelve_1 0 rfl rfl)
theorem dX3_shelve_25 : decode cX3_shelve 25 = .ok (.aload_n 0, 1) := dk_42 (dk_at dksX3_shelve_1 3 rfl rfl)
theorem dX3_shelve_26 : decode cX3_shelve 26 = .ok (.getfield 9, 3) := dk_180 0 9 (dk_at dksX3_shelve_1 4 rfl rfl)
theorem dX3_shelve_29 : decode cX3_shelve 29 = .ok (.iload_n 2, 1) := dk_28 (dk_at dksX3_shelve_1 7 rfl rfl)
theorem dX3_shelve_30 : decode cX3_shelve 30 = .ok (.iaload, 1) := dk_46 (dk_at dksX3_shelve_1 8 rfl rfl)
theorem dX3_shelve_31 : decode cX3_shelve 31 = .ok (.iconst 2, 1) := dk_5 (dk_at dksX3_shelve_1 9 rfl rfl)
theorem dX3_shelve_32 : decode cX3_shelve 32 = .ok (.if_icmp .ne 36, 3) := dk_160 0 36 (dk_at dksX3_shelve_1 10 rfl rfl)
theorem dX3_shelve_35 : decode cX3_shelve 35 = .ok (.aload_n 0, 1) := dk_42 (dk_at dksX3_shelve_1 13 rfl rfl)
theorem dX3_shelve_36 : decode cX3_shelve 36 = .ok (.getfield 45, 3) := dk_180 0 45 (dk_at dksX3_shelve_1 14 rfl rfl)
theorem dX3_shelve_39 : decode cX3_shelve 39 = .ok (.iload_n 2, 1) := dk_28 (dk_at dksX3_shelve_1 17 rfl rfl)
theorem dX3_shelve_40 : decode cX3_shelve 40 = .ok (.baload, 1) := dk_51 (dk_at dksX3_shelve_1 18 rfl rfl)
theorem dX3_shelve_41 : decode cX3_shelve 41 = .ok (.ifCond .ne 27, 3) := dk_154 0 27 (dk_at dksX3_shelve_1 19 rfl rfl)
theorem dX3_shelve_44 : decode cX3_shelve 44 = .ok (.aload_n 0, 1) := dk_42 (dk_at dksX3_shelve_1 22 rfl rfl)
theorem dX3_shelve_45 : decode cX3_shelve 45 = .ok (.getfield 39, 3) := dk_180 0 39 (dk_at dksX3_shelve_2 0 rfl rfl)
theorem dX3_shelve_48 : decode cX3_shelve 48 = .ok (.iload_n 2, 1) := dk_28 (dk_at dksX3_shelve_2 3 rfl rfl)
theorem dX3_shelve_49 : decode cX3_shelve 49 = .ok (.iaload, 1) := dk_46 (dk_at dksX3_shelve_2 4 rfl rfl)
theorem dX3_shelve_50 : decode cX3_shelve 50 = .ok (.aload_n 0, 1) := dk_42 (dk_at dksX3_shelve_2 5 rfl rfl)
theorem dX3_shelve_51 : decode cX3_shelve 51 = .ok (.iload_n 2, 1) := dk_28 (dk_at dksX3_shelve_2 6 rfl rfl)
theorem dX3_shelve_52 : decode cX3_shelve 52 = .ok (.invokevirtual 178, 3) := dk_182 0 178 (dk_at dksX3_shelve_2 7 rfl rfl)
theorem dX3_shelve_55 : decode cX3_shelve 55 = .ok (.if_icmp .lt 13, 3) := dk_161 0 13 (dk_at dksX3_shelve_2 10 rfl rfl)
theorem dX3_shelve_58 : decode cX3_shelve 58 = .ok (.aload_n 0, 1) := dk_42 (dk_at dksX3_shelve_2 13 rfl rfl)
theorem dX3_shelve_59 : decode cX3_shelve 59 = .ok (.getfield 45, 3) := dk_180 0 45 (dk_at dksX3_shelve_2 14 rfl rfl)
theorem dX3_shelve_62 : decode cX3_shelve 62 = .ok (.iload_n 2, 1) := dk_28 (dk_at dksX3_shelve_2 17 rfl rfl)
theorem dX3_shelve_63 : decode cX3_shelve 63 = .ok (.iconst 1, 1) := dk_4 (dk_at dksX3_shelve_2 18 rfl rfl)
theorem dX3_shelve_64 : decode cX3_shelve 64 = .ok (.bastore, 1) := dk_84 (dk_at dksX3_shelve_2 19 rfl rfl)
theorem dX3_shelve_65 : decode cX3_shelve 65 = .ok (.iinc 1 (-1), 3) := dk_132 1 255 (dk_at dksX3_shelve_2 20 rfl rfl)
theorem dX3_shelve_68 : decode cX3_shelve 68 = .ok (.iinc 2 1, 3) := dk_132 2 1 (dk_at dksX3_shelve_3 0 rfl rfl)
theorem dX3_shelve_71 : decode cX3_shelve 71 = .ok (.goto (-58), 3) := dk_167 255 198 (dk_at dksX3_shelve_3 3 rfl rfl)
theorem dX3_shelve_74 : decode cX3_shelve 74 = .ok (.return_, 1) := dk_177 (dk_at dksX3_shelve_3 6 rfl rfl)
abbrev cX3_shelved : ByteArray := prog_6_method_18_code
def yX3_shelved : MethodName := ⟨RX3, "shelved", "()I"⟩
def dkwX3_shelved_1 : List UInt8 := [167, 0, 4, 3, 96, 60, 132, 2, 1, 167, 255, 228, 27, 172]
abbrev dktX3_shelved_1 : List UInt8 := dkwX3_shelved_1 ++ []
def dkwX3_shelved_0 : List UInt8 := [3, 60, 3, 61, 28, 42, 180, 0, 99, 162, 0, 26, 27, 42, 180, 0, 45, 28, 51, 153, 0, 7, 4]
abbrev dktX3_shelved_0 : List UInt8 := dkwX3_shelved_0 ++ dktX3_shelved_1
theorem dksX3_shelved_0 : cX3_shelved.data.toList.drop 0 = dktX3_shelved_0 := by decide +kernel
theorem dksX3_shelved_1 : cX3_shelved.data.toList.drop 23 = dktX3_shelved_1 := dk_seg dksX3_shelved_0 23 rfl rfl
theorem dX3_shelved_0 : decode cX3_shelved 0 = .ok (.iconst 0, 1) := dk_3 (dk_at dksX3_shelved_0 0 rfl rfl)
theorem dX3_shelved_1 : decode cX3_shelved 1 = .ok (.istore_n 1, 1) := dk_60 (dk_at dksX3_shelved_0 1 rfl rfl)
theorem dX3_shelved_2 : decode cX3_shelved 2 = .ok (.iconst 0, 1) := dk_3 (dk_at dksX3_shelved_0 2 rfl rfl)
theorem dX3_shelved_3 : decode cX3_shelved 3 = .ok (.istore_n 2, 1) := dk_61 (dk_at dksX3_shelved_0 3 rfl rfl)
theorem dX3_shelved_4 : decode cX3_shelved 4 = .ok (.iload_n 2, 1) := dk_28 (dk_at dksX3_shelved_0 4 rfl rfl)
theorem dX3_shelved_5 : decode cX3_shelved 5 = .ok (.aload_n 0, 1) := dk_42 (dk_at dksX3_shelved_0 5 rfl rfl)
theorem dX3_shelved_6 : decode cX3_shelved 6 = .ok (.getfield 99, 3) := dk_180 0 99 (dk_at dksX3_shelved_0 6 rfl rfl)
theorem dX3_shelved_9 : decode cX3_shelved 9 = .ok (.if_icmp .ge 26, 3) := dk_162 0 26 (dk_at dksX3_shelved_0 9 rfl rfl)
theorem dX3_shelved_12 : decode cX3_shelved 12 = .ok (.iload_n 1, 1) := dk_27 (dk_at dksX3_shelved_0 12 rfl rfl)
theorem dX3_shelved_13 : decode cX3_shelved 13 = .ok (.aload_n 0, 1) := dk_42 (dk_at dksX3_shelved_0 13 rfl rfl)
theorem dX3_shelved_14 : decode cX3_shelved 14 = .ok (.getfield 45, 3) := dk_180 0 45 (dk_at dksX3_shelved_0 14 rfl rfl)
theorem dX3_shelved_17 : decode cX3_shelved 17 = .ok (.iload_n 2, 1) := dk_28 (dk_at dksX3_shelved_0 17 rfl rfl)
theorem dX3_shelved_18 : decode cX3_shelved 18 = .ok (.baload, 1) := dk_51 (dk_at dksX3_shelved_0 18 rfl rfl)
theorem dX3_shelved_19 : decode cX3_shelved 19 = .ok (.ifCond .eq 7, 3) := dk_153 0 7 (dk_at dksX3_shelved_0 19 rfl rfl)
theorem dX3_shelved_22 : decode cX3_shelved 22 = .ok (.iconst 1, 1) := dk_4 (dk_at dksX3_shelved_0 22 rfl rfl)
theorem dX3_shelved_23 : decode cX3_shelved 23 = .ok (.goto 4, 3) := dk_167 0 4 (dk_at dksX3_shelved_1 0 rfl rfl)
theorem dX3_shelved_26 : decode cX3_shelved 26 = .ok (.iconst 0, 1) := dk_3 (dk_at dksX3_shelved_1 3 rfl rfl)
theorem dX3_shelved_27 : decode cX3_shelved 27 = .ok (.iadd, 1) := dk_96 (dk_at dksX3_shelved_1 4 rfl rfl)
theorem dX3_shelved_28 : decode cX3_shelved 28 = .ok (.istore_n 1, 1) := dk_60 (dk_at dksX3_shelved_1 5 rfl rfl)
theorem dX3_shelved_29 : decode cX3_shelved 29 = .ok (.iinc 2 1, 3) := dk_132 2 1 (dk_at dksX3_shelved_1 6 rfl rfl)
theorem dX3_shelved_32 : decode cX3_shelved 32 = .ok (.goto (-28), 3) := dk_167 255 228 (dk_at dksX3_shelved_1 9 rfl rfl)
theorem dX3_shelved_35 : decode cX3_shelved 35 = .ok (.iload_n 1, 1) := dk_27 (dk_at dksX3_shelved_1 12 rfl rfl)
theorem dX3_shelved_36 : decode cX3_shelved 36 = .ok (.ireturn, 1) := dk_172 (dk_at dksX3_shelved_1 13 rfl rfl)
abbrev cX3_mix : ByteArray := prog_6_method_22_code
def yX3_mix : MethodName := ⟨RX3, "mix", "(I)V"⟩
def dkwX3_mix_7 : List UInt8 := [25, 4, 180, 0, 224, 79, 42, 180, 0, 58, 28, 92, 46, 4, 96, 79, 132, 2, 1, 167, 255, 74, 177]
abbrev dktX3_mix_7 : List UInt8 := dkwX3_mix_7 ++ []
def dkwX3_mix_6 : List UInt8 := [42, 180, 0, 52, 28, 42, 180, 0, 18, 29, 46, 25, 4, 180, 0, 226, 96, 79, 42, 180, 0, 55, 28]
abbrev dktX3_mix_6 : List UInt8 := dkwX3_mix_6 ++ dktX3_mix_7
def dkwX3_mix_5 : List UInt8 := [27, 21, 5, 153, 0, 11, 42, 6, 182, 0, 132, 167, 0, 4, 3, 96, 79, 42, 180, 0, 49, 28, 29, 79]
abbrev dktX3_mix_5 : List UInt8 := dkwX3_mix_5 ++ dktX3_mix_6
def dkwX3_mix_4 : List UInt8 := [3, 96, 181, 0, 102, 42, 180, 0, 9, 29, 4, 79, 42, 180, 0, 15, 29, 28, 79, 42, 180, 0, 18, 29]
abbrev dktX3_mix_4 : List UInt8 := dkwX3_mix_4 ++ dktX3_mix_5
def dkwX3_mix_3 : List UInt8 := [159, 0, 7, 4, 167, 0, 4, 3, 54, 5, 42, 89, 180, 0, 102, 21, 5, 153, 0, 7, 4, 167, 0, 4]
abbrev dktX3_mix_3 : List UInt8 := dkwX3_mix_3 ++ dktX3_mix_4
def dkwX3_mix_2 : List UInt8 := [58, 4, 42, 180, 0, 55, 28, 46, 2, 159, 0, 21, 42, 180, 0, 55, 28, 46, 25, 4, 180, 0, 224]
abbrev dktX3_mix_2 : List UInt8 := dkwX3_mix_2 ++ dktX3_mix_3
def dkwX3_mix_1 : List UInt8 := [182, 0, 221, 167, 0, 4, 2, 62, 29, 2, 160, 0, 6, 167, 0, 145, 42, 180, 0, 70, 29, 182, 0, 169]
abbrev dktX3_mix_1 : List UInt8 := dkwX3_mix_1 ++ dktX3_mix_2
def dkwX3_mix_0 : List UInt8 := [3, 61, 28, 42, 3, 182, 0, 132, 162, 0, 179, 42, 180, 0, 49, 28, 46, 2, 160, 0, 11, 42, 27]
abbrev dktX3_mix_0 : List UInt8 := dkwX3_mix_0 ++ dktX3_mix_1
theorem dksX3_mix_0 : cX3_mix.data.toList.drop 0 = dktX3_mix_0 := by decide +kernel
theorem dksX3_mix_1 : cX3_mix.data.toList.drop 23 = dktX3_mix_1 := dk_seg dksX3_mix_0 23 rfl rfl
theorem dksX3_mix_2 : cX3_mix.data.toList.drop 47 = dktX3_mix_2 := dk_seg dksX3_mix_1 24 rfl rfl
theorem dksX3_mix_3 : cX3_mix.data.toList.drop 70 = dktX3_mix_3 := dk_seg dksX3_mix_2 23 rfl rfl
theorem dksX3_mix_4 : cX3_mix.data.toList.drop 94 = dktX3_mix_4 := dk_seg dksX3_mix_3 24 rfl rfl
theorem dksX3_mix_5 : cX3_mix.data.toList.drop 118 = dktX3_mix_5 := dk_seg dksX3_mix_4 24 rfl rfl
theorem dksX3_mix_6 : cX3_mix.data.toList.drop 142 = dktX3_mix_6 := dk_seg dksX3_mix_5 24 rfl rfl
theorem dksX3_mix_7 : cX3_mix.data.toList.drop 165 = dktX3_mix_7 := dk_seg dksX3_mix_6 23 rfl rfl
theorem dX3_mix_0 : decode cX3_mix 0 = .ok (.iconst 0, 1) := dk_3 (dk_at dksX3_mix_0 0 rfl rfl)
theorem dX3_mix_1 : decode cX3_mix 1 = .ok (.istore_n 2, 1) := dk_61 (dk_at dksX3_mix_0 1 rfl rfl)
theorem dX3_mix_2 : decode cX3_mix 2 = .ok (.iload_n 2, 1) := dk_28 (dk_at dksX3_mix_0 2 rfl rfl)
theorem dX3_mix_3 : decode cX3_mix 3 = .ok (.aload_n 0, 1) := dk_42 (dk_at dksX3_mix_0 3 rfl rfl)
theorem dX3_mix_4 : decode cX3_mix 4 = .ok (.iconst 0, 1) := dk_3 (dk_at dksX3_mix_0 4 rfl rfl)
theorem dX3_mix_5 : decode cX3_mix 5 = .ok (.invokevirtual 132, 3) := dk_182 0 132 (dk_at dksX3_mix_0 5 rfl rfl)
theorem dX3_mix_8 : decode cX3_mix 8 = .ok (.if_icmp .ge 179, 3) := dk_162 0 179 (dk_at dksX3_mix_0 8 rfl rfl)
theorem dX3_mix_11 : decode cX3_mix 11 = .ok (.aload_n 0, 1) := dk_42 (dk_at dksX3_mix_0 11 rfl rfl)
theorem dX3_mix_12 : decode cX3_mix 12 = .ok (.getfield 49, 3) := dk_180 0 49 (dk_at dksX3_mix_0 12 rfl rfl)
theorem dX3_mix_15 : decode cX3_mix 15 = .ok (.iload_n 2, 1) := dk_28 (dk_at dksX3_mix_0 15 rfl rfl)
theorem dX3_mix_16 : decode cX3_mix 16 = .ok (.iaload, 1) := dk_46 (dk_at dksX3_mix_0 16 rfl rfl)
theorem dX3_mix_17 : decode cX3_mix 17 = .ok (.iconst (-1), 1) := dk_2 (dk_at dksX3_mix_0 17 rfl rfl)
theorem dX3_mix_18 : decode cX3_mix 18 = .ok (.if_icmp .ne 11, 3) := dk_160 0 11 (dk_at dksX3_mix_0 18 rfl rfl)
theorem dX3_mix_21 : decode cX3_mix 21 = .ok (.aload_n 0, 1) := dk_42 (dk_at dksX3_mix_0 21 rfl rfl)
theorem dX3_mix_22 : decode cX3_mix 22 = .ok (.iload_n 1, 1) := dk_27 (dk_at dksX3_mix_0 22 rfl rfl)
theorem dX3_mix_23 : decode cX3_mix 23 = .ok (.invokevirtual 221, 3) := dk_182 0 221 (dk_at dksX3_mix_1 0 rfl rfl)
theorem dX3_mix_26 : decode cX3_mix 26 = .ok (.goto 4, 3) := dk_167 0 4 (dk_at dksX3_mix_1 3 rfl rfl)
theorem dX3_mix_29 : decode cX3_mix 29 = .ok (.iconst (-1), 1) := dk_2 (dk_at dksX3_mix_1 6 rfl rfl)
theorem dX3_mix_30 : decode cX3_mix 30 = .ok (.istore_n 3, 1) := dk_62 (dk_at dksX3_mix_1 7 rfl rfl)
theorem dX3_mix_31 : decode cX3_mix 31 = .ok (.iload_n 3, 1) := dk_29 (dk_at dksX3_mix_1 8 rfl rfl)
theorem dX3_mix_32 : decode cX3_mix 32 = .ok (.iconst (-1), 1) := dk_2 (dk_at dksX3_mix_1 9 rfl rfl)
theorem dX3_mix_33 : decode cX3_mix 33 = .ok (.if_icmp .ne 6, 3) := dk_160 0 6 (dk_at dksX3_mix_1 10 rfl rfl)
theorem dX3_mix_36 : decode cX3_mix 36 = .ok (.goto 145, 3) := dk_167 0 145 (dk_at dksX3_mix_1 13 rfl rfl)
theorem dX3_mix_39 : decode cX3_mix 39 = .ok (.aload_n 0, 1) := dk_42 (dk_at dksX3_mix_1 16 rfl rfl)
theorem dX3_mix_40 : decode cX3_mix 40 = .ok (.getfield 70, 3) := dk_180 0 70 (dk_at dksX3_mix_1 17 rfl rfl)
theorem dX3_mix_43 : decode cX3_mix 43 = .ok (.iload_n 3, 1) := dk_29 (dk_at dksX3_mix_1 20 rfl rfl)
theorem dX3_mix_44 : decode cX3_mix 44 = .ok (.invokevirtual 169, 3) := dk_182 0 169 (dk_at dksX3_mix_1 21 rfl rfl)
theorem dX3_mix_47 : decode cX3_mix 47 = .ok (.astore 4, 2) := dk_58 4 (dk_at dksX3_mix_2 0 rfl rfl)
theorem dX3_mix_49 : decode cX3_mix 49 = .ok (.aload_n 0, 1) := dk_42 (dk_at dksX3_mix_2 2 rfl rfl)
theorem dX3_mix_50 : decode cX3_mix 50 = .ok (.getfield 55, 3) := dk_180 0 55 (dk_at dksX3_mix_2 3 rfl rfl)
theorem dX3_mix_53 : decode cX3_mix 53 = .ok (.iload_n 2, 1) := dk_28 (dk_at dksX3_mix_2 6 rfl rfl)
theorem dX3_mix_54 : decode cX3_mix 54 = .ok (.iaload, 1) := dk_46 (dk_at dksX3_mix_2 7 rfl rfl)
theorem dX3_mix_55 : decode cX3_mix 55 = .ok (.iconst (-1), 1) := dk_2 (dk_at dksX3_mix_2 8 rfl rfl)
theorem dX3_mix_56 : decode cX3_mix 56 = .ok (.if_icmp .eq 21, 3) := dk_159 0 21 (dk_at dksX3_mix_2 9 rfl rfl)
theorem dX3_mix_59 : decode cX3_mix 59 = .ok (.aload_n 0, 1) := dk_42 (dk_at dksX3_mix_2 12 rfl rfl)
theorem dX3_mix_60 : decode cX3_mix 60 = .ok (.getfield 55, 3) := dk_180 0 55 (dk_at dksX3_mix_2 13 rfl rfl)
theorem dX3_mix_63 : decode cX3_mix 63 = .ok (.iload_n 2, 1) := dk_28 (dk_at dksX3_mix_2 16 rfl rfl)
theorem dX3_mix_64 : decode cX3_mix 64 = .ok (.iaload, 1) := dk_46 (dk_at dksX3_mix_2 17 rfl rfl)
theorem dX3_mix_65 : decode cX3_mix 65 = .ok (.aload 4, 2) := dk_25 4 (dk_at dksX3_mix_2 18 rfl rfl)
theorem dX3_mix_67 : decode cX3_mix 67 = .ok (.getfield 224, 3) := dk_180 0 224 (dk_at dksX3_mix_2 20 rfl rfl)
theorem dX3_mix_70 : decode cX3_mix 70 = .ok (.if_icmp .eq 7, 3) := dk_159 0 7 (dk_at dksX3_mix_3 0 rfl rfl)
theorem dX3_mix_73 : decode cX3_mix 73 = .ok (.iconst 1, 1) := dk_4 (dk_at dksX3_mix_3 3 rfl rfl)
theorem dX3_mix_74 : decode cX3_mix 74 = .ok (.goto 4, 3) := dk_167 0 4 (dk_at dksX3_mix_3 4 rfl rfl)
theorem dX3_mix_77 : decode cX3_mix 77 = .ok (.iconst 0, 1) := dk_3 (dk_at dksX3_mix_3 7 rfl rfl)
theorem dX3_mix_78 : decode cX3_mix 78 = .ok (.istore 5, 2) := dk_54 5 (dk_at dksX3_mix_3 8 rfl rfl)
theorem dX3_mix_80 : decode cX3_mix 80 = .ok (.aload_n 0, 1) := dk_42 (dk_at dksX3_mix_3 10 rfl rfl)
theorem dX3_mix_81 : decode cX3_mix 81 = .ok (.dup, 1) := dk_89 (dk_at dksX3_mix_3 11 rfl rfl)
theorem dX3_mix_82 : decode cX3_mix 82 = .ok (.getfield 102, 3) := dk_180 0 102 (dk_at dksX3_mix_3 12 rfl rfl)
theorem dX3_mix_85 : decode cX3_mix 85 = .ok (.iload 5, 2) := dk_21 5 (dk_at dksX3_mix_3 15 rfl rfl)
theorem dX3_mix_87 : decode cX3_mix 87 = .ok (.ifCond .eq 7, 3) := dk_153 0 7 (dk_at dksX3_mix_3 17 rfl rfl)
theorem dX3_mix_90 : decode cX3_mix 90 = .ok (.iconst 1, 1) := dk_4 (dk_at dksX3_mix_3 20 rfl rfl)
theorem dX3_mix_91 : decode cX3_mix 91 = .ok (.goto 4, 3) := dk_167 0 4 (dk_at dksX3_mix_3 21 rfl rfl)
theorem dX3_mix_94 : decode cX3_mix 94 = .ok (.iconst 0, 1) := dk_3 (dk_at dksX3_mix_4 0 rfl rfl)
theorem dX3_mix_95 : decode cX3_mix 95 = .ok (.iadd, 1) := dk_96 (dk_at dksX3_mix_4 1 rfl rfl)
theorem dX3_mix_96 : decode cX3_mix 96 = .ok (.putfield 102, 3) := dk_181 0 102 (dk_at dksX3_mix_4 2 rfl rfl)
theorem dX3_mix_99 : decode cX3_mix 99 = .ok (.aload_n 0, 1) := dk_42 (dk_at dksX3_mix_4 5 rfl rfl)
theorem dX3_mix_100 : decode cX3_mix 100 = .ok (.getfield 9, 3) := dk_180 0 9 (dk_at dksX3_mix_4 6 rfl rfl)
theorem dX3_mix_103 : decode cX3_mix 103 = .ok (.iload_n 3, 1) := dk_29 (dk_at dksX3_mix_4 9 rfl rfl)
theorem dX3_mix_104 : decode cX3_mix 104 = .ok (.iconst 1, 1) := dk_4 (dk_at dksX3_mix_4 10 rfl rfl)
theorem dX3_mix_105 : decode cX3_mix 105 = .ok (.iastore, 1) := dk_79 (dk_at dksX3_mix_4 11 rfl rfl)
theorem dX3_mix_106 : decode cX3_mix 106 = .ok (.aload_n 0, 1) := dk_42 (dk_at dksX3_mix_4 12 rfl rfl)
theorem dX3_mix_107 : decode cX3_mix 107 = .ok (.getfield 15, 3) := dk_180 0 15 (dk_at dksX3_mix_4 13 rfl rfl)
theorem dX3_mix_110 : decode cX3_mix 110 = .ok (.iload_n 3, 1) := dk_29 (dk_at dksX3_mix_4 16 rfl rfl)
theorem dX3_mix_111 : decode cX3_mix 111 = .ok (.iload_n 2, 1) := dk_28 (dk_at dksX3_mix_4 17 rfl rfl)
theorem dX3_mix_112 : decode cX3_mix 112 = .ok (.iastore, 1) := dk_79 (dk_at dksX3_mix_4 18 rfl rfl)
theorem dX3_mix_113 : decode cX3_mix 113 = .ok (.aload_n 0, 1) := dk_42 (dk_at dksX3_mix_4 19 rfl rfl)
theorem dX3_mix_114 : decode cX3_mix 114 = .ok (.getfield 18, 3) := dk_180 0 18 (dk_at dksX3_mix_4 20 rfl rfl)
theorem dX3_mix_117 : decode cX3_mix 117 = .ok (.iload_n 3, 1) := dk_29 (dk_at dksX3_mix_4 23 rfl rfl)
theorem dX3_mix_118 : decode cX3_mix 118 = .ok (.iload_n 1, 1) := dk_27 (dk_at dksX3_mix_5 0 rfl rfl)
theorem dX3_mix_119 : decode cX3_mix 119 = .ok (.iload 5, 2) := dk_21 5 (dk_at dksX3_mix_5 1 rfl rfl)
theorem dX3_mix_121 : decode cX3_mix 121 = .ok (.ifCond .eq 11, 3) := dk_153 0 11 (dk_at dksX3_mix_5 3 rfl rfl)
theorem dX3_mix_124 : decode cX3_mix 124 = .ok (.aload_n 0, 1) := dk_42 (dk_at dksX3_mix_5 6 rfl rfl)
theorem dX3_mix_125 : decode cX3_mix 125 = .ok (.iconst 3, 1) := dk_6 (dk_at dksX3_mix_5 7 rfl rfl)
theorem dX3_mix_126 : decode cX3_mix 126 = .ok (.invokevirtual 132, 3) := dk_182 0 132 (dk_at dksX3_mix_5 8 rfl rfl)
theorem dX3_mix_129 : decode cX3_mix 129 = .ok (.goto 4, 3) := dk_167 0 4 (dk_at dksX3_mix_5 11 rfl rfl)
theorem dX3_mix_132 : decode cX3_mix 132 = .ok (.iconst 0, 1) := dk_3 (dk_at dksX3_mix_5 14 rfl rfl)
theorem dX3_mix_133 : decode cX3_mix 133 = .ok (.iadd, 1) := dk_96 (dk_at dksX3_mix_5 15 rfl rfl)
theorem dX3_mix_134 : decode cX3_mix 134 = .ok (.iastore, 1) := dk_79 (dk_at dksX3_mix_5 16 rfl rfl)
theorem dX3_mix_135 : decode cX3_mix 135 = .ok (.aload_n 0, 1) := dk_42 (dk_at dksX3_mix_5 17 rfl rfl)
theorem dX3_mix_136 : decode cX3_mix 136 = .ok (.getfield 49, 3) := dk_180 0 49 (dk_at dksX3_mix_5 18 rfl rfl)
theorem dX3_mix_139 : decode cX3_mix 139 = .ok (.iload_n 2, 1) := dk_28 (dk_at dksX3_mix_5 21 rfl rfl)
theorem dX3_mix_140 : decode cX3_mix 140 = .ok (.iload_n 3, 1) := dk_29 (dk_at dksX3_mix_5 22 rfl rfl)
theorem dX3_mix_141 : decode cX3_mix 141 = .ok (.iastore, 1) := dk_79 (dk_at dksX3_mix_5 23 rfl rfl)
theorem dX3_mix_142 : decode cX3_mix 142 = .ok (.aload_n 0, 1) := dk_42 (dk_at dksX3_mix_6 0 rfl rfl)
theorem dX3_mix_143 : decode cX3_mix 143 = .ok (.getfield 52, 3) := dk_180 0 52 (dk_at dksX3_mix_6 1 rfl rfl)
theorem dX3_mix_146 : decode cX3_mix 146 = .ok (.iload_n 2, 1) := dk_28 (dk_at dksX3_mix_6 4 rfl rfl)
theorem dX3_mix_147 : decode cX3_mix 147 = .ok (.aload_n 0, 1) := dk_42 (dk_at dksX3_mix_6 5 rfl rfl)
theorem dX3_mix_148 : decode cX3_mix 148 = .ok (.getfield 18, 3) := dk_180 0 18 (dk_at dksX3_mix_6 6 rfl rfl)
theorem dX3_mix_151 : decode cX3_mix 151 = .ok (.iload_n 3, 1) := dk_29 (dk_at dksX3_mix_6 9 rfl rfl)
theorem dX3_mix_152 : decode cX3_mix 152 = .ok (.iaload, 1) := dk_46 (dk_at dksX3_mix_6 10 rfl rfl)
theorem dX3_mix_153 : decode cX3_mix 153 = .ok (.aload 4, 2) := dk_25 4 (dk_at dksX3_mix_6 11 rfl rfl)
theorem dX3_mix_155 : decode cX3_mix 155 = .ok (.getfield 226, 3) := dk_180 0 226 (dk_at dksX3_mix_6 13 rfl rfl)
theorem dX3_mix_158 : decode cX3_mix 158 = .ok (.iadd, 1) := dk_96 (dk_at dksX3_mix_6 16 rfl rfl)
theorem dX3_mix_159 : decode cX3_mix 159 = .ok (.iastore, 1) := dk_79 (dk_at dksX3_mix_6 17 rfl rfl)
theorem dX3_mix_160 : decode cX3_mix 160 = .ok (.aload_n 0, 1) := dk_42 (dk_at dksX3_mix_6 18 rfl rfl)
theorem dX3_mix_161 : decode cX3_mix 161 = .ok (.getfield 55, 3) := dk_180 0 55 (dk_at dksX3_mix_6 19 rfl rfl)
theorem dX3_mix_164 : decode cX3_mix 164 = .ok (.iload_n 2, 1) := dk_28 (dk_at dksX3_mix_6 22 rfl rfl)
theorem dX3_mix_165 : decode cX3_mix 165 = .ok (.aload 4, 2) := dk_25 4 (dk_at dksX3_mix_7 0 rfl rfl)
theorem dX3_mix_167 : decode cX3_mix 167 = .ok (.getfield 224, 3) := dk_180 0 224 (dk_at dksX3_mix_7 2 rfl rfl)
theorem dX3_mix_170 : decode cX3_mix 170 = .ok (.iastore, 1) := dk_79 (dk_at dksX3_mix_7 5 rfl rfl)
theorem dX3_mix_171 : decode cX3_mix 171 = .ok (.aload_n 0, 1) := dk_42 (dk_at dksX3_mix_7 6 rfl rfl)
theorem dX3_mix_172 : decode cX3_mix 172 = .ok (.getfield 58, 3) := dk_180 0 58 (dk_at dksX3_mix_7 7 rfl rfl)
theorem dX3_mix_175 : decode cX3_mix 175 = .ok (.iload_n 2, 1) := dk_28 (dk_at dksX3_mix_7 10 rfl rfl)
theorem dX3_mix_176 : decode cX3_mix 176 = .ok (.dup2, 1) := dk_92 (dk_at dksX3_mix_7 11 rfl rfl)
theorem dX3_mix_177 : decode cX3_mix 177 = .ok (.iaload, 1) := dk_46 (dk_at dksX3_mix_7 12 rfl rfl)
theorem dX3_mix_178 : decode cX3_mix 178 = .ok (.iconst 1, 1) := dk_4 (dk_at dksX3_mix_7 13 rfl rfl)
theorem dX3_mix_179 : decode cX3_mix 179 = .ok (.iadd, 1) := dk_96 (dk_at dksX3_mix_7 14 rfl rfl)
theorem dX3_mix_180 : decode cX3_mix 180 = .ok (.iastore, 1) := dk_79 (dk_at dksX3_mix_7 15 rfl rfl)
theorem dX3_mix_181 : decode cX3_mix 181 = .ok (.iinc 2 1, 3) := dk_132 2 1 (dk_at dksX3_mix_7 16 rfl rfl)
theorem dX3_mix_184 : decode cX3_mix 184 = .ok (.goto (-182), 3) := dk_167 255 74 (dk_at dksX3_mix_7 19 rfl rfl)
theorem dX3_mix_187 : decode cX3_mix 187 = .ok (.return_, 1) := dk_177 (dk_at dksX3_mix_7 22 rfl rfl)
abbrev cX3_nextBatch : ByteArray := prog_6_method_21_code
def yX3_nextBatch : MethodName := ⟨RX3, "nextBatch", "(I)I"⟩
def dkwX3_nextBatch_2 : List UInt8 := [167, 255, 213, 2, 172]
abbrev dktX3_nextBatch_2 : List UInt8 := dkwX3_nextBatch_2 ++ []
def dkwX3_nextBatch_1 : List UInt8 := [180, 0, 89, 28, 182, 0, 123, 192, 0, 127, 180, 0, 218, 27, 163, 0, 5, 28, 172, 132, 2, 1]
abbrev dktX3_nextBatch_1 : List UInt8 := dkwX3_nextBatch_1 ++ dktX3_nextBatch_2
def dkwX3_nextBatch_0 : List UInt8 := [3, 61, 28, 42, 180, 0, 99, 162, 0, 41, 42, 180, 0, 9, 28, 46, 154, 0, 26, 42, 180, 0, 70]
abbrev dktX3_nextBatch_0 : List UInt8 := dkwX3_nextBatch_0 ++ dktX3_nextBatch_1
theorem dksX3_nextBatch_0 : cX3_nextBatch.data.toList.drop 0 = dktX3_nextBatch_0 := by decide +kernel
theorem dksX3_nextBatch_1 : cX3_nextBatch.data.toList.drop 23 = dktX3_nextBatch_1 := dk_seg dksX3_nextBatch_0 23 rfl rfl
theorem dksX3_nextBatch_2 : cX3_nextBatch.data.toList.drop 45 = dktX3_nextBatch_2 := dk_seg dksX3_nextBatch_1 22 rfl rfl
theorem dX3_nextBatch_0 : decode cX3_nextBatch 0 = .ok (.iconst 0, 1) := dk_3 (dk_at dksX3_nextBatch_0 0 rfl rfl)
theorem dX3_nextBatch_1 : decode cX3_nextBatch 1 = .ok (.istore_n 2, 1) := dk_61 (dk_at dksX3_nextBatch_0 1 rfl rfl)
theorem dX3_nextBatch_2 : decode cX3_nextBatch 2 = .ok (.iload_n 2, 1) := dk_28 (dk_at dksX3_nextBatch_0 2 rfl rfl)
theorem dX3_nextBatch_3 : decode cX3_nextBatch 3 = .ok (.aload_n 0, 1) := dk_42 (dk_at dksX3_nextBatch_0 3 rfl rfl)
theorem dX3_nextBatch_4 : decode cX3_nextBatch 4 = .ok (.getfield 99, 3) := dk_180 0 99 (dk_at dksX3_nextBatch_0 4 rfl rfl)
theorem dX3_nextBatch_7 : decode cX3_nextBatch 7 = .ok (.if_icmp .ge 41, 3) := dk_162 0 41 (dk_at dksX3_nextBatch_0 7 rfl rfl)
theorem dX3_nextBatch_10 : decode cX3_nextBatch 10 = .ok (.aload_n 0, 1) := dk_42 (dk_at dksX3_nextBatch_0 10 rfl rfl)
theorem dX3_nextBatch_11 : decode cX3_nextBatch 11 = .ok (.getfield 9, 3) := dk_180 0 9 (dk_at dksX3_nextBatch_0 11 rfl rfl)
theorem dX3_nextBatch_14 : decode cX3_nextBatch 14 = .ok (.iload_n 2, 1) := dk_28 (dk_at dksX3_nextBatch_0 14 rfl rfl)
theorem dX3_nextBatch_15 : decode cX3_nextBatch 15 = .ok (.iaload, 1) := dk_46 (dk_at dksX3_nextBatch_0 15 rfl rfl)
theorem dX3_nextBatch_16 : decode cX3_nextBatch 16 = .ok (.ifCond .ne 26, 3) := dk_154 0 26 (dk_at dksX3_nextBatch_0 16 rfl rfl)
theorem dX3_nextBatch_19 : decode cX3_nextBatch 19 = .ok (.aload_n 0, 1) := dk_42 (dk_at dksX3_nextBatch_0 19 rfl rfl)
theorem dX3_nextBatch_20 : decode cX3_nextBatch 20 = .ok (.getfield 70, 3) := dk_180 0 70 (dk_at dksX3_nextBatch_0 20 rfl rfl)
theorem dX3_nextBatch_23 : decode cX3_nextBatch 23 = .ok (.getfield 89, 3) := dk_180 0 89 (dk_at dksX3_nextBatch_1 0 rfl rfl)
theorem dX3_nextBatch_26 : decode cX3_nextBatch 26 = .ok (.iload_n 2, 1) := dk_28 (dk_at dksX3_nextBatch_1 3 rfl rfl)
theorem dX3_nextBatch_27 : decode cX3_nextBatch 27 = .ok (.invokevirtual 123, 3) := dk_182 0 123 (dk_at dksX3_nextBatch_1 4 rfl rfl)
theorem dX3_nextBatch_30 : decode cX3_nextBatch 30 = .ok (.checkcast 127, 3) := dk_192 0 127 (dk_at dksX3_nextBatch_1 7 rfl rfl)
theorem dX3_nextBatch_33 : decode cX3_nextBatch 33 = .ok (.getfield 218, 3) := dk_180 0 218 (dk_at dksX3_nextBatch_1 10 rfl rfl)
theorem dX3_nextBatch_36 : decode cX3_nextBatch 36 = .ok (.iload_n 1, 1) := dk_27 (dk_at dksX3_nextBatch_1 13 rfl rfl)
theorem dX3_nextBatch_37 : decode cX3_nextBatch 37 = .ok (.if_icmp .gt 5, 3) := dk_163 0 5 (dk_at dksX3_nextBatch_1 14 rfl rfl)
theorem dX3_nextBatch_40 : decode cX3_nextBatch 40 = .ok (.iload_n 2, 1) := dk_28 (dk_at dksX3_nextBatch_1 17 rfl rfl)
theorem dX3_nextBatch_41 : decode cX3_nextBatch 41 = .ok (.ireturn, 1) := dk_172 (dk_at dksX3_nextBatch_1 18 rfl rfl)
theorem dX3_nextBatch_42 : decode cX3_nextBatch 42 = .ok (.iinc 2 1, 3) := dk_132 2 1 (dk_at dksX3_nextBatch_1 19 rfl rfl)
theorem dX3_nextBatch_45 : decode cX3_nextBatch 45 = .ok (.goto (-43), 3) := dk_167 255 213 (dk_at dksX3_nextBatch_2 0 rfl rfl)
theorem dX3_nextBatch_48 : decode cX3_nextBatch 48 = .ok (.iconst (-1), 1) := dk_2 (dk_at dksX3_nextBatch_2 3 rfl rfl)
theorem dX3_nextBatch_49 : decode cX3_nextBatch 49 = .ok (.ireturn, 1) := dk_172 (dk_at dksX3_nextBatch_2 4 rfl rfl)
abbrev cX3_grow : ByteArray := prog_6_method_23_code
def yX3_grow : MethodName := ⟨RX3, "grow", "()V"⟩
def dkwX3_grow_8 : List UInt8 := [184, 0, 201, 96, 181, 0, 105, 132, 1, 1, 167, 255, 138, 177]
abbrev dktX3_grow_8 : List UInt8 := dkwX3_grow_8 ++ []
def dkwX3_grow_7 : List UInt8 := [184, 0, 136, 184, 0, 193, 61, 42, 180, 0, 64, 27, 92, 46, 28, 96, 79, 42, 89, 180, 0, 105, 28]
abbrev dktX3_grow_7 : List UInt8 := dkwX3_grow_7 ++ dktX3_grow_8
def dkwX3_grow_6 : List UInt8 := [180, 0, 199, 42, 180, 0, 64, 27, 46, 100, 61, 42, 8, 182, 0, 132, 116, 42, 8, 182, 0, 132, 28]
abbrev dktX3_grow_6 : List UInt8 := dkwX3_grow_6 ++ dktX3_grow_7
def dkwX3_grow_5 : List UInt8 := [159, 0, 77, 42, 27, 182, 0, 184, 154, 0, 69, 42, 180, 0, 70, 42, 180, 0, 61, 27, 46, 182, 0, 169]
abbrev dktX3_grow_5 : List UInt8 := dkwX3_grow_5 ++ dktX3_grow_6
def dkwX3_grow_4 : List UInt8 := [42, 27, 182, 0, 184, 153, 0, 7, 4, 167, 0, 4, 3, 96, 79, 42, 180, 0, 61, 27, 46, 2]
abbrev dktX3_grow_4 : List UInt8 := dkwX3_grow_4 ++ dktX3_grow_5
def dkwX3_grow_3 : List UInt8 := [132, 1, 1, 167, 255, 185, 3, 60, 27, 42, 4, 182, 0, 132, 162, 0, 115, 42, 180, 0, 67, 27, 92, 46]
abbrev dktX3_grow_3 : List UInt8 := dkwX3_grow_3 ++ dktX3_grow_4
def dkwX3_grow_2 : List UInt8 := [180, 0, 36, 27, 92, 46, 42, 180, 0, 45, 27, 51, 153, 0, 7, 4, 167, 0, 4, 3, 96, 79]
abbrev dktX3_grow_2 : List UInt8 := dkwX3_grow_2 ++ dktX3_grow_3
def dkwX3_grow_1 : List UInt8 := [27, 92, 46, 42, 180, 0, 45, 27, 51, 153, 0, 7, 4, 167, 0, 8, 42, 7, 182, 0, 132, 96, 79, 42]
abbrev dktX3_grow_1 : List UInt8 := dkwX3_grow_1 ++ dktX3_grow_2
def dkwX3_grow_0 : List UInt8 := [3, 60, 27, 42, 180, 0, 99, 162, 0, 69, 42, 180, 0, 9, 27, 46, 5, 160, 0, 53, 42, 180, 0, 39]
abbrev dktX3_grow_0 : List UInt8 := dkwX3_grow_0 ++ dktX3_grow_1
theorem dksX3_grow_0 : cX3_grow.data.toList.drop 0 = dktX3_grow_0 := by decide +kernel
theorem dksX3_grow_1 : cX3_grow.data.toList.drop 24 = dktX3_grow_1 := dk_seg dksX3_grow_0 24 rfl rfl
theorem dksX3_grow_2 : cX3_grow.data.toList.drop 48 = dktX3_grow_2 := dk_seg dksX3_grow_1 24 rfl rfl
theorem dksX3_grow_3 : cX3_grow.data.toList.drop 70 = dktX3_grow_3 := dk_seg dksX3_grow_2 22 rfl rfl
theorem dksX3_grow_4 : cX3_grow.data.toList.drop 94 = dktX3_grow_4 := dk_seg dksX3_grow_3 24 rfl rfl
theorem dksX3_grow_5 : cX3_grow.data.toList.drop 116 = dktX3_grow_5 := dk_seg dksX3_grow_4 22 rfl rfl
theorem dksX3_grow_6 : cX3_grow.data.toList.drop 140 = dktX3_grow_6 := dk_seg dksX3_grow_5 24 rfl rfl
theorem dksX3_grow_7 : cX3_grow.data.toList.drop 163 = dktX3_grow_7 := dk_seg dksX3_grow_6 23 rfl rfl
theorem dksX3_grow_8 : cX3_grow.data.toList.drop 186 = dktX3_grow_8 := dk_seg dksX3_grow_7 23 rfl rfl
theorem dX3_grow_0 : decode cX3_grow 0 = .ok (.iconst 0, 1) := dk_3 (dk_at dksX3_grow_0 0 rfl rfl)
theorem dX3_grow_1 : decode cX3_grow 1 = .ok (.istore_n 1, 1) := dk_60 (dk_at dksX3_grow_0 1 rfl rfl)
theorem dX3_grow_2 : decode cX3_grow 2 = .ok (.iload_n 1, 1) := dk_27 (dk_at dksX3_grow_0 2 rfl rfl)
theorem dX3_grow_3 : decode cX3_grow 3 = .ok (.aload_n 0, 1) := dk_42 (dk_at dksX3_grow_0 3 rfl rfl)
theorem dX3_grow_4 : decode cX3_grow 4 = .ok (.getfield 99, 3) := dk_180 0 99 (dk_at dksX3_grow_0 4 rfl rfl)
theorem dX3_grow_7 : decode cX3_grow 7 = .ok (.if_icmp .ge 69, 3) := dk_162 0 69 (dk_at dksX3_grow_0 7 rfl rfl)
theorem dX3_grow_10 : decode cX3_grow 10 = .ok (.aload_n 0, 1) := dk_42 (dk_at dksX3_grow_0 10 rfl rfl)
theorem dX3_grow_11 : decode cX3_grow 11 = .ok (.getfield 9, 3) := dk_180 0 9 (dk_at dksX3_grow_0 11 rfl rfl)
theorem dX3_grow_14 : decode cX3_grow 14 = .ok (.iload_n 1, 1) := dk_27 (dk_at dksX3_grow_0 14 rfl rfl)
theorem dX3_grow_15 : decode cX3_grow 15 = .ok (.iaload, 1) := dk_46 (dk_at dksX3_grow_0 15 rfl rfl)
theorem dX3_grow_16 : decode cX3_grow 16 = .ok (.iconst 2, 1) := dk_5 (dk_at dksX3_grow_0 16 rfl rfl)
theorem dX3_grow_17 : decode cX3_grow 17 = .ok (.if_icmp .ne 53, 3) := dk_160 0 53 (dk_at dksX3_grow_0 17 rfl rfl)
theorem dX3_grow_20 : decode cX3_grow 20 = .ok (.aload_n 0, 1) := dk_42 (dk_at dksX3_grow_0 20 rfl rfl)
theorem dX3_grow_21 : decode cX3_grow 21 = .ok (.getfield 39, 3) := dk_180 0 39 (dk_at dksX3_grow_0 21 rfl rfl)
theorem dX3_grow_24 : decode cX3_grow 24 = .ok (.iload_n 1, 1) := dk_27 (dk_at dksX3_grow_1 0 rfl rfl)
theorem dX3_grow_25 : decode cX3_grow 25 = .ok (.dup2, 1) := dk_92 (dk_at dksX3_grow_1 1 rfl rfl)
theorem dX3_grow_26 : decode cX3_grow 26 = .ok (.iaload, 1) := dk_46 (dk_at dksX3_grow_1 2 rfl rfl)
theorem dX3_grow_27 : decode cX3_grow 27 = .ok (.aload_n 0, 1) := dk_42 (dk_at dksX3_grow_1 3 rfl rfl)
theorem dX3_grow_28 : decode cX3_grow 28 = .ok (.getfield 45, 3) := dk_180 0 45 (dk_at dksX3_grow_1 4 rfl rfl)
theorem dX3_grow_31 : decode cX3_grow 31 = .ok (.iload_n 1, 1) := dk_27 (dk_at dksX3_grow_1 7 rfl rfl)
theorem dX3_grow_32 : decode cX3_grow 32 = .ok (.baload, 1) := dk_51 (dk_at dksX3_grow_1 8 rfl rfl)
theorem dX3_grow_33 : decode cX3_grow 33 = .ok (.ifCond .eq 7, 3) := dk_153 0 7 (dk_at dksX3_grow_1 9 rfl rfl)
theorem dX3_grow_36 : decode cX3_grow 36 = .ok (.iconst 1, 1) := dk_4 (dk_at dksX3_grow_1 12 rfl rfl)
theorem dX3_grow_37 : decode cX3_grow 37 = .ok (.goto 8, 3) := dk_167 0 8 (dk_at dksX3_grow_1 13 rfl rfl)
theorem dX3_grow_40 : decode cX3_grow 40 = .ok (.aload_n 0, 1) := dk_42 (dk_at dksX3_grow_1 16 rfl rfl)
theorem dX3_grow_41 : decode cX3_grow 41 = .ok (.iconst 4, 1) := dk_7 (dk_at dksX3_grow_1 17 rfl rfl)
theorem dX3_grow_42 : decode cX3_grow 42 = .ok (.invokevirtual 132, 3) := dk_182 0 132 (dk_at dksX3_grow_1 18 rfl rfl)
theorem dX3_grow_45 : decode cX3_grow 45 = .ok (.iadd, 1) := dk_96 (dk_at dksX3_grow_1 21 rfl rfl)
theorem dX3_grow_46 : decode cX3_grow 46 = .ok (.iastore, 1) := dk_79 (dk_at dksX3_grow_1 22 rfl rfl)
theorem dX3_grow_47 : decode cX3_grow 47 = .ok (.aload_n 0, 1) := dk_42 (dk_at dksX3_grow_1 23 rfl rfl)
theorem dX3_grow_48 : decode cX3_grow 48 = .ok (.getfield 36, 3) := dk_180 0 36 (dk_at dksX3_grow_2 0 rfl rfl)
theorem dX3_grow_51 : decode cX3_grow 51 = .ok (.iload_n 1, 1) := dk_27 (dk_at dksX3_grow_2 3 rfl rfl)
theorem dX3_grow_52 : decode cX3_grow 52 = .ok (.dup2, 1) := dk_92 (dk_at dksX3_grow_2 4 rfl rfl)
theorem dX3_grow_53 : decode cX3_grow 53 = .ok (.iaload, 1) := dk_46 (dk_at dksX3_grow_2 5 rfl rfl)
theorem dX3_grow_54 : decode cX3_grow 54 = .ok (.aload_n 0, 1) := dk_42 (dk_at dksX3_grow_2 6 rfl rfl)
theorem dX3_grow_55 : decode cX3_grow 55 = .ok (.getfield 45, 3) := dk_180 0 45 (dk_at dksX3_grow_2 7 rfl rfl)
theorem dX3_grow_58 : decode cX3_grow 58 = .ok (.iload_n 1, 1) := dk_27 (dk_at dksX3_grow_2 10 rfl rfl)
theorem dX3_grow_59 : decode cX3_grow 59 = .ok (.baload, 1) := dk_51 (dk_at dksX3_grow_2 11 rfl rfl)
theorem dX3_grow_60 : decode cX3_grow 60 = .ok (.ifCond .eq 7, 3) := dk_153 0 7 (dk_at dksX3_grow_2 12 rfl rfl)
theorem dX3_grow_63 : decode cX3_grow 63 = .ok (.iconst 1, 1) := dk_4 (dk_at dksX3_grow_2 15 rfl rfl)
theorem dX3_grow_64 : decode cX3_grow 64 = .ok (.goto 4, 3) := dk_167 0 4 (dk_at dksX3_grow_2 16 rfl rfl)
theorem dX3_grow_67 : decode cX3_grow 67 = .ok (.iconst 0, 1) := dk_3 (dk_at dksX3_grow_2 19 rfl rfl)
theorem dX3_grow_68 : decode cX3_grow 68 = .ok (.iadd, 1) := dk_96 (dk_at dksX3_grow_2 20 rfl rfl)
theorem dX3_grow_69 : decode cX3_grow 69 = .ok (.iastore, 1) := dk_79 (dk_at dksX3_grow_2 21 rfl rfl)
theorem dX3_grow_70 : decode cX3_grow 70 = .ok (.iinc 1 1, 3) := dk_132 1 1 (dk_at dksX3_grow_3 0 rfl rfl)
theorem dX3_grow_73 : decode cX3_grow 73 = .ok (.goto (-71), 3) := dk_167 255 185 (dk_at dksX3_grow_3 3 rfl rfl)
theorem dX3_grow_76 : decode cX3_grow 76 = .ok (.iconst 0, 1) := dk_3 (dk_at dksX3_grow_3 6 rfl rfl)
theorem dX3_grow_77 : decode cX3_grow 77 = .ok (.istore_n 1, 1) := dk_60 (dk_at dksX3_grow_3 7 rfl rfl)
theorem dX3_grow_78 : decode cX3_grow 78 = .ok (.iload_n 1, 1) := dk_27 (dk_at dksX3_grow_3 8 rfl rfl)
theorem dX3_grow_79 : decode cX3_grow 79 = .ok (.aload_n 0, 1) := dk_42 (dk_at dksX3_grow_3 9 rfl rfl)
theorem dX3_grow_80 : decode cX3_grow 80 = .ok (.iconst 1, 1) := dk_4 (dk_at dksX3_grow_3 10 rfl rfl)
theorem dX3_grow_81 : decode cX3_grow 81 = .ok (.invokevirtual 132, 3) := dk_182 0 132 (dk_at dksX3_grow_3 11 rfl rfl)
theorem dX3_grow_84 : decode cX3_grow 84 = .ok (.if_icmp .ge 115, 3) := dk_162 0 115 (dk_at dksX3_grow_3 14 rfl rfl)
theorem dX3_grow_87 : decode cX3_grow 87 = .ok (.aload_n 0, 1) := dk_42 (dk_at dksX3_grow_3 17 rfl rfl)
theorem dX3_grow_88 : decode cX3_grow 88 = .ok (.getfield 67, 3) := dk_180 0 67 (dk_at dksX3_grow_3 18 rfl rfl)
theorem dX3_grow_91 : decode cX3_grow 91 = .ok (.iload_n 1, 1) := dk_27 (dk_at dksX3_grow_3 21 rfl rfl)
theorem dX3_grow_92 : decode cX3_grow 92 = .ok (.dup2, 1) := dk_92 (dk_at dksX3_grow_3 22 rfl rfl)
theorem dX3_grow_93 : decode cX3_grow 93 = .ok (.iaload, 1) := dk_46 (dk_at dksX3_grow_3 23 rfl rfl)
theorem dX3_grow_94 : decode cX3_grow 94 = .ok (.aload_n 0, 1) := dk_42 (dk_at dksX3_grow_4 0 rfl rfl)
theorem dX3_grow_95 : decode cX3_grow 95 = .ok (.iload_n 1, 1) := dk_27 (dk_at dksX3_grow_4 1 rfl rfl)
theorem dX3_grow_96 : decode cX3_grow 96 = .ok (.invokevirtual 184, 3) := dk_182 0 184 (dk_at dksX3_grow_4 2 rfl rfl)
theorem dX3_grow_99 : decode cX3_grow 99 = .ok (.ifCond .eq 7, 3) := dk_153 0 7 (dk_at dksX3_grow_4 5 rfl rfl)
theorem dX3_grow_102 : decode cX3_grow 102 = .ok (.iconst 1, 1) := dk_4 (dk_at dksX3_grow_4 8 rfl rfl)
theorem dX3_grow_103 : decode cX3_grow 103 = .ok (.goto 4, 3) := dk_167 0 4 (dk_at dksX3_grow_4 9 rfl rfl)
theorem dX3_grow_106 : decode cX3_grow 106 = .ok (.iconst 0, 1) := dk_3 (dk_at dksX3_grow_4 12 rfl rfl)
theorem dX3_grow_107 : decode cX3_grow 107 = .ok (.iadd, 1) := dk_96 (dk_at dksX3_grow_4 13 rfl rfl)
theorem dX3_grow_108 : decode cX3_grow 108 = .ok (.iastore, 1) := dk_79 (dk_at dksX3_grow_4 14 rfl rfl)
theorem dX3_grow_109 : decode cX3_grow 109 = .ok (.aload_n 0, 1) := dk_42 (dk_at dksX3_grow_4 15 rfl rfl)
theorem dX3_grow_110 : decode cX3_grow 110 = .ok (.getfield 61, 3) := dk_180 0 61 (dk_at dksX3_grow_4 16 rfl rfl)
theorem dX3_grow_113 : decode cX3_grow 113 = .ok (.iload_n 1, 1) := dk_27 (dk_at dksX3_grow_4 19 rfl rfl)
theorem dX3_grow_114 : decode cX3_grow 114 = .ok (.iaload, 1) := dk_46 (dk_at dksX3_grow_4 20 rfl rfl)
theorem dX3_grow_115 : decode cX3_grow 115 = .ok (.iconst (-1), 1) := dk_2 (dk_at dksX3_grow_4 21 rfl rfl)
theorem dX3_grow_116 : decode cX3_grow 116 = .ok (.if_icmp .eq 77, 3) := dk_159 0 77 (dk_at dksX3_grow_5 0 rfl rfl)
theorem dX3_grow_119 : decode cX3_grow 119 = .ok (.aload_n 0, 1) := dk_42 (dk_at dksX3_grow_5 3 rfl rfl)
theorem dX3_grow_120 : decode cX3_grow 120 = .ok (.iload_n 1, 1) := dk_27 (dk_at dksX3_grow_5 4 rfl rfl)
theorem dX3_grow_121 : decode cX3_grow 121 = .ok (.invokevirtual 184, 3) := dk_182 0 184 (dk_at dksX3_grow_5 5 rfl rfl)
theorem dX3_grow_124 : decode cX3_grow 124 = .ok (.ifCond .ne 69, 3) := dk_154 0 69 (dk_at dksX3_grow_5 8 rfl rfl)
theorem dX3_grow_127 : decode cX3_grow 127 = .ok (.aload_n 0, 1) := dk_42 (dk_at dksX3_grow_5 11 rfl rfl)
theorem dX3_grow_128 : decode cX3_grow 128 = .ok (.getfield 70, 3) := dk_180 0 70 (dk_at dksX3_grow_5 12 rfl rfl)
theorem dX3_grow_131 : decode cX3_grow 131 = .ok (.aload_n 0, 1) := dk_42 (dk_at dksX3_grow_5 15 rfl rfl)
theorem dX3_grow_132 : decode cX3_grow 132 = .ok (.getfield 61, 3) := dk_180 0 61 (dk_at dksX3_grow_5 16 rfl rfl)
theorem dX3_grow_135 : decode cX3_grow 135 = .ok (.iload_n 1, 1) := dk_27 (dk_at dksX3_grow_5 19 rfl rfl)
theorem dX3_grow_136 : decode cX3_grow 136 = .ok (.iaload, 1) := dk_46 (dk_at dksX3_grow_5 20 rfl rfl)
theorem dX3_grow_137 : decode cX3_grow 137 = .ok (.invokevirtual 169, 3) := dk_182 0 169 (dk_at dksX3_grow_5 21 rfl rfl)
theorem dX3_grow_140 : decode cX3_grow 140 = .ok (.getfield 199, 3) := dk_180 0 199 (dk_at dksX3_grow_6 0 rfl rfl)
theorem dX3_grow_143 : decode cX3_grow 143 = .ok (.aload_n 0, 1) := dk_42 (dk_at dksX3_grow_6 3 rfl rfl)
theorem dX3_grow_144 : decode cX3_grow 144 = .ok (.getfield 64, 3) := dk_180 0 64 (dk_at dksX3_grow_6 4 rfl rfl)
theorem dX3_grow_147 : decode cX3_grow 147 = .ok (.iload_n 1, 1) := dk_27 (dk_at dksX3_grow_6 7 rfl rfl)
theorem dX3_grow_148 : decode cX3_grow 148 = .ok (.iaload, 1) := dk_46 (dk_at dksX3_grow_6 8 rfl rfl)
theorem dX3_grow_149 : decode cX3_grow 149 = .ok (.isub, 1) := dk_100 (dk_at dksX3_grow_6 9 rfl rfl)
theorem dX3_grow_150 : decode cX3_grow 150 = .ok (.istore_n 2, 1) := dk_61 (dk_at dksX3_grow_6 10 rfl rfl)
theorem dX3_grow_151 : decode cX3_grow 151 = .ok (.aload_n 0, 1) := dk_42 (dk_at dksX3_grow_6 11 rfl rfl)
theorem dX3_grow_152 : decode cX3_grow 152 = .ok (.iconst 5, 1) := dk_8 (dk_at dksX3_grow_6 12 rfl rfl)
theorem dX3_grow_153 : decode cX3_grow 153 = .ok (.invokevirtual 132, 3) := dk_182 0 132 (dk_at dksX3_grow_6 13 rfl rfl)
theorem dX3_grow_156 : decode cX3_grow 156 = .ok (.ineg, 1) := dk_116 (dk_at dksX3_grow_6 16 rfl rfl)
theorem dX3_grow_157 : decode cX3_grow 157 = .ok (.aload_n 0, 1) := dk_42 (dk_at dksX3_grow_6 17 rfl rfl)
theorem dX3_grow_158 : decode cX3_grow 158 = .ok (.iconst 5, 1) := dk_8 (dk_at dksX3_grow_6 18 rfl rfl)
theorem dX3_grow_159 : decode cX3_grow 159 = .ok (.invokevirtual 132, 3) := dk_182 0 132 (dk_at dksX3_grow_6 19 rfl rfl)
theorem dX3_grow_162 : decode cX3_grow 162 = .ok (.iload_n 2, 1) := dk_28 (dk_at dksX3_grow_6 22 rfl rfl)
theorem dX3_grow_163 : decode cX3_grow 163 = .ok (.invokestatic 136, 3) := dk_184 0 136 (dk_at dksX3_grow_7 0 rfl rfl)
theorem dX3_grow_166 : decode cX3_grow 166 = .ok (.invokestatic 193, 3) := dk_184 0 193 (dk_at dksX3_grow_7 3 rfl rfl)
theorem dX3_grow_169 : decode cX3_grow 169 = .ok (.istore_n 2, 1) := dk_61 (dk_at dksX3_grow_7 6 rfl rfl)
theorem dX3_grow_170 : decode cX3_grow 170 = .ok (.aload_n 0, 1) := dk_42 (dk_at dksX3_grow_7 7 rfl rfl)
theorem dX3_grow_171 : decode cX3_grow 171 = .ok (.getfield 64, 3) := dk_180 0 64 (dk_at dksX3_grow_7 8 rfl rfl)
theorem dX3_grow_174 : decode cX3_grow 174 = .ok (.iload_n 1, 1) := dk_27 (dk_at dksX3_grow_7 11 rfl rfl)
theorem dX3_grow_175 : decode cX3_grow 175 = .ok (.dup2, 1) := dk_92 (dk_at dksX3_grow_7 12 rfl rfl)
theorem dX3_grow_176 : decode cX3_grow 176 = .ok (.iaload, 1) := dk_46 (dk_at dksX3_grow_7 13 rfl rfl)
theorem dX3_grow_177 : decode cX3_grow 177 = .ok (.iload_n 2, 1) := dk_28 (dk_at dksX3_grow_7 14 rfl rfl)
theorem dX3_grow_178 : decode cX3_grow 178 = .ok (.iadd, 1) := dk_96 (dk_at dksX3_grow_7 15 rfl rfl)
theorem dX3_grow_179 : decode cX3_grow 179 = .ok (.iastore, 1) := dk_79 (dk_at dksX3_grow_7 16 rfl rfl)
theorem dX3_grow_180 : decode cX3_grow 180 = .ok (.aload_n 0, 1) := dk_42 (dk_at dksX3_grow_7 17 rfl rfl)
theorem dX3_grow_181 : decode cX3_grow 181 = .ok (.dup, 1) := dk_89 (dk_at dksX3_grow_7 18 rfl rfl)
theorem dX3_grow_182 : decode cX3_grow 182 = .ok (.getfield 105, 3) := dk_180 0 105 (dk_at dksX3_grow_7 19 rfl rfl)
theorem dX3_grow_185 : decode cX3_grow 185 = .ok (.iload_n 2, 1) := dk_28 (dk_at dksX3_grow_7 22 rfl rfl)
theorem dX3_grow_186 : decode cX3_grow 186 = .ok (.invokestatic 201, 3) := dk_184 0 201 (dk_at dksX3_grow_8 0 rfl rfl)
theorem dX3_grow_189 : decode cX3_grow 189 = .ok (.iadd, 1) := dk_96 (dk_at dksX3_grow_8 3 rfl rfl)
theorem dX3_grow_190 : decode cX3_grow 190 = .ok (.putfield 105, 3) := dk_181 0 105 (dk_at dksX3_grow_8 4 rfl rfl)
theorem dX3_grow_193 : decode cX3_grow 193 = .ok (.iinc 1 1, 3) := dk_132 1 1 (dk_at dksX3_grow_8 7 rfl rfl)
theorem dX3_grow_196 : decode cX3_grow 196 = .ok (.goto (-118), 3) := dk_167 255 138 (dk_at dksX3_grow_8 10 rfl rfl)
theorem dX3_grow_199 : decode cX3_grow 199 = .ok (.return_, 1) := dk_177 (dk_at dksX3_grow_8 13 rfl rfl)
abbrev cX3_lastEnd : ByteArray := prog_6_method_26_code
def yX3_lastEnd : MethodName := ⟨RX3, "lastEnd", "()I"⟩
def dkwX3_lastEnd_1 : List UInt8 := [132, 2, 1, 167, 255, 234, 27, 172]
abbrev dktX3_lastEnd_1 : List UInt8 := dkwX3_lastEnd_1 ++ []
def dkwX3_lastEnd_0 : List UInt8 := [3, 60, 3, 61, 28, 42, 180, 0, 99, 162, 0, 20, 27, 42, 180, 0, 30, 28, 46, 184, 0, 193, 60]
abbrev dktX3_lastEnd_0 : List UInt8 := dkwX3_lastEnd_0 ++ dktX3_lastEnd_1
theorem dksX3_lastEnd_0 : cX3_lastEnd.data.toList.drop 0 = dktX3_lastEnd_0 := by decide +kernel
theorem dksX3_lastEnd_1 : cX3_lastEnd.data.toList.drop 23 = dktX3_lastEnd_1 := dk_seg dksX3_lastEnd_0 23 rfl rfl
theorem dX3_lastEnd_0 : decode cX3_lastEnd 0 = .ok (.iconst 0, 1) := dk_3 (dk_at dksX3_lastEnd_0 0 rfl rfl)
theorem dX3_lastEnd_1 : decode cX3_lastEnd 1 = .ok (.istore_n 1, 1) := dk_60 (dk_at dksX3_lastEnd_0 1 rfl rfl)
theorem dX3_lastEnd_2 : decode cX3_lastEnd 2 = .ok (.iconst 0, 1) := dk_3 (dk_at dksX3_lastEnd_0 2 rfl rfl)
theorem dX3_lastEnd_3 : decode cX3_lastEnd 3 = .ok (.istore_n 2, 1) := dk_61 (dk_at dksX3_lastEnd_0 3 rfl rfl)
theorem dX3_lastEnd_4 : decode cX3_lastEnd 4 = .ok (.iload_n 2, 1) := dk_28 (dk_at dksX3_lastEnd_0 4 rfl rfl)
theorem dX3_lastEnd_5 : decode cX3_lastEnd 5 = .ok (.aload_n 0, 1) := dk_42 (dk_at dksX3_lastEnd_0 5 rfl rfl)
theorem dX3_lastEnd_6 : decode cX3_lastEnd 6 = .ok (.getfield 99, 3) := dk_180 0 99 (dk_at dksX3_lastEnd_0 6 rfl rfl)
theorem dX3_lastEnd_9 : decode cX3_lastEnd 9 = .ok (.if_icmp .ge 20, 3) := dk_162 0 20 (dk_at dksX3_lastEnd_0 9 rfl rfl)
theorem dX3_lastEnd_12 : decode cX3_lastEnd 12 = .ok (.iload_n 1, 1) := dk_27 (dk_at dksX3_lastEnd_0 12 rfl rfl)
theorem dX3_lastEnd_13 : decode cX3_lastEnd 13 = .ok (.aload_n 0, 1) := dk_42 (dk_at dksX3_lastEnd_0 13 rfl rfl)
theorem dX3_lastEnd_14 : decode cX3_lastEnd 14 = .ok (.getfield 30, 3) := dk_180 0 30 (dk_at dksX3_lastEnd_0 14 rfl rfl)
theorem dX3_lastEnd_17 : decode cX3_lastEnd 17 = .ok (.iload_n 2, 1) := dk_28 (dk_at dksX3_lastEnd_0 17 rfl rfl)
theorem dX3_lastEnd_18 : decode cX3_lastEnd 18 = .ok (.iaload, 1) := dk_46 (dk_at dksX3_lastEnd_0 18 rfl rfl)
theorem dX3_lastEnd_19 : decode cX3_lastEnd 19 = .ok (.invokestatic 193, 3) := dk_184 0 193 (dk_at dksX3_lastEnd_0 19 rfl rfl)
theorem dX3_lastEnd_22 : decode cX3_lastEnd 22 = .ok (.istore_n 1, 1) := dk_60 (dk_at dksX3_lastEnd_0 22 rfl rfl)
theorem dX3_lastEnd_23 : decode cX3_lastEnd 23 = .ok (.iinc 2 1, 3) := dk_132 2 1 (dk_at dksX3_lastEnd_1 0 rfl rfl)
theorem dX3_lastEnd_26 : decode cX3_lastEnd 26 = .ok (.goto (-22), 3) := dk_167 255 234 (dk_at dksX3_lastEnd_1 3 rfl rfl)
theorem dX3_lastEnd_29 : decode cX3_lastEnd 29 = .ok (.iload_n 1, 1) := dk_27 (dk_at dksX3_lastEnd_1 6 rfl rfl)
theorem dX3_lastEnd_30 : decode cX3_lastEnd 30 = .ok (.ireturn, 1) := dk_172 (dk_at dksX3_lastEnd_1 7 rfl rfl)
abbrev cX3_worth : ByteArray := prog_6_method_27_code
def yX3_worth : MethodName := ⟨RX3, "worth", "()I"⟩
def dkwX3_worth_0 : List UInt8 := [17, 39, 16, 42, 4, 182, 0, 228, 104, 18, 231, 42, 6, 182, 0, 228, 104, 100, 42, 182, 0, 232, 100, 172]
abbrev dktX3_worth_0 : List UInt8 := dkwX3_worth_0 ++ []
theorem dksX3_worth_0 : cX3_worth.data.toList.drop 0 = dktX3_worth_0 := by decide +kernel
theorem dX3_worth_0 : decode cX3_worth 0 = .ok (.sipush 10000, 3) := dk_17 39 16 (dk_at dksX3_worth_0 0 rfl rfl)
theorem dX3_worth_3 : decode cX3_worth 3 = .ok (.aload_n 0, 1) := dk_42 (dk_at dksX3_worth_0 3 rfl rfl)
theorem dX3_worth_4 : decode cX3_worth 4 = .ok (.iconst 1, 1) := dk_4 (dk_at dksX3_worth_0 4 rfl rfl)
theorem dX3_worth_5 : decode cX3_worth 5 = .ok (.invokevirtual 228, 3) := dk_182 0 228 (dk_at dksX3_worth_0 5 rfl rfl)
theorem dX3_worth_8 : decode cX3_worth 8 = .ok (.imul, 1) := dk_104 (dk_at dksX3_worth_0 8 rfl rfl)
theorem dX3_worth_9 : decode cX3_worth 9 = .ok (.ldc 231, 2) := dk_18 231 (dk_at dksX3_worth_0 9 rfl rfl)
theorem dX3_worth_11 : decode cX3_worth 11 = .ok (.aload_n 0, 1) := dk_42 (dk_at dksX3_worth_0 11 rfl rfl)
theorem dX3_worth_12 : decode cX3_worth 12 = .ok (.iconst 3, 1) := dk_6 (dk_at dksX3_worth_0 12 rfl rfl)
theorem dX3_worth_13 : decode cX3_worth 13 = .ok (.invokevirtual 228, 3) := dk_182 0 228 (dk_at dksX3_worth_0 13 rfl rfl)
theorem dX3_worth_16 : decode cX3_worth 16 = .ok (.imul, 1) := dk_104 (dk_at dksX3_worth_0 16 rfl rfl)
theorem dX3_worth_17 : decode cX3_worth 17 = .ok (.isub, 1) := dk_100 (dk_at dksX3_worth_0 17 rfl rfl)
theorem dX3_worth_18 : decode cX3_worth 18 = .ok (.aload_n 0, 1) := dk_42 (dk_at dksX3_worth_0 18 rfl rfl)
theorem dX3_worth_19 : decode cX3_worth 19 = .ok (.invokevirtual 232, 3) := dk_182 0 232 (dk_at dksX3_worth_0 19 rfl rfl)
theorem dX3_worth_22 : decode cX3_worth 22 = .ok (.isub, 1) := dk_100 (dk_at dksX3_worth_0 22 rfl rfl)
theorem dX3_worth_23 : decode cX3_worth 23 = .ok (.ireturn, 1) := dk_172 (dk_at dksX3_worth_0 23 rfl rfl)
abbrev cX3_countOf : ByteArray := prog_6_method_25_code
def yX3_countOf : MethodName := ⟨RX3, "countOf", "(I)I"⟩
def dkwX3_countOf_1 : List UInt8 := [167, 0, 4, 3, 96, 61, 132, 3, 1, 167, 255, 228, 28, 172]
abbrev dktX3_countOf_1 : List UInt8 := dkwX3_countOf_1 ++ []
def dkwX3_countOf_0 : List UInt8 := [3, 61, 3, 62, 29, 42, 180, 0, 99, 162, 0, 26, 28, 42, 29, 182, 0, 142, 27, 160, 0, 7, 4]
abbrev dktX3_countOf_0 : List UInt8 := dkwX3_countOf_0 ++ dktX3_countOf_1
theorem dksX3_countOf_0 : cX3_countOf.data.toList.drop 0 = dktX3_countOf_0 := by decide +kernel
theorem dksX3_countOf_1 : cX3_countOf.data.toList.drop 23 = dktX3_countOf_1 := dk_seg dksX3_countOf_0 23 rfl rfl
theorem dX3_countOf_0 : decode cX3_countOf 0 = .ok (.iconst 0, 1) := dk_3 (dk_at dksX3_countOf_0 0 rfl rfl)
theorem dX3_countOf_1 : decode cX3_countOf 1 = .ok (.istore_n 2, 1) := dk_61 (dk_at dksX3_countOf_0 1 rfl rfl)
theorem dX3_countOf_2 : decode cX3_countOf 2 = .ok (.iconst 0, 1) := dk_3 (dk_at dksX3_countOf_0 2 rfl rfl)
theorem dX3_countOf_3 : decode cX3_countOf 3 = .ok (.istore_n 3, 1) := dk_62 (dk_at dksX3_countOf_0 3 rfl rfl)
theorem dX3_countOf_4 : decode cX3_countOf 4 = .ok (.iload_n 3, 1) := dk_29 (dk_at dksX3_countOf_0 4 rfl rfl)
theorem dX3_countOf_5 : decode cX3_countOf 5 = .ok (.aload_n 0, 1) := dk_42 (dk_at dksX3_countOf_0 5 rfl rfl)
theorem dX3_countOf_6 : decode cX3_countOf 6 = .ok (.getfield 99, 3) := dk_180 0 99 (dk_at dksX3_countOf_0 6 rfl rfl)
theorem dX3_countOf_9 : decode cX3_countOf 9 = .ok (.if_icmp .ge 26, 3) := dk_162 0 26 (dk_at dksX3_countOf_0 9 rfl rfl)
theorem dX3_countOf_12 : decode cX3_countOf 12 = .ok (.iload_n 2, 1) := dk_28 (dk_at dksX3_countOf_0 12 rfl rfl)
theorem dX3_countOf_13 : decode cX3_countOf 13 = .ok (.aload_n 0, 1) := dk_42 (dk_at dksX3_countOf_0 13 rfl rfl)
theorem dX3_countOf_14 : decode cX3_countOf 14 = .ok (.iload_n 3, 1) := dk_29 (dk_at dksX3_countOf_0 14 rfl rfl)
theorem dX3_countOf_15 : decode cX3_countOf 15 = .ok (.invokevirtual 142, 3) := dk_182 0 142 (dk_at dksX3_countOf_0 15 rfl rfl)
theorem dX3_countOf_18 : decode cX3_countOf 18 = .ok (.iload_n 1, 1) := dk_27 (dk_at dksX3_countOf_0 18 rfl rfl)
theorem dX3_countOf_19 : decode cX3_countOf 19 = .ok (.if_icmp .ne 7, 3) := dk_160 0 7 (dk_at dksX3_countOf_0 19 rfl rfl)
theorem dX3_countOf_22 : decode cX3_countOf 22 = .ok (.iconst 1, 1) := dk_4 (dk_at dksX3_countOf_0 22 rfl rfl)
theorem dX3_countOf_23 : decode cX3_countOf 23 = .ok (.goto 4, 3) := dk_167 0 4 (dk_at dksX3_countOf_1 0 rfl rfl)
theorem dX3_countOf_26 : decode cX3_countOf 26 = .ok (.iconst 0, 1) := dk_3 (dk_at dksX3_countOf_1 3 rfl rfl)
theorem dX3_countOf_27 : decode cX3_countOf 27 = .ok (.iadd, 1) := dk_96 (dk_at dksX3_countOf_1 4 rfl rfl)
theorem dX3_countOf_28 : decode cX3_countOf 28 = .ok (.istore_n 2, 1) := dk_61 (dk_at dksX3_countOf_1 5 rfl rfl)
theorem dX3_countOf_29 : decode cX3_countOf 29 = .ok (.iinc 3 1, 3) := dk_132 3 1 (dk_at dksX3_countOf_1 6 rfl rfl)
theorem dX3_countOf_32 : decode cX3_countOf 32 = .ok (.goto (-28), 3) := dk_167 255 228 (dk_at dksX3_countOf_1 9 rfl rfl)
theorem dX3_countOf_35 : decode cX3_countOf 35 = .ok (.iload_n 2, 1) := dk_28 (dk_at dksX3_countOf_1 12 rfl rfl)
theorem dX3_countOf_36 : decode cX3_countOf 36 = .ok (.ireturn, 1) := dk_172 (dk_at dksX3_countOf_1 13 rfl rfl)
abbrev cX3_state : ByteArray := prog_6_method_24_code
def yX3_state : MethodName := ⟨RX3, "state", "(I)I"⟩
def dkwX3_state_2 : List UInt8 := [180, 0, 89, 27, 182, 0, 123, 192, 0, 127, 180, 0, 129, 46, 163, 0, 7, 4, 167, 0, 4, 5, 172]
abbrev dktX3_state_2 : List UInt8 := dkwX3_state_2 ++ []
def dkwX3_state_1 : List UInt8 := [42, 180, 0, 30, 27, 46, 42, 16, 6, 182, 0, 132, 96, 42, 180, 0, 70, 180, 0, 120, 42, 180, 0, 70]
abbrev dktX3_state_1 : List UInt8 := dkwX3_state_1 ++ dktX3_state_2
def dkwX3_state_0 : List UInt8 := [42, 180, 0, 9, 27, 46, 8, 160, 0, 5, 6, 172, 42, 180, 0, 30, 27, 46, 2, 160, 0, 5, 3, 172]
abbrev dktX3_state_0 : List UInt8 := dkwX3_state_0 ++ dktX3_state_1
theorem dksX3_state_0 : cX3_state.data.toList.drop 0 = dktX3_state_0 := by decide +kernel
theorem dksX3_state_1 : cX3_state.data.toList.drop 24 = dktX3_state_1 := dk_seg dksX3_state_0 24 rfl rfl
theorem dksX3_state_2 : cX3_state.data.toList.drop 48 = dktX3_state_2 := dk_seg dksX3_state_1 24 rfl rfl
theorem dX3_state_0 : decode cX3_state 0 = .ok (.aload_n 0, 1) := dk_42 (dk_at dksX3_state_0 0 rfl rfl)
theorem dX3_state_1 : decode cX3_state 1 = .ok (.getfield 9, 3) := dk_180 0 9 (dk_at dksX3_state_0 1 rfl rfl)
theorem dX3_state_4 : decode cX3_state 4 = .ok (.iload_n 1, 1) := dk_27 (dk_at dksX3_state_0 4 rfl rfl)
theorem dX3_state_5 : decode cX3_state 5 = .ok (.iaload, 1) := dk_46 (dk_at dksX3_state_0 5 rfl rfl)
theorem dX3_state_6 : decode cX3_state 6 = .ok (.iconst 5, 1) := dk_8 (dk_at dksX3_state_0 6 rfl rfl)
theorem dX3_state_7 : decode cX3_state 7 = .ok (.if_icmp .ne 5, 3) := dk_160 0 5 (dk_at dksX3_state_0 7 rfl rfl)
theorem dX3_state_10 : decode cX3_state 10 = .ok (.iconst 3, 1) := dk_6 (dk_at dksX3_state_0 10 rfl rfl)
theorem dX3_state_11 : decode cX3_state 11 = .ok (.ireturn, 1) := dk_172 (dk_at dksX3_state_0 11 rfl rfl)
theorem dX3_state_12 : decode cX3_state 12 = .ok (.aload_n 0, 1) := dk_42 (dk_at dksX3_state_0 12 rfl rfl)
theorem dX3_state_13 : decode cX3_state 13 = .ok (.getfield 30, 3) := dk_180 0 30 (dk_at dksX3_state_0 13 rfl rfl)
theorem dX3_state_16 : decode cX3_state 16 = .ok (.iload_n 1, 1) := dk_27 (dk_at dksX3_state_0 16 rfl rfl)
theorem dX3_state_17 : decode cX3_state 17 = .ok (.iaload, 1) := dk_46 (dk_at dksX3_state_0 17 rfl rfl)
theorem dX3_state_18 : decode cX3_state 18 = .ok (.iconst (-1), 1) := dk_2 (dk_at dksX3_state_0 18 rfl rfl)
theorem dX3_state_19 : decode cX3_state 19 = .ok (.if_icmp .ne 5, 3) := dk_160 0 5 (dk_at dksX3_state_0 19 rfl rfl)
theorem dX3_state_22 : decode cX3_state 22 = .ok (.iconst 0, 1) := dk_3 (dk_at dksX3_state_0 22 rfl rfl)
theorem dX3_state_23 : decode cX3_state 23 = .ok (.ireturn, 1) := dk_172 (dk_at dksX3_state_0 23 rfl rfl)
theorem dX3_state_24 : decode cX3_state 24 = .ok (.aload_n 0, 1) := dk_42 (dk_at dksX3_state_1 0 rfl rfl)
theorem dX3_state_25 : decode cX3_state 25 = .ok (.getfield 30, 3) := dk_180 0 30 (dk_at dksX3_state_1 1 rfl rfl)
theorem dX3_state_28 : decode cX3_state 28 = .ok (.iload_n 1, 1) := dk_27 (dk_at dksX3_state_1 4 rfl rfl)
theorem dX3_state_29 : decode cX3_state 29 = .ok (.iaload, 1) := dk_46 (dk_at dksX3_state_1 5 rfl rfl)
theorem dX3_state_30 : decode cX3_state 30 = .ok (.aload_n 0, 1) := dk_42 (dk_at dksX3_state_1 6 rfl rfl)
theorem dX3_state_31 : decode cX3_state 31 = .ok (.bipush 6, 2) := dk_16 6 (dk_at dksX3_state_1 7 rfl rfl)
theorem dX3_state_33 : decode cX3_state 33 = .ok (.invokevirtual 132, 3) := dk_182 0 132 (dk_at dksX3_state_1 9 rfl rfl)
theorem dX3_state_36 : decode cX3_state 36 = .ok (.iadd, 1) := dk_96 (dk_at dksX3_state_1 12 rfl rfl)
theorem dX3_state_37 : decode cX3_state 37 = .ok (.aload_n 0, 1) := dk_42 (dk_at dksX3_state_1 13 rfl rfl)
theorem dX3_state_38 : decode cX3_state 38 = .ok (.getfield 70, 3) := dk_180 0 70 (dk_at dksX3_state_1 14 rfl rfl)
theorem dX3_state_41 : decode cX3_state 41 = .ok (.getfield 120, 3) := dk_180 0 120 (dk_at dksX3_state_1 17 rfl rfl)
theorem dX3_state_44 : decode cX3_state 44 = .ok (.aload_n 0, 1) := dk_42 (dk_at dksX3_state_1 20 rfl rfl)
theorem dX3_state_45 : decode cX3_state 45 = .ok (.getfield 70, 3) := dk_180 0 70 (dk_at dksX3_state_1 21 rfl rfl)
theorem dX3_state_48 : decode cX3_state 48 = .ok (.getfield 89, 3) := dk_180 0 89 (dk_at dksX3_state_2 0 rfl rfl)
theorem dX3_state_51 : decode cX3_state 51 = .ok (.iload_n 1, 1) := dk_27 (dk_at dksX3_state_2 3 rfl rfl)
theorem dX3_state_52 : decode cX3_state 52 = .ok (.invokevirtual 123, 3) := dk_182 0 123 (dk_at dksX3_state_2 4 rfl rfl)
theorem dX3_state_55 : decode cX3_state 55 = .ok (.checkcast 127, 3) := dk_192 0 127 (dk_at dksX3_state_2 7 rfl rfl)
theorem dX3_state_58 : decode cX3_state 58 = .ok (.getfield 129, 3) := dk_180 0 129 (dk_at dksX3_state_2 10 rfl rfl)
theorem dX3_state_61 : decode cX3_state 61 = .ok (.iaload, 1) := dk_46 (dk_at dksX3_state_2 13 rfl rfl)
theorem dX3_state_62 : decode cX3_state 62 = .ok (.if_icmp .gt 7, 3) := dk_163 0 7 (dk_at dksX3_state_2 14 rfl rfl)
theorem dX3_state_65 : decode cX3_state 65 = .ok (.iconst 1, 1) := dk_4 (dk_at dksX3_state_2 17 rfl rfl)
theorem dX3_state_66 : decode cX3_state 66 = .ok (.goto 4, 3) := dk_167 0 4 (dk_at dksX3_state_2 18 rfl rfl)
theorem dX3_state_69 : decode cX3_state 69 = .ok (.iconst 2, 1) := dk_5 (dk_at dksX3_state_2 21 rfl rfl)
theorem dX3_state_70 : decode cX3_state 70 = .ok (.ireturn, 1) := dk_172 (dk_at dksX3_state_2 22 rfl rfl)
abbrev cX3_inRoom : ByteArray := prog_6_method_19_code
def yX3_inRoom : MethodName := ⟨RX3, "inRoom", "()I"⟩
def dkwX3_inRoom_1 : List UInt8 := [180, 0, 45, 28, 51, 154, 0, 7, 4, 167, 0, 4, 3, 96, 60, 132, 2, 1, 167, 255, 218, 27, 172]
abbrev dktX3_inRoom_1 : List UInt8 := dkwX3_inRoom_1 ++ []
def dkwX3_inRoom_0 : List UInt8 := [3, 60, 3, 61, 28, 42, 180, 0, 99, 162, 0, 36, 27, 42, 180, 0, 9, 28, 46, 5, 160, 0, 16, 42]
abbrev dktX3_inRoom_0 : List UInt8 := dkwX3_inRoom_0 ++ dktX3_inRoom_1
theorem dksX3_inRoom_0 : cX3_inRoom.data.toList.drop 0 = dktX3_inRoom_0 := by decide +kernel
theorem dksX3_inRoom_1 : cX3_inRoom.data.toList.drop 24 = dktX3_inRoom_1 := dk_seg dksX3_inRoom_0 24 rfl rfl
theorem dX3_inRoom_0 : decode cX3_inRoom 0 = .ok (.iconst 0, 1) := dk_3 (dk_at dksX3_inRoom_0 0 rfl rfl)
theorem dX3_inRoom_1 : decode cX3_inRoom 1 = .ok (.istore_n 1, 1) := dk_60 (dk_at dksX3_inRoom_0 1 rfl rfl)
theorem dX3_inRoom_2 : decode cX3_inRoom 2 = .ok (.iconst 0, 1) := dk_3 (dk_at dksX3_inRoom_0 2 rfl rfl)
theorem dX3_inRoom_3 : decode cX3_inRoom 3 = .ok (.istore_n 2, 1) := dk_61 (dk_at dksX3_inRoom_0 3 rfl rfl)
theorem dX3_inRoom_4 : decode cX3_inRoom 4 = .ok (.iload_n 2, 1) := dk_28 (dk_at dksX3_inRoom_0 4 rfl rfl)
theorem dX3_inRoom_5 : decode cX3_inRoom 5 = .ok (.aload_n 0, 1) := dk_42 (dk_at dksX3_inRoom_0 5 rfl rfl)
theorem dX3_inRoom_6 : decode cX3_inRoom 6 = .ok (.getfield 99, 3) := dk_180 0 99 (dk_at dksX3_inRoom_0 6 rfl rfl)
theorem dX3_inRoom_9 : decode cX3_inRoom 9 = .ok (.if_icmp .ge 36, 3) := dk_162 0 36 (dk_at dksX3_inRoom_0 9 rfl rfl)
theorem dX3_inRoom_12 : decode cX3_inRoom 12 = .ok (.iload_n 1, 1) := dk_27 (dk_at dksX3_inRoom_0 12 rfl rfl)
theorem dX3_inRoom_13 : decode cX3_inRoom 13 = .ok (.aload_n 0, 1) := dk_42 (dk_at dksX3_inRoom_0 13 rfl rfl)
theorem dX3_inRoom_14 : decode cX3_inRoom 14 = .ok (.getfield 9, 3) := dk_180 0 9 (dk_at dksX3_inRoom_0 14 rfl rfl)
theorem dX3_inRoom_17 : decode cX3_inRoom 17 = .ok (.iload_n 2, 1) := dk_28 (dk_at dksX3_inRoom_0 17 rfl rfl)
theorem dX3_inRoom_18 : decode cX3_inRoom 18 = .ok (.iaload, 1) := dk_46 (dk_at dksX3_inRoom_0 18 rfl rfl)
theorem dX3_inRoom_19 : decode cX3_inRoom 19 = .ok (.iconst 2, 1) := dk_5 (dk_at dksX3_inRoom_0 19 rfl rfl)
theorem dX3_inRoom_20 : decode cX3_inRoom 20 = .ok (.if_icmp .ne 16, 3) := dk_160 0 16 (dk_at dksX3_inRoom_0 20 rfl rfl)
theorem dX3_inRoom_23 : decode cX3_inRoom 23 = .ok (.aload_n 0, 1) := dk_42 (dk_at dksX3_inRoom_0 23 rfl rfl)
theorem dX3_inRoom_24 : decode cX3_inRoom 24 = .ok (.getfield 45, 3) := dk_180 0 45 (dk_at dksX3_inRoom_1 0 rfl rfl)
theorem dX3_inRoom_27 : decode cX3_inRoom 27 = .ok (.iload_n 2, 1) := dk_28 (dk_at dksX3_inRoom_1 3 rfl rfl)
theorem dX3_inRoom_28 : decode cX3_inRoom 28 = .ok (.baload, 1) := dk_51 (dk_at dksX3_inRoom_1 4 rfl rfl)
theorem dX3_inRoom_29 : decode cX3_inRoom 29 = .ok (.ifCond .ne 7, 3) := dk_154 0 7 (dk_at dksX3_inRoom_1 5 rfl rfl)
theorem dX3_inRoom_32 : decode cX3_inRoom 32 = .ok (.iconst 1, 1) := dk_4 (dk_at dksX3_inRoom_1 8 rfl rfl)
theorem dX3_inRoom_33 : decode cX3_inRoom 33 = .ok (.goto 4, 3) := dk_167 0 4 (dk_at dksX3_inRoom_1 9 rfl rfl)
theorem dX3_inRoom_36 : decode cX3_inRoom 36 = .ok (.iconst 0, 1) := dk_3 (dk_at dksX3_inRoom_1 12 rfl rfl)
theorem dX3_inRoom_37 : decode cX3_inRoom 37 = .ok (.iadd, 1) := dk_96 (dk_at dksX3_inRoom_1 13 rfl rfl)
theorem dX3_inRoom_38 : decode cX3_inRoom 38 = .ok (.istore_n 1, 1) := dk_60 (dk_at dksX3_inRoom_1 14 rfl rfl)
theorem dX3_inRoom_39 : decode cX3_inRoom 39 = .ok (.iinc 2 1, 3) := dk_132 2 1 (dk_at dksX3_inRoom_1 15 rfl rfl)
theorem dX3_inRoom_42 : decode cX3_inRoom 42 = .ok (.goto (-38), 3) := dk_167 255 218 (dk_at dksX3_inRoom_1 18 rfl rfl)
theorem dX3_inRoom_45 : decode cX3_inRoom 45 = .ok (.iload_n 1, 1) := dk_27 (dk_at dksX3_inRoom_1 21 rfl rfl)
theorem dX3_inRoom_46 : decode cX3_inRoom 46 = .ok (.ireturn, 1) := dk_172 (dk_at dksX3_inRoom_1 22 rfl rfl)
abbrev cX3_isDone : ByteArray := prog_6_method_4_code
def yX3_isDone : MethodName := ⟨RX3, "isDone", "(LBakeryPlan$Plan;I)Z"⟩
def dkwX3_isDone_3 : List UInt8 := [132, 4, 1, 167, 255, 231, 42, 28, 182, 0, 142, 4, 160, 0, 7, 4, 167, 0, 4, 3, 172]
abbrev dktX3_isDone_3 : List UInt8 := dkwX3_isDone_3 ++ []
def dkwX3_isDone_2 : List UInt8 := [21, 4, 29, 163, 0, 25, 42, 180, 0, 9, 28, 46, 7, 162, 0, 15, 42, 21, 4, 182, 0, 116]
abbrev dktX3_isDone_2 : List UInt8 := dkwX3_isDone_2 ++ dktX3_isDone_3
def dkwX3_isDone_1 : List UInt8 := [182, 0, 123, 192, 0, 127, 180, 0, 129, 46, 42, 16, 6, 182, 0, 132, 100, 184, 0, 136, 62, 3, 54, 4]
abbrev dktX3_isDone_1 : List UInt8 := dkwX3_isDone_1 ++ dktX3_isDone_2
def dkwX3_isDone_0 : List UInt8 := [42, 43, 182, 0, 108, 17, 5, 159, 42, 180, 0, 70, 180, 0, 120, 42, 180, 0, 70, 180, 0, 89, 28]
abbrev dktX3_isDone_0 : List UInt8 := dkwX3_isDone_0 ++ dktX3_isDone_1
theorem dksX3_isDone_0 : cX3_isDone.data.toList.drop 0 = dktX3_isDone_0 := by decide +kernel
theorem dksX3_isDone_1 : cX3_isDone.data.toList.drop 23 = dktX3_isDone_1 := dk_seg dksX3_isDone_0 23 rfl rfl
theorem dksX3_isDone_2 : cX3_isDone.data.toList.drop 47 = dktX3_isDone_2 := dk_seg dksX3_isDone_1 24 rfl rfl
theorem dksX3_isDone_3 : cX3_isDone.data.toList.drop 69 = dktX3_isDone_3 := dk_seg dksX3_isDone_2 22 rfl rfl
theorem dX3_isDone_0 : decode cX3_isDone 0 = .ok (.aload_n 0, 1) := dk_42 (dk_at dksX3_isDone_0 0 rfl rfl)
theorem dX3_isDone_1 : decode cX3_isDone 1 = .ok (.aload_n 1, 1) := dk_43 (dk_at dksX3_isDone_0 1 rfl rfl)
theorem dX3_isDone_2 : decode cX3_isDone 2 = .ok (.invokevirtual 108, 3) := dk_182 0 108 (dk_at dksX3_isDone_0 2 rfl rfl)
theorem dX3_isDone_5 : decode cX3_isDone 5 = .ok (.sipush 1439, 3) := dk_17 5 159 (dk_at dksX3_isDone_0 5 rfl rfl)
theorem dX3_isDone_8 : decode cX3_isDone 8 = .ok (.aload_n 0, 1) := dk_42 (dk_at dksX3_isDone_0 8 rfl rfl)
theorem dX3_isDone_9 : decode cX3_isDone 9 = .ok (.getfield 70, 3) := dk_180 0 70 (dk_at dksX3_isDone_0 9 rfl rfl)
theorem dX3_isDone_12 : decode cX3_isDone 12 = .ok (.getfield 120, 3) := dk_180 0 120 (dk_at dksX3_isDone_0 12 rfl rfl)
theorem dX3_isDone_15 : decode cX3_isDone 15 = .ok (.aload_n 0, 1) := dk_42 (dk_at dksX3_isDone_0 15 rfl rfl)
theorem dX3_isDone_16 : decode cX3_isDone 16 = .ok (.getfield 70, 3) := dk_180 0 70 (dk_at dksX3_isDone_0 16 rfl rfl)
theorem dX3_isDone_19 : decode cX3_isDone 19 = .ok (.getfield 89, 3) := dk_180 0 89 (dk_at dksX3_isDone_0 19 rfl rfl)
theorem dX3_isDone_22 : decode cX3_isDone 22 = .ok (.iload_n 2, 1) := dk_28 (dk_at dksX3_isDone_0 22 rfl rfl)
theorem dX3_isDone_23 : decode cX3_isDone 23 = .ok (.invokevirtual 123, 3) := dk_182 0 123 (dk_at dksX3_isDone_1 0 rfl rfl)
theorem dX3_isDone_26 : decode cX3_isDone 26 = .ok (.checkcast 127, 3) := dk_192 0 127 (dk_at dksX3_isDone_1 3 rfl rfl)
theorem dX3_isDone_29 : decode cX3_isDone 29 = .ok (.getfield 129, 3) := dk_180 0 129 (dk_at dksX3_isDone_1 6 rfl rfl)
theorem dX3_isDone_32 : decode cX3_isDone 32 = .ok (.iaload, 1) := dk_46 (dk_at dksX3_isDone_1 9 rfl rfl)
theorem dX3_isDone_33 : decode cX3_isDone 33 = .ok (.aload_n 0, 1) := dk_42 (dk_at dksX3_isDone_1 10 rfl rfl)
theorem dX3_isDone_34 : decode cX3_isDone 34 = .ok (.bipush 6, 2) := dk_16 6 (dk_at dksX3_isDone_1 11 rfl rfl)
theorem dX3_isDone_36 : decode cX3_isDone 36 = .ok (.invokevirtual 132, 3) := dk_182 0 132 (dk_at dksX3_isDone_1 13 rfl rfl)
theorem dX3_isDone_39 : decode cX3_isDone 39 = .ok (.isub, 1) := dk_100 (dk_at dksX3_isDone_1 16 rfl rfl)
theorem dX3_isDone_40 : decode cX3_isDone 40 = .ok (.invokestatic 136, 3) := dk_184 0 136 (dk_at dksX3_isDone_1 17 rfl rfl)
theorem dX3_isDone_43 : decode cX3_isDone 43 = .ok (.istore_n 3, 1) := dk_62 (dk_at dksX3_isDone_1 20 rfl rfl)
theorem dX3_isDone_44 : decode cX3_isDone 44 = .ok (.iconst 0, 1) := dk_3 (dk_at dksX3_isDone_1 21 rfl rfl)
theorem dX3_isDone_45 : decode cX3_isDone 45 = .ok (.istore 4, 2) := dk_54 4 (dk_at dksX3_isDone_1 22 rfl rfl)
theorem dX3_isDone_47 : decode cX3_isDone 47 = .ok (.iload 4, 2) := dk_21 4 (dk_at dksX3_isDone_2 0 rfl rfl)
theorem dX3_isDone_49 : decode cX3_isDone 49 = .ok (.iload_n 3, 1) := dk_29 (dk_at dksX3_isDone_2 2 rfl rfl)
theorem dX3_isDone_50 : decode cX3_isDone 50 = .ok (.if_icmp .gt 25, 3) := dk_163 0 25 (dk_at dksX3_isDone_2 3 rfl rfl)
theorem dX3_isDone_53 : decode cX3_isDone 53 = .ok (.aload_n 0, 1) := dk_42 (dk_at dksX3_isDone_2 6 rfl rfl)
theorem dX3_isDone_54 : decode cX3_isDone 54 = .ok (.getfield 9, 3) := dk_180 0 9 (dk_at dksX3_isDone_2 7 rfl rfl)
theorem dX3_isDone_57 : decode cX3_isDone 57 = .ok (.iload_n 2, 1) := dk_28 (dk_at dksX3_isDone_2 10 rfl rfl)
theorem dX3_isDone_58 : decode cX3_isDone 58 = .ok (.iaload, 1) := dk_46 (dk_at dksX3_isDone_2 11 rfl rfl)
theorem dX3_isDone_59 : decode cX3_isDone 59 = .ok (.iconst 4, 1) := dk_7 (dk_at dksX3_isDone_2 12 rfl rfl)
theorem dX3_isDone_60 : decode cX3_isDone 60 = .ok (.if_icmp .ge 15, 3) := dk_162 0 15 (dk_at dksX3_isDone_2 13 rfl rfl)
theorem dX3_isDone_63 : decode cX3_isDone 63 = .ok (.aload_n 0, 1) := dk_42 (dk_at dksX3_isDone_2 16 rfl rfl)
theorem dX3_isDone_64 : decode cX3_isDone 64 = .ok (.iload 4, 2) := dk_21 4 (dk_at dksX3_isDone_2 17 rfl rfl)
theorem dX3_isDone_66 : decode cX3_isDone 66 = .ok (.invokevirtual 116, 3) := dk_182 0 116 (dk_at dksX3_isDone_2 19 rfl rfl)
theorem dX3_isDone_69 : decode cX3_isDone 69 = .ok (.iinc 4 1, 3) := dk_132 4 1 (dk_at dksX3_isDone_3 0 rfl rfl)
theorem dX3_isDone_72 : decode cX3_isDone 72 = .ok (.goto (-25), 3) := dk_167 255 231 (dk_at dksX3_isDone_3 3 rfl rfl)
theorem dX3_isDone_75 : decode cX3_isDone 75 = .ok (.aload_n 0, 1) := dk_42 (dk_at dksX3_isDone_3 6 rfl rfl)
theorem dX3_isDone_76 : decode cX3_isDone 76 = .ok (.iload_n 2, 1) := dk_28 (dk_at dksX3_isDone_3 7 rfl rfl)
theorem dX3_isDone_77 : decode cX3_isDone 77 = .ok (.invokevirtual 142, 3) := dk_182 0 142 (dk_at dksX3_isDone_3 8 rfl rfl)
theorem dX3_isDone_80 : decode cX3_isDone 80 = .ok (.iconst 1, 1) := dk_4 (dk_at dksX3_isDone_3 11 rfl rfl)
theorem dX3_isDone_81 : decode cX3_isDone 81 = .ok (.if_icmp .ne 7, 3) := dk_160 0 7 (dk_at dksX3_isDone_3 12 rfl rfl)
theorem dX3_isDone_84 : decode cX3_isDone 84 = .ok (.iconst 1, 1) := dk_4 (dk_at dksX3_isDone_3 15 rfl rfl)
theorem dX3_isDone_85 : decode cX3_isDone 85 = .ok (.goto 4, 3) := dk_167 0 4 (dk_at dksX3_isDone_3 16 rfl rfl)
theorem dX3_isDone_88 : decode cX3_isDone 88 = .ok (.iconst 0, 1) := dk_3 (dk_at dksX3_isDone_3 19 rfl rfl)
theorem dX3_isDone_89 : decode cX3_isDone 89 = .ok (.ireturn, 1) := dk_172 (dk_at dksX3_isDone_3 20 rfl rfl)
theorem q144 : (Jvm.Cond.initialized "BakeryPlan$Day") ∈ lw_all := lw_g (lw_at lw_m1 22 rfl) rfl
theorem q527 : (Jvm.Cond.fieldLinkNest "BakeryPlan$Day" (120 : Nat) "BakeryPlan$Plan" "waves" "[I" "BakeryPlan") ∈ lw_tbl := lw_at lw_m2 165 rfl
theorem q531 : (Jvm.Cond.fieldLinkNest "BakeryPlan$Day" (166 : Nat) "BakeryPlan$Plan" "settings" "[I" "BakeryPlan") ∈ lw_tbl := lw_at lw_m2 169 rfl
theorem q536 : (Jvm.Cond.fieldLinkNest "BakeryPlan$Day" (89 : Nat) "BakeryPlan$Plan" "batches" "Ljava/util/ArrayList;" "BakeryPlan") ∈ lw_tbl := lw_at lw_m2 174 rfl
theorem q542 : (Jvm.Cond.fieldLinkNest "BakeryPlan$Day" (84 : Nat) "BakeryPlan$Plan" "policy" "I" "BakeryPlan") ∈ lw_tbl := lw_at lw_m2 180 rfl
theorem q561 : (Jvm.Cond.instantiable "BakeryPlan$Day" (24 : Nat)) ∈ lw_all := lw_g (lw_at lw_m2 199 rfl) rfl
theorem q563 : (Jvm.Cond.instanceMethod ({ cls := "BakeryPlan$Day", name := "<init>", desc := "(LBakeryPlan$Plan;)V" } : Jvm.MethodName)) ∈ lw_all := lw_g (lw_at lw_m2 201 rfl) rfl
theorem q564 : (Jvm.Cond.code ({ cls := "BakeryPlan$Day", name := "<init>", desc := "(LBakeryPlan$Plan;)V" } : Jvm.MethodName) prog_6_method_1_code (2 : Nat) (Option.none : Option Jvm.ClassFile.FieldType)) ∈ lw_all := lw_g (lw_at lw_m2 202 rfl) rfl
theorem q565 : (Jvm.Cond.methodLink "BakeryPlan$Day" (3 : Nat) ({ cls := "java/lang/Object", name := "<init>", desc := "()V" } : Jvm.MethodName)) ∈ lw_all := lw_g (lw_at lw_m2 203 rfl) rfl
theorem q566 : (Jvm.Cond.methodLink "BakeryPlan$Day" (74 : Nat) ({ cls := "BakeryPlan$Policy", name := "numbered", desc := "(I)LBakeryPlan$Policy;" } : Jvm.MethodName)) ∈ lw_all := lw_g (lw_at lw_m2 204 rfl) rfl
theorem q591 : (Jvm.Cond.fieldLink "BakeryPlan$Day" (9 : Nat) "BakeryPlan$Day" "phase" "[I") ∈ lw_all := lw_g (lw_at lw_m2 229 rfl) rfl
theorem q592 : (Jvm.Cond.fieldLink "BakeryPlan$Day" (15 : Nat) "BakeryPlan$Day" "mixer" "[I") ∈ lw_all := lw_g (lw_at lw_m2 230 rfl) rfl
theorem q594 : (Jvm.Cond.fieldLink "BakeryPlan$Day" (18 : Nat) "BakeryPlan$Day" "mixStart" "[I") ∈ lw_all := lw_g (lw_at lw_m2 232 rfl) rfl
theorem q596 : (Jvm.Cond.fieldLink "BakeryPlan$Day" (21 : Nat) "BakeryPlan$Day" "proofStart" "[I") ∈ lw_all := lw_g (lw_at lw_m2 234 rfl) rfl
theorem q598 : (Jvm.Cond.fieldLink "BakeryPlan$Day" (24 : Nat) "BakeryPlan$Day" "deck" "[I") ∈ lw_all := lw_g (lw_at lw_m2 236 rfl) rfl
theorem q600 : (Jvm.Cond.fieldLink "BakeryPlan$Day" (27 : Nat) "BakeryPlan$Day" "bakeStart" "[I") ∈ lw_all := lw_g (lw_at lw_m2 238 rfl) rfl
theorem q602 : (Jvm.Cond.fieldLink "BakeryPlan$Day" (30 : Nat) "BakeryPlan$Day" "bakeEnd" "[I") ∈ lw_all := lw_g (lw_at lw_m3 0 rfl) rfl
theorem q604 : (Jvm.Cond.fieldLink "BakeryPlan$Day" (33 : Nat) "BakeryPlan$Day" "lostAt" "[I") ∈ lw_all := lw_g (lw_at lw_m3 2 rfl) rfl
theorem q606 : (Jvm.Cond.fieldLink "BakeryPlan$Day" (36 : Nat) "BakeryPlan$Day" "shelfMinutes" "[I") ∈ lw_all := lw_g (lw_at lw_m3 4 rfl) rfl
theorem q608 : (Jvm.Cond.fieldLink "BakeryPlan$Day" (39 : Nat) "BakeryPlan$Day" "age" "[I") ∈ lw_all := lw_g (lw_at lw_m3 6 rfl) rfl
theorem q610 : (Jvm.Cond.fieldLink "BakeryPlan$Day" (42 : Nat) "BakeryPlan$Day" "bakeAge" "[I") ∈ lw_all := lw_g (lw_at lw_m3 8 rfl) rfl
theorem q612 : (Jvm.Cond.fieldLink "BakeryPlan$Day" (45 : Nat) "BakeryPlan$Day" "isShelved" "[Z") ∈ lw_all := lw_g (lw_at lw_m3 10 rfl) rfl
theorem q613 : (Jvm.Cond.fieldLink "BakeryPlan$Day" (49 : Nat) "BakeryPlan$Day" "mixing" "[I") ∈ lw_all := lw_g (lw_at lw_m3 11 rfl) rfl
theorem q614 : (Jvm.Cond.fieldLink "BakeryPlan$Day" (52 : Nat) "BakeryPlan$Day" "until" "[I") ∈ lw_all := lw_g (lw_at lw_m3 12 rfl) rfl
theorem q615 : (Jvm.Cond.fieldLink "BakeryPlan$Day" (55 : Nat) "BakeryPlan$Day" "dough" "[I") ∈ lw_all := lw_g (lw_at lw_m3 13 rfl) rfl
theorem q616 : (Jvm.Cond.fieldLink "BakeryPlan$Day" (58 : Nat) "BakeryPlan$Day" "begun" "[I") ∈ lw_all := lw_g (lw_at lw_m3 14 rfl) rfl
theorem q618 : (Jvm.Cond.fieldLink "BakeryPlan$Day" (61 : Nat) "BakeryPlan$Day" "taken" "[I") ∈ lw_all := lw_g (lw_at lw_m3 16 rfl) rfl
theorem q620 : (Jvm.Cond.fieldLink "BakeryPlan$Day" (64 : Nat) "BakeryPlan$Day" "heat" "[I") ∈ lw_all := lw_g (lw_at lw_m3 18 rfl) rfl
theorem q622 : (Jvm.Cond.fieldLink "BakeryPlan$Day" (67 : Nat) "BakeryPlan$Day" "busy" "[I") ∈ lw_all := lw_g (lw_at lw_m3 20 rfl) rfl
theorem q624 : (Jvm.Cond.fieldLink "BakeryPlan$Day" (102 : Nat) "BakeryPlan$Day" "cleanings" "I") ∈ lw_all := lw_g (lw_at lw_m3 22 rfl) rfl
theorem q626 : (Jvm.Cond.fieldLink "BakeryPlan$Day" (105 : Nat) "BakeryPlan$Day" "degrees" "I") ∈ lw_all := lw_g (lw_at lw_m3 24 rfl) rfl
theorem q628 : (Jvm.Cond.fieldLink "BakeryPlan$Day" (99 : Nat) "BakeryPlan$Day" "count" "I") ∈ lw_all := lw_g (lw_at lw_m3 26 rfl) rfl
theorem q629 : (Jvm.Cond.fieldLink "BakeryPlan$Day" (70 : Nat) "BakeryPlan$Day" "plan" "LBakeryPlan$Plan;") ∈ lw_all := lw_g (lw_at lw_m3 27 rfl) rfl
theorem q631 : (Jvm.Cond.fieldLink "BakeryPlan$Day" (80 : Nat) "BakeryPlan$Day" "policy" "LBakeryPlan$Policy;") ∈ lw_all := lw_g (lw_at lw_m3 29 rfl) rfl
theorem q632 : (Jvm.Cond.laysFinal "BakeryPlan$Day" "BakeryPlan$Day" "phase" "[I") ∈ lw_all := lw_g (lw_at lw_m3 30 rfl) rfl
theorem q633 : (Jvm.Cond.soleField "BakeryPlan$Day" "phase") ∈ lw_all := lw_g (lw_at lw_m3 31 rfl) rfl
theorem q634 : (Jvm.Cond.laysFinal "BakeryPlan$Day" "BakeryPlan$Day" "mixer" "[I") ∈ lw_all := lw_g (lw_at lw_m3 32 rfl) rfl
theorem q635 : (Jvm.Cond.soleField "BakeryPlan$Day" "mixer") ∈ lw_all := lw_g (lw_at lw_m3 33 rfl) rfl
theorem q636 : (Jvm.Cond.laysFinal "BakeryPlan$Day" "BakeryPlan$Day" "mixStart" "[I") ∈ lw_all := lw_g (lw_at lw_m3 34 rfl) rfl
theorem q637 : (Jvm.Cond.soleField "BakeryPlan$Day" "mixStart") ∈ lw_all := lw_g (lw_at lw_m3 35 rfl) rfl
theorem q638 : (Jvm.Cond.laysFinal "BakeryPlan$Day" "BakeryPlan$Day" "proofStart" "[I") ∈ lw_all := lw_g (lw_at lw_m3 36 rfl) rfl
theorem q639 : (Jvm.Cond.soleField "BakeryPlan$Day" "proofStart") ∈ lw_all := lw_g (lw_at lw_m3 37 rfl) rfl
theorem q640 : (Jvm.Cond.laysFinal "BakeryPlan$Day" "BakeryPlan$Day" "deck" "[I") ∈ lw_all := lw_g (lw_at lw_m3 38 rfl) rfl
theorem q641 : (Jvm.Cond.soleField "BakeryPlan$Day" "deck") ∈ lw_all := lw_g (lw_at lw_m3 39 rfl) rfl
theorem q642 : (Jvm.Cond.laysFinal "BakeryPlan$Day" "BakeryPlan$Day" "bakeStart" "[I") ∈ lw_all := lw_g (lw_at lw_m3 40 rfl) rfl
theorem q643 : (Jvm.Cond.soleField "BakeryPlan$Day" "bakeStart") ∈ lw_all := lw_g (lw_at lw_m3 41 rfl) rfl
theorem q644 : (Jvm.Cond.laysFinal "BakeryPlan$Day" "BakeryPlan$Day" "bakeEnd" "[I") ∈ lw_all := lw_g (lw_at lw_m3 42 rfl) rfl
theorem q645 : (Jvm.Cond.soleField "BakeryPlan$Day" "bakeEnd") ∈ lw_all := lw_g (lw_at lw_m3 43 rfl) rfl
theorem q646 : (Jvm.Cond.laysFinal "BakeryPlan$Day" "BakeryPlan$Day" "lostAt" "[I") ∈ lw_all := lw_g (lw_at lw_m3 44 rfl) rfl
theorem q647 : (Jvm.Cond.soleField "BakeryPlan$Day" "lostAt") ∈ lw_all := lw_g (lw_at lw_m3 45 rfl) rfl
theorem q648 : (Jvm.Cond.laysFinal "BakeryPlan$Day" "BakeryPlan$Day" "shelfMinutes" "[I") ∈ lw_all := lw_g (lw_at lw_m3 46 rfl) rfl
theorem q649 : (Jvm.Cond.soleField "BakeryPlan$Day" "shelfMinutes") ∈ lw_all := lw_g (lw_at lw_m3 47 rfl) rfl
theorem q650 : (Jvm.Cond.laysFinal "BakeryPlan$Day" "BakeryPlan$Day" "age" "[I") ∈ lw_all := lw_g (lw_at lw_m3 48 rfl) rfl
theorem q651 : (Jvm.Cond.soleField "BakeryPlan$Day" "age") ∈ lw_all := lw_g (lw_at lw_m3 49 rfl) rfl
theorem q652 : (Jvm.Cond.laysFinal "BakeryPlan$Day" "BakeryPlan$Day" "bakeAge" "[I") ∈ lw_all := lw_g (lw_at lw_m3 50 rfl) rfl
theorem q653 : (Jvm.Cond.soleField "BakeryPlan$Day" "bakeAge") ∈ lw_all := lw_g (lw_at lw_m3 51 rfl) rfl
theorem q654 : (Jvm.Cond.laysFinal "BakeryPlan$Day" "BakeryPlan$Day" "isShelved" "[Z") ∈ lw_all := lw_g (lw_at lw_m3 52 rfl) rfl
theorem q655 : (Jvm.Cond.soleField "BakeryPlan$Day" "isShelved") ∈ lw_all := lw_g (lw_at lw_m3 53 rfl) rfl
theorem q656 : (Jvm.Cond.laysFinal "BakeryPlan$Day" "BakeryPlan$Day" "mixing" "[I") ∈ lw_all := lw_g (lw_at lw_m3 54 rfl) rfl
theorem q657 : (Jvm.Cond.soleField "BakeryPlan$Day" "mixing") ∈ lw_all := lw_g (lw_at lw_m3 55 rfl) rfl
theorem q658 : (Jvm.Cond.laysFinal "BakeryPlan$Day" "BakeryPlan$Day" "until" "[I") ∈ lw_all := lw_g (lw_at lw_m3 56 rfl) rfl
theorem q659 : (Jvm.Cond.soleField "BakeryPlan$Day" "until") ∈ lw_all := lw_g (lw_at lw_m3 57 rfl) rfl
theorem q660 : (Jvm.Cond.laysFinal "BakeryPlan$Day" "BakeryPlan$Day" "dough" "[I") ∈ lw_all := lw_g (lw_at lw_m3 58 rfl) rfl
theorem q661 : (Jvm.Cond.soleField "BakeryPlan$Day" "dough") ∈ lw_all := lw_g (lw_at lw_m3 59 rfl) rfl
theorem q662 : (Jvm.Cond.laysFinal "BakeryPlan$Day" "BakeryPlan$Day" "begun" "[I") ∈ lw_all := lw_g (lw_at lw_m3 60 rfl) rfl
theorem q663 : (Jvm.Cond.soleField "BakeryPlan$Day" "begun") ∈ lw_all := lw_g (lw_at lw_m3 61 rfl) rfl
theorem q664 : (Jvm.Cond.laysFinal "BakeryPlan$Day" "BakeryPlan$Day" "taken" "[I") ∈ lw_all := lw_g (lw_at lw_m3 62 rfl) rfl
theorem q665 : (Jvm.Cond.soleField "BakeryPlan$Day" "taken") ∈ lw_all := lw_g (lw_at lw_m3 63 rfl) rfl
theorem q666 : (Jvm.Cond.laysFinal "BakeryPlan$Day" "BakeryPlan$Day" "heat" "[I") ∈ lw_all := lw_g (lw_at lw_m3 64 rfl) rfl
theorem q667 : (Jvm.Cond.soleField "BakeryPlan$Day" "heat") ∈ lw_all := lw_g (lw_at lw_m3 65 rfl) rfl
theorem q668 : (Jvm.Cond.laysFinal "BakeryPlan$Day" "BakeryPlan$Day" "busy" "[I") ∈ lw_all := lw_g (lw_at lw_m3 66 rfl) rfl
theorem q669 : (Jvm.Cond.soleField "BakeryPlan$Day" "busy") ∈ lw_all := lw_g (lw_at lw_m3 67 rfl) rfl
theorem q670 : (Jvm.Cond.lays "BakeryPlan$Day" "BakeryPlan$Day" "cleanings" "I") ∈ lw_all := lw_g (lw_at lw_m3 68 rfl) rfl
theorem q671 : (Jvm.Cond.soleField "BakeryPlan$Day" "cleanings") ∈ lw_all := lw_g (lw_at lw_m3 69 rfl) rfl
theorem q672 : (Jvm.Cond.lays "BakeryPlan$Day" "BakeryPlan$Day" "degrees" "I") ∈ lw_all := lw_g (lw_at lw_m3 70 rfl) rfl
theorem q673 : (Jvm.Cond.soleField "BakeryPlan$Day" "degrees") ∈ lw_all := lw_g (lw_at lw_m3 71 rfl) rfl
theorem q674 : (Jvm.Cond.lays "BakeryPlan$Day" "BakeryPlan$Day" "count" "I") ∈ lw_all := lw_g (lw_at lw_m3 72 rfl) rfl
theorem q675 : (Jvm.Cond.soleField "BakeryPlan$Day" "count") ∈ lw_all := lw_g (lw_at lw_m3 73 rfl) rfl
theorem q676 : (Jvm.Cond.lays "BakeryPlan$Day" "BakeryPlan$Day" "plan" "LBakeryPlan$Plan;") ∈ lw_all := lw_g (lw_at lw_m3 74 rfl) rfl
theorem q677 : (Jvm.Cond.soleField "BakeryPlan$Day" "plan") ∈ lw_all := lw_g (lw_at lw_m3 75 rfl) rfl
theorem q678 : (Jvm.Cond.lays "BakeryPlan$Day" "BakeryPlan$Day" "policy" "LBakeryPlan$Policy;") ∈ lw_all := lw_g (lw_at lw_m3 76 rfl) rfl
theorem q679 : (Jvm.Cond.soleField "BakeryPlan$Day" "policy") ∈ lw_all := lw_g (lw_at lw_m3 77 rfl) rfl
theorem q680 : (Jvm.Cond.superclass "BakeryPlan$Day" "java/lang/Object") ∈ lw_all := lw_g (lw_at lw_m3 78 rfl) rfl
theorem q754 : (Jvm.Cond.instanceMethod ({ cls := "BakeryPlan$Day", name := "run", desc := "(LBakeryPlan$Plan;I)LBakeryPlan$Day;" } : Jvm.MethodName)) ∈ lw_all := lw_g (lw_at lw_m3 152 rfl) rfl
theorem q755 : (Jvm.Cond.selects "BakeryPlan$Day" ({ cls := "BakeryPlan$Day", name := "run", desc := "(LBakeryPlan$Plan;I)LBakeryPlan$Day;" } : Jvm.MethodName) ({ cls := "BakeryPlan$Day", name := "run", desc := "(LBakeryPlan$Plan;I)LBakeryPlan$Day;" } : Jvm.MethodName)) ∈ lw_all := lw_g (lw_at lw_m3 153 rfl) rfl
theorem q756 : (Jvm.Cond.code ({ cls := "BakeryPlan$Day", name := "run", desc := "(LBakeryPlan$Plan;I)LBakeryPlan$Day;" } : Jvm.MethodName) prog_6_method_3_code (4 : Nat) (Option.some (Jvm.ClassFile.FieldType.object "BakeryPlan$Day"))) ∈ lw_all := lw_g (lw_at lw_m3 154 rfl) rfl
theorem q757 : (Jvm.Cond.methodLink "BakeryPlan$Day" (108 : Nat) ({ cls := "BakeryPlan$Day", name := "begin", desc := "(LBakeryPlan$Plan;)V" } : Jvm.MethodName)) ∈ lw_all := lw_g (lw_at lw_m3 155 rfl) rfl
theorem q758 : (Jvm.Cond.privateMethod ({ cls := "BakeryPlan$Day", name := "begin", desc := "(LBakeryPlan$Plan;)V" } : Jvm.MethodName)) ∈ lw_tbl := lw_at lw_m3 156 rfl
theorem q759 : (Jvm.Cond.instanceMethod ({ cls := "BakeryPlan$Day", name := "begin", desc := "(LBakeryPlan$Plan;)V" } : Jvm.MethodName)) ∈ lw_all := lw_g (lw_at lw_m3 157 rfl) rfl
theorem q760 : (Jvm.Cond.code ({ cls := "BakeryPlan$Day", name := "begin", desc := "(LBakeryPlan$Plan;)V" } : Jvm.MethodName) prog_6_method_2_code (3 : Nat) (Option.none : Option Jvm.ClassFile.FieldType)) ∈ lw_all := lw_g (lw_at lw_m3 158 rfl) rfl
theorem q761 : (Jvm.Cond.methodLink "BakeryPlan$Day" (93 : Nat) ({ cls := "java/util/ArrayList", name := "size", desc := "()I" } : Jvm.MethodName)) ∈ lw_all := lw_g (lw_at lw_m3 159 rfl) rfl
theorem q762 : (Jvm.Cond.methodLink "BakeryPlan$Day" (112 : Nat) ({ cls := "BakeryPlan$Day", name := "isOver", desc := "()Z" } : Jvm.MethodName)) ∈ lw_all := lw_g (lw_at lw_m3 160 rfl) rfl
theorem q763 : (Jvm.Cond.privateMethod ({ cls := "BakeryPlan$Day", name := "isOver", desc := "()Z" } : Jvm.MethodName)) ∈ lw_tbl := lw_at lw_m3 161 rfl
theorem q764 : (Jvm.Cond.instanceMethod ({ cls := "BakeryPlan$Day", name := "isOver", desc := "()Z" } : Jvm.MethodName)) ∈ lw_all := lw_g (lw_at lw_m3 162 rfl) rfl
theorem q765 : (Jvm.Cond.code ({ cls := "BakeryPlan$Day", name := "isOver", desc := "()Z" } : Jvm.MethodName) prog_6_method_5_code (2 : Nat) (Option.some Jvm.ClassFile.FieldType.boolean)) ∈ lw_all := lw_g (lw_at lw_m3 163 rfl) rfl
theorem q766 : (Jvm.Cond.methodLink "BakeryPlan$Day" (116 : Nat) ({ cls := "BakeryPlan$Day", name := "minute", desc := "(I)V" } : Jvm.MethodName)) ∈ lw_all := lw_g (lw_at lw_m3 164 rfl) rfl
theorem q767 : (Jvm.Cond.privateMethod ({ cls := "BakeryPlan$Day", name := "minute", desc := "(I)V" } : Jvm.MethodName)) ∈ lw_tbl := lw_at lw_m3 165 rfl
theorem q768 : (Jvm.Cond.instanceMethod ({ cls := "BakeryPlan$Day", name := "minute", desc := "(I)V" } : Jvm.MethodName)) ∈ lw_all := lw_g (lw_at lw_m3 166 rfl) rfl
theorem q769 : (Jvm.Cond.code ({ cls := "BakeryPlan$Day", name := "minute", desc := "(I)V" } : Jvm.MethodName) prog_6_method_6_code (2 : Nat) (Option.none : Option Jvm.ClassFile.FieldType)) ∈ lw_all := lw_g (lw_at lw_m3 167 rfl) rfl
theorem q770 : (Jvm.Cond.methodLink "BakeryPlan$Day" (145 : Nat) ({ cls := "BakeryPlan$Day", name := "end", desc := "(I)V" } : Jvm.MethodName)) ∈ lw_all := lw_g (lw_at lw_m3 168 rfl) rfl
theorem q771 : (Jvm.Cond.privateMethod ({ cls := "BakeryPlan$Day", name := "end", desc := "(I)V" } : Jvm.MethodName)) ∈ lw_tbl := lw_at lw_m3 169 rfl
theorem q772 : (Jvm.Cond.instanceMethod ({ cls := "BakeryPlan$Day", name := "end", desc := "(I)V" } : Jvm.MethodName)) ∈ lw_all := lw_g (lw_at lw_m3 170 rfl) rfl
theorem q773 : (Jvm.Cond.code ({ cls := "BakeryPlan$Day", name := "end", desc := "(I)V" } : Jvm.MethodName) prog_6_method_10_code (3 : Nat) (Option.none : Option Jvm.ClassFile.FieldType)) ∈ lw_all := lw_g (lw_at lw_m3 171 rfl) rfl
theorem q774 : (Jvm.Cond.methodLink "BakeryPlan$Day" (132 : Nat) ({ cls := "BakeryPlan$Day", name := "setting", desc := "(I)I" } : Jvm.MethodName)) ∈ lw_all := lw_g (lw_at lw_m3 172 rfl) rfl
theorem q775 : (Jvm.Cond.privateMethod ({ cls := "BakeryPlan$Day", name := "setting", desc := "(I)I" } : Jvm.MethodName)) ∈ lw_tbl := lw_at lw_m3 173 rfl
theorem q776 : (Jvm.Cond.instanceMethod ({ cls := "BakeryPlan$Day", name := "setting", desc := "(I)I" } : Jvm.MethodName)) ∈ lw_all := lw_g (lw_at lw_m3 174 rfl) rfl
theorem q777 : (Jvm.Cond.code ({ cls := "BakeryPlan$Day", name := "setting", desc := "(I)I" } : Jvm.MethodName) prog_6_method_7_code (2 : Nat) (Option.some Jvm.ClassFile.FieldType.int)) ∈ lw_all := lw_g (lw_at lw_m3 175 rfl) rfl
theorem q778 : (Jvm.Cond.methodLink "BakeryPlan$Day" (184 : Nat) ({ cls := "BakeryPlan$Day", name := "isBaking", desc := "(I)Z" } : Jvm.MethodName)) ∈ lw_all := lw_g (lw_at lw_m3 176 rfl) rfl
theorem q779 : (Jvm.Cond.instanceMethod ({ cls := "BakeryPlan$Day", name := "isBaking", desc := "(I)Z" } : Jvm.MethodName)) ∈ lw_all := lw_g (lw_at lw_m3 177 rfl) rfl
theorem q780 : (Jvm.Cond.selects "BakeryPlan$Day" ({ cls := "BakeryPlan$Day", name := "isBaking", desc := "(I)Z" } : Jvm.MethodName) ({ cls := "BakeryPlan$Day", name := "isBaking", desc := "(I)Z" } : Jvm.MethodName)) ∈ lw_all := lw_g (lw_at lw_m3 178 rfl) rfl
theorem q781 : (Jvm.Cond.code ({ cls := "BakeryPlan$Day", name := "isBaking", desc := "(I)Z" } : Jvm.MethodName) prog_6_method_11_code (2 : Nat) (Option.some Jvm.ClassFile.FieldType.boolean)) ∈ lw_all := lw_g (lw_at lw_m3 179 rfl) rfl
theorem q782 : (Jvm.Cond.methodLink "BakeryPlan$Day" (169 : Nat) ({ cls := "BakeryPlan$Plan", name := "productOf", desc := "(I)LBakeryPlan$Product;" } : Jvm.MethodName)) ∈ lw_all := lw_g (lw_at lw_m3 180 rfl) rfl
theorem q802 : (Jvm.Cond.methodLink "BakeryPlan$Day" (148 : Nat) ({ cls := "BakeryPlan$Day", name := "spoil", desc := "(I)V" } : Jvm.MethodName)) ∈ lw_all := lw_g (lw_at lw_m3 200 rfl) rfl
theorem q803 : (Jvm.Cond.privateMethod ({ cls := "BakeryPlan$Day", name := "spoil", desc := "(I)V" } : Jvm.MethodName)) ∈ lw_tbl := lw_at lw_m3 201 rfl
theorem q804 : (Jvm.Cond.instanceMethod ({ cls := "BakeryPlan$Day", name := "spoil", desc := "(I)V" } : Jvm.MethodName)) ∈ lw_all := lw_g (lw_at lw_m3 202 rfl) rfl
theorem q805 : (Jvm.Cond.code ({ cls := "BakeryPlan$Day", name := "spoil", desc := "(I)V" } : Jvm.MethodName) prog_6_method_12_code (4 : Nat) (Option.none : Option Jvm.ClassFile.FieldType)) ∈ lw_all := lw_g (lw_at lw_m3 203 rfl) rfl
theorem q806 : (Jvm.Cond.methodLink "BakeryPlan$Day" (190 : Nat) ({ cls := "BakeryPlan$Day", name := "oldest", desc := "(I)I" } : Jvm.MethodName)) ∈ lw_all := lw_g (lw_at lw_m3 204 rfl) rfl
theorem q807 : (Jvm.Cond.instanceMethod ({ cls := "BakeryPlan$Day", name := "oldest", desc := "(I)I" } : Jvm.MethodName)) ∈ lw_all := lw_g (lw_at lw_m3 205 rfl) rfl
theorem q808 : (Jvm.Cond.selects "BakeryPlan$Day" ({ cls := "BakeryPlan$Day", name := "oldest", desc := "(I)I" } : Jvm.MethodName) ({ cls := "BakeryPlan$Day", name := "oldest", desc := "(I)I" } : Jvm.MethodName)) ∈ lw_all := lw_g (lw_at lw_m3 206 rfl) rfl
theorem q809 : (Jvm.Cond.code ({ cls := "BakeryPlan$Day", name := "oldest", desc := "(I)I" } : Jvm.MethodName) prog_6_method_9_code (2 : Nat) (Option.some Jvm.ClassFile.FieldType.int)) ∈ lw_all := lw_g (lw_at lw_m3 207 rfl) rfl
theorem q810 : (Jvm.Cond.methodLink "BakeryPlan$Day" (178 : Nat) ({ cls := "BakeryPlan$Day", name := "ripe", desc := "(I)I" } : Jvm.MethodName)) ∈ lw_all := lw_g (lw_at lw_m3 208 rfl) rfl
theorem q811 : (Jvm.Cond.instanceMethod ({ cls := "BakeryPlan$Day", name := "ripe", desc := "(I)I" } : Jvm.MethodName)) ∈ lw_all := lw_g (lw_at lw_m3 209 rfl) rfl
theorem q812 : (Jvm.Cond.selects "BakeryPlan$Day" ({ cls := "BakeryPlan$Day", name := "ripe", desc := "(I)I" } : Jvm.MethodName) ({ cls := "BakeryPlan$Day", name := "ripe", desc := "(I)I" } : Jvm.MethodName)) ∈ lw_all := lw_g (lw_at lw_m3 210 rfl) rfl
theorem q813 : (Jvm.Cond.code ({ cls := "BakeryPlan$Day", name := "ripe", desc := "(I)I" } : Jvm.MethodName) prog_6_method_8_code (2 : Nat) (Option.some Jvm.ClassFile.FieldType.int)) ∈ lw_all := lw_g (lw_at lw_m3 211 rfl) rfl
theorem q814 : (Jvm.Cond.methodLink "BakeryPlan$Day" (151 : Nat) ({ cls := "BakeryPlan$Day", name := "reserve", desc := "()V" } : Jvm.MethodName)) ∈ lw_all := lw_g (lw_at lw_m3 212 rfl) rfl
theorem q815 : (Jvm.Cond.privateMethod ({ cls := "BakeryPlan$Day", name := "reserve", desc := "()V" } : Jvm.MethodName)) ∈ lw_tbl := lw_at lw_m3 213 rfl
theorem q816 : (Jvm.Cond.instanceMethod ({ cls := "BakeryPlan$Day", name := "reserve", desc := "()V" } : Jvm.MethodName)) ∈ lw_all := lw_g (lw_at lw_m3 214 rfl) rfl
theorem q817 : (Jvm.Cond.code ({ cls := "BakeryPlan$Day", name := "reserve", desc := "()V" } : Jvm.MethodName) prog_6_method_16_code (5 : Nat) (Option.none : Option Jvm.ClassFile.FieldType)) ∈ lw_all := lw_g (lw_at lw_m3 215 rfl) rfl
theorem q818 : (Jvm.Cond.methodLink "BakeryPlan$Day" (204 : Nat) ({ cls := "BakeryPlan$Day", name := "isReserved", desc := "(I)Z" } : Jvm.MethodName)) ∈ lw_all := lw_g (lw_at lw_m3 216 rfl) rfl
theorem q819 : (Jvm.Cond.privateMethod ({ cls := "BakeryPlan$Day", name := "isReserved", desc := "(I)Z" } : Jvm.MethodName)) ∈ lw_tbl := lw_at lw_m3 217 rfl
theorem q820 : (Jvm.Cond.instanceMethod ({ cls := "BakeryPlan$Day", name := "isReserved", desc := "(I)Z" } : Jvm.MethodName)) ∈ lw_all := lw_g (lw_at lw_m3 218 rfl) rfl
theorem q821 : (Jvm.Cond.code ({ cls := "BakeryPlan$Day", name := "isReserved", desc := "(I)Z" } : Jvm.MethodName) prog_6_method_14_code (4 : Nat) (Option.some Jvm.ClassFile.FieldType.boolean)) ∈ lw_all := lw_g (lw_at lw_m3 219 rfl) rfl
theorem q822 : (Jvm.Cond.methodLink "BakeryPlan$Day" (207 : Nat) ({ cls := "BakeryPlan$Day", name := "canWait", desc := "(II)Z" } : Jvm.MethodName)) ∈ lw_all := lw_g (lw_at lw_m3 220 rfl) rfl
theorem q823 : (Jvm.Cond.privateMethod ({ cls := "BakeryPlan$Day", name := "canWait", desc := "(II)Z" } : Jvm.MethodName)) ∈ lw_tbl := lw_at lw_m3 221 rfl
theorem q824 : (Jvm.Cond.instanceMethod ({ cls := "BakeryPlan$Day", name := "canWait", desc := "(II)Z" } : Jvm.MethodName)) ∈ lw_all := lw_g (lw_at lw_m3 222 rfl) rfl
theorem q825 : (Jvm.Cond.code ({ cls := "BakeryPlan$Day", name := "canWait", desc := "(II)Z" } : Jvm.MethodName) prog_6_method_15_code (4 : Nat) (Option.some Jvm.ClassFile.FieldType.boolean)) ∈ lw_all := lw_g (lw_at lw_m3 223 rfl) rfl
theorem q826 : (Jvm.Cond.methodLink "BakeryPlan$Day" (193 : Nat) ({ cls := "java/lang/Math", name := "max", desc := "(II)I" } : Jvm.MethodName)) ∈ lw_all := lw_g (lw_at lw_m3 224 rfl) rfl
theorem q827 : (Jvm.Cond.methodLink "BakeryPlan$Day" (196 : Nat) ({ cls := "BakeryPlan$Day", name := "up", desc := "(II)I" } : Jvm.MethodName)) ∈ lw_all := lw_g (lw_at lw_m3 225 rfl) rfl
theorem q828 : (Jvm.Cond.static ({ cls := "BakeryPlan$Day", name := "up", desc := "(II)I" } : Jvm.MethodName)) ∈ lw_all := lw_g (lw_at lw_m3 226 rfl) rfl
theorem q829 : (Jvm.Cond.code ({ cls := "BakeryPlan$Day", name := "up", desc := "(II)I" } : Jvm.MethodName) prog_6_method_13_code (2 : Nat) (Option.some Jvm.ClassFile.FieldType.int)) ∈ lw_all := lw_g (lw_at lw_m3 227 rfl) rfl
theorem q830 : (Jvm.Cond.methodLink "BakeryPlan$Day" (201 : Nat) ({ cls := "java/lang/Math", name := "abs", desc := "(I)I" } : Jvm.MethodName)) ∈ lw_all := lw_g (lw_at lw_m3 228 rfl) rfl
theorem q833 : (Jvm.Cond.interfaceEntry "BakeryPlan$Day" (211 : Nat)) ∈ lw_tbl := lw_at lw_m3 231 rfl
theorem q834 : (Jvm.Cond.methodLink "BakeryPlan$Day" (211 : Nat) ({ cls := "BakeryPlan$Policy", name := "isBetter", desc := "(LBakeryPlan$Day;II)Z" } : Jvm.MethodName)) ∈ lw_all := lw_g (lw_at lw_m3 232 rfl) rfl
theorem q868 : (Jvm.Cond.methodLink "BakeryPlan$Day" (154 : Nat) ({ cls := "BakeryPlan$Day", name := "bake", desc := "(I)V" } : Jvm.MethodName)) ∈ lw_all := lw_g (lw_at lw_m4 26 rfl) rfl
theorem q869 : (Jvm.Cond.privateMethod ({ cls := "BakeryPlan$Day", name := "bake", desc := "(I)V" } : Jvm.MethodName)) ∈ lw_tbl := lw_at lw_m4 27 rfl
theorem q870 : (Jvm.Cond.instanceMethod ({ cls := "BakeryPlan$Day", name := "bake", desc := "(I)V" } : Jvm.MethodName)) ∈ lw_all := lw_g (lw_at lw_m4 28 rfl) rfl
theorem q871 : (Jvm.Cond.code ({ cls := "BakeryPlan$Day", name := "bake", desc := "(I)V" } : Jvm.MethodName) prog_6_method_17_code (4 : Nat) (Option.none : Option Jvm.ClassFile.FieldType)) ∈ lw_all := lw_g (lw_at lw_m4 29 rfl) rfl
theorem q872 : (Jvm.Cond.methodLink "BakeryPlan$Day" (157 : Nat) ({ cls := "BakeryPlan$Day", name := "shelve", desc := "()V" } : Jvm.MethodName)) ∈ lw_all := lw_g (lw_at lw_m4 30 rfl) rfl
theorem q873 : (Jvm.Cond.privateMethod ({ cls := "BakeryPlan$Day", name := "shelve", desc := "()V" } : Jvm.MethodName)) ∈ lw_tbl := lw_at lw_m4 31 rfl
theorem q874 : (Jvm.Cond.instanceMethod ({ cls := "BakeryPlan$Day", name := "shelve", desc := "()V" } : Jvm.MethodName)) ∈ lw_all := lw_g (lw_at lw_m4 32 rfl) rfl
theorem q875 : (Jvm.Cond.code ({ cls := "BakeryPlan$Day", name := "shelve", desc := "()V" } : Jvm.MethodName) prog_6_method_20_code (3 : Nat) (Option.none : Option Jvm.ClassFile.FieldType)) ∈ lw_all := lw_g (lw_at lw_m4 33 rfl) rfl
theorem q876 : (Jvm.Cond.methodLink "BakeryPlan$Day" (215 : Nat) ({ cls := "BakeryPlan$Day", name := "shelved", desc := "()I" } : Jvm.MethodName)) ∈ lw_all := lw_g (lw_at lw_m4 34 rfl) rfl
theorem q877 : (Jvm.Cond.instanceMethod ({ cls := "BakeryPlan$Day", name := "shelved", desc := "()I" } : Jvm.MethodName)) ∈ lw_all := lw_g (lw_at lw_m4 35 rfl) rfl
theorem q878 : (Jvm.Cond.selects "BakeryPlan$Day" ({ cls := "BakeryPlan$Day", name := "shelved", desc := "()I" } : Jvm.MethodName) ({ cls := "BakeryPlan$Day", name := "shelved", desc := "()I" } : Jvm.MethodName)) ∈ lw_all := lw_g (lw_at lw_m4 36 rfl) rfl
theorem q879 : (Jvm.Cond.code ({ cls := "BakeryPlan$Day", name := "shelved", desc := "()I" } : Jvm.MethodName) prog_6_method_18_code (3 : Nat) (Option.some Jvm.ClassFile.FieldType.int)) ∈ lw_all := lw_g (lw_at lw_m4 37 rfl) rfl
theorem q880 : (Jvm.Cond.methodLink "BakeryPlan$Day" (160 : Nat) ({ cls := "BakeryPlan$Day", name := "mix", desc := "(I)V" } : Jvm.MethodName)) ∈ lw_all := lw_g (lw_at lw_m4 38 rfl) rfl
theorem q881 : (Jvm.Cond.privateMethod ({ cls := "BakeryPlan$Day", name := "mix", desc := "(I)V" } : Jvm.MethodName)) ∈ lw_tbl := lw_at lw_m4 39 rfl
theorem q882 : (Jvm.Cond.instanceMethod ({ cls := "BakeryPlan$Day", name := "mix", desc := "(I)V" } : Jvm.MethodName)) ∈ lw_all := lw_g (lw_at lw_m4 40 rfl) rfl
theorem q883 : (Jvm.Cond.code ({ cls := "BakeryPlan$Day", name := "mix", desc := "(I)V" } : Jvm.MethodName) prog_6_method_22_code (6 : Nat) (Option.none : Option Jvm.ClassFile.FieldType)) ∈ lw_all := lw_g (lw_at lw_m4 41 rfl) rfl
theorem q884 : (Jvm.Cond.methodLink "BakeryPlan$Day" (221 : Nat) ({ cls := "BakeryPlan$Day", name := "nextBatch", desc := "(I)I" } : Jvm.MethodName)) ∈ lw_all := lw_g (lw_at lw_m4 42 rfl) rfl
theorem q885 : (Jvm.Cond.privateMethod ({ cls := "BakeryPlan$Day", name := "nextBatch", desc := "(I)I" } : Jvm.MethodName)) ∈ lw_tbl := lw_at lw_m4 43 rfl
theorem q886 : (Jvm.Cond.instanceMethod ({ cls := "BakeryPlan$Day", name := "nextBatch", desc := "(I)I" } : Jvm.MethodName)) ∈ lw_all := lw_g (lw_at lw_m4 44 rfl) rfl
theorem q887 : (Jvm.Cond.code ({ cls := "BakeryPlan$Day", name := "nextBatch", desc := "(I)I" } : Jvm.MethodName) prog_6_method_21_code (3 : Nat) (Option.some Jvm.ClassFile.FieldType.int)) ∈ lw_all := lw_g (lw_at lw_m4 45 rfl) rfl
theorem q888 : (Jvm.Cond.methodLink "BakeryPlan$Day" (123 : Nat) ({ cls := "java/util/ArrayList", name := "get", desc := "(I)Ljava/lang/Object;" } : Jvm.MethodName)) ∈ lw_all := lw_g (lw_at lw_m4 46 rfl) rfl
theorem q889 : (Jvm.Cond.classLink "BakeryPlan$Day" (127 : Nat) "BakeryPlan$Batch") ∈ lw_all := lw_g (lw_at lw_m4 47 rfl) rfl
theorem q890 : (Jvm.Cond.methodLink "BakeryPlan$Day" (163 : Nat) ({ cls := "BakeryPlan$Day", name := "grow", desc := "()V" } : Jvm.MethodName)) ∈ lw_all := lw_g (lw_at lw_m4 48 rfl) rfl
theorem q891 : (Jvm.Cond.privateMethod ({ cls := "BakeryPlan$Day", name := "grow", desc := "()V" } : Jvm.MethodName)) ∈ lw_tbl := lw_at lw_m4 49 rfl
theorem q892 : (Jvm.Cond.instanceMethod ({ cls := "BakeryPlan$Day", name := "grow", desc := "()V" } : Jvm.MethodName)) ∈ lw_all := lw_g (lw_at lw_m4 50 rfl) rfl
theorem q893 : (Jvm.Cond.code ({ cls := "BakeryPlan$Day", name := "grow", desc := "()V" } : Jvm.MethodName) prog_6_method_23_code (3 : Nat) (Option.none : Option Jvm.ClassFile.FieldType)) ∈ lw_all := lw_g (lw_at lw_m4 51 rfl) rfl
theorem q894 : (Jvm.Cond.methodLink "BakeryPlan$Day" (136 : Nat) ({ cls := "java/lang/Math", name := "min", desc := "(II)I" } : Jvm.MethodName)) ∈ lw_all := lw_g (lw_at lw_m4 52 rfl) rfl
theorem q896 : (Jvm.Cond.instanceMethod ({ cls := "BakeryPlan$Day", name := "lastEnd", desc := "()I" } : Jvm.MethodName)) ∈ lw_all := lw_g (lw_at lw_m4 54 rfl) rfl
theorem q897 : (Jvm.Cond.selects "BakeryPlan$Day" ({ cls := "BakeryPlan$Day", name := "lastEnd", desc := "()I" } : Jvm.MethodName) ({ cls := "BakeryPlan$Day", name := "lastEnd", desc := "()I" } : Jvm.MethodName)) ∈ lw_all := lw_g (lw_at lw_m4 55 rfl) rfl
theorem q898 : (Jvm.Cond.code ({ cls := "BakeryPlan$Day", name := "lastEnd", desc := "()I" } : Jvm.MethodName) prog_6_method_26_code (3 : Nat) (Option.some Jvm.ClassFile.FieldType.int)) ∈ lw_all := lw_g (lw_at lw_m4 56 rfl) rfl
theorem q978 : (Jvm.Cond.fieldLinkNest "BakeryPlan$Day" (218 : Nat) "BakeryPlan$Batch" "start" "I" "BakeryPlan") ∈ lw_tbl := lw_at lw_m4 136 rfl
theorem q981 : (Jvm.Cond.fieldLinkNest "BakeryPlan$Day" (129 : Nat) "BakeryPlan$Batch" "wave" "I" "BakeryPlan") ∈ lw_tbl := lw_at lw_m4 139 rfl
theorem q1020 : (Jvm.Cond.selects "BakeryPlan$Day" ({ cls := "java/lang/Object", name := "getClass", desc := "()Ljava/lang/Class;" } : Jvm.MethodName) ({ cls := "java/lang/Object", name := "getClass", desc := "()Ljava/lang/Class;" } : Jvm.MethodName)) ∈ lw_all := lw_g (lw_at lw_m4 178 rfl) rfl
theorem q1045 : (Jvm.Cond.instanceMethod ({ cls := "BakeryPlan$Day", name := "worth", desc := "()I" } : Jvm.MethodName)) ∈ lw_all := lw_g (lw_at lw_m4 203 rfl) rfl
theorem q1046 : (Jvm.Cond.selects "BakeryPlan$Day" ({ cls := "BakeryPlan$Day", name := "worth", desc := "()I" } : Jvm.MethodName) ({ cls := "BakeryPlan$Day", name := "worth", desc := "()I" } : Jvm.MethodName)) ∈ lw_all := lw_g (lw_at lw_m4 204 rfl) rfl
theorem q1047 : (Jvm.Cond.code ({ cls := "BakeryPlan$Day", name := "worth", desc := "()I" } : Jvm.MethodName) prog_6_method_27_code (1 : Nat) (Option.some Jvm.ClassFile.FieldType.int)) ∈ lw_all := lw_g (lw_at lw_m4 205 rfl) rfl
theorem q1048 : (Jvm.Cond.methodLink "BakeryPlan$Day" (228 : Nat) ({ cls := "BakeryPlan$Day", name := "countOf", desc := "(I)I" } : Jvm.MethodName)) ∈ lw_all := lw_g (lw_at lw_m4 206 rfl) rfl
theorem q1049 : (Jvm.Cond.instanceMethod ({ cls := "BakeryPlan$Day", name := "countOf", desc := "(I)I" } : Jvm.MethodName)) ∈ lw_all := lw_g (lw_at lw_m4 207 rfl) rfl
theorem q1050 : (Jvm.Cond.selects "BakeryPlan$Day" ({ cls := "BakeryPlan$Day", name := "countOf", desc := "(I)I" } : Jvm.MethodName) ({ cls := "BakeryPlan$Day", name := "countOf", desc := "(I)I" } : Jvm.MethodName)) ∈ lw_all := lw_g (lw_at lw_m4 208 rfl) rfl
theorem q1051 : (Jvm.Cond.code ({ cls := "BakeryPlan$Day", name := "countOf", desc := "(I)I" } : Jvm.MethodName) prog_6_method_25_code (4 : Nat) (Option.some Jvm.ClassFile.FieldType.int)) ∈ lw_all := lw_g (lw_at lw_m4 209 rfl) rfl
theorem q1052 : (Jvm.Cond.methodLink "BakeryPlan$Day" (142 : Nat) ({ cls := "BakeryPlan$Day", name := "state", desc := "(I)I" } : Jvm.MethodName)) ∈ lw_all := lw_g (lw_at lw_m4 210 rfl) rfl
theorem q1053 : (Jvm.Cond.instanceMethod ({ cls := "BakeryPlan$Day", name := "state", desc := "(I)I" } : Jvm.MethodName)) ∈ lw_all := lw_g (lw_at lw_m4 211 rfl) rfl
theorem q1054 : (Jvm.Cond.selects "BakeryPlan$Day" ({ cls := "BakeryPlan$Day", name := "state", desc := "(I)I" } : Jvm.MethodName) ({ cls := "BakeryPlan$Day", name := "state", desc := "(I)I" } : Jvm.MethodName)) ∈ lw_all := lw_g (lw_at lw_m4 212 rfl) rfl
theorem q1055 : (Jvm.Cond.code ({ cls := "BakeryPlan$Day", name := "state", desc := "(I)I" } : Jvm.MethodName) prog_6_method_24_code (2 : Nat) (Option.some Jvm.ClassFile.FieldType.int)) ∈ lw_all := lw_g (lw_at lw_m4 213 rfl) rfl
theorem q1056 : (Jvm.Cond.constant "BakeryPlan$Day" (231 : Nat) (1000000 : Int32)) ∈ lw_all := lw_g (lw_at lw_m4 214 rfl) rfl
theorem q1057 : (Jvm.Cond.methodLink "BakeryPlan$Day" (232 : Nat) ({ cls := "BakeryPlan$Day", name := "lastEnd", desc := "()I" } : Jvm.MethodName)) ∈ lw_all := lw_g (lw_at lw_m4 215 rfl) rfl
theorem q1366 : (Jvm.Cond.fieldLinkNest "BakeryPlan$Day" (224 : Nat) "BakeryPlan$Product" "dough" "I" "BakeryPlan") ∈ lw_tbl := lw_at lw_m6 44 rfl
theorem q1368 : (Jvm.Cond.fieldLinkNest "BakeryPlan$Day" (226 : Nat) "BakeryPlan$Product" "mix" "I" "BakeryPlan") ∈ lw_tbl := lw_at lw_m6 46 rfl
theorem q1370 : (Jvm.Cond.fieldLinkNest "BakeryPlan$Day" (173 : Nat) "BakeryPlan$Product" "proof" "I" "BakeryPlan") ∈ lw_tbl := lw_at lw_m6 48 rfl
theorem q1372 : (Jvm.Cond.fieldLinkNest "BakeryPlan$Day" (181 : Nat) "BakeryPlan$Product" "window" "I" "BakeryPlan") ∈ lw_tbl := lw_at lw_m6 50 rfl
theorem q1374 : (Jvm.Cond.fieldLinkNest "BakeryPlan$Day" (188 : Nat) "BakeryPlan$Product" "bake" "I" "BakeryPlan") ∈ lw_tbl := lw_at lw_m6 52 rfl
theorem q1376 : (Jvm.Cond.fieldLinkNest "BakeryPlan$Day" (199 : Nat) "BakeryPlan$Product" "heat" "I" "BakeryPlan") ∈ lw_tbl := lw_at lw_m6 54 rfl
theorem q1697 : (Jvm.Cond.instanceMethod ({ cls := "BakeryPlan$Day", name := "inRoom", desc := "()I" } : Jvm.MethodName)) ∈ lw_all := lw_g (lw_at lw_m7 135 rfl) rfl
theorem q1698 : (Jvm.Cond.selects "BakeryPlan$Day" ({ cls := "BakeryPlan$Day", name := "inRoom", desc := "()I" } : Jvm.MethodName) ({ cls := "BakeryPlan$Day", name := "inRoom", desc := "()I" } : Jvm.MethodName)) ∈ lw_all := lw_g (lw_at lw_m7 136 rfl) rfl
theorem q1699 : (Jvm.Cond.code ({ cls := "BakeryPlan$Day", name := "inRoom", desc := "()I" } : Jvm.MethodName) prog_6_method_19_code (3 : Nat) (Option.some Jvm.ClassFile.FieldType.int)) ∈ lw_all := lw_g (lw_at lw_m7 137 rfl) rfl
theorem q1727 : (Jvm.Cond.instanceMethod ({ cls := "BakeryPlan$Day", name := "isDone", desc := "(LBakeryPlan$Plan;I)Z" } : Jvm.MethodName)) ∈ lw_all := lw_g (lw_at lw_m7 165 rfl) rfl
theorem q1728 : (Jvm.Cond.selects "BakeryPlan$Day" ({ cls := "BakeryPlan$Day", name := "isDone", desc := "(LBakeryPlan$Plan;I)Z" } : Jvm.MethodName) ({ cls := "BakeryPlan$Day", name := "isDone", desc := "(LBakeryPlan$Plan;I)Z" } : Jvm.MethodName)) ∈ lw_all := lw_g (lw_at lw_m7 166 rfl) rfl
theorem q1729 : (Jvm.Cond.code ({ cls := "BakeryPlan$Day", name := "isDone", desc := "(LBakeryPlan$Plan;I)Z" } : Jvm.MethodName) prog_6_method_4_code (5 : Nat) (Option.some Jvm.ClassFile.FieldType.boolean)) ∈ lw_all := lw_g (lw_at lw_m7 167 rfl) rfl
theorem q2674 : (Jvm.Cond.castable "BakeryPlan$Day" "java/lang/Object") ∈ lw_tbl := lw_at lw_m11 152 rfl
theorem in_X3 : ∀ w ∈ wsX30, w ∈ lw_all := lw_in wsX30 [632, 634, 636, 638, 640, 642, 644, 646, 648, 650, 652, 654, 656, 658, 660, 662, 664, 666, 668, 670, 672, 674, 676, 678] (by decide +kernel) (by decide +kernel)
/-! BakeryPlan$Policy -/
set_option maxRecDepth 100000
def RX4 : String := "BakeryPlan$Policy"
abbrev cX4_numbered : ByteArray := prog_9_method_4_code
def yX4_numbered : MethodName := ⟨RX4, "numbered", "(I)LBakeryPlan$Policy;"⟩
def dkwX4_numbered_3 : List UInt8 := [183, 0, 20, 176]
abbrev dktX4_numbered_3 : List UInt8 := dkwX4_numbered_3 ++ []
def dkwX4_numbered_2 : List UInt8 := [187, 0, 9, 89, 183, 0, 11, 167, 0, 20, 187, 0, 15, 89, 183, 0, 17, 167, 0, 10, 187, 0, 18, 89]
abbrev dktX4_numbered_2 : List UInt8 := dkwX4_numbered_2 ++ dktX4_numbered_3
def dkwX4_numbered_1 : List UInt8 := [171, 0, 0, 0, 0, 0, 47, 0, 0, 0, 2, 0, 0, 0, 0, 0, 0, 0, 27, 0, 0, 0, 1, 0, 0, 0, 37]
abbrev dktX4_numbered_1 : List UInt8 := dkwX4_numbered_1 ++ dktX4_numbered_2
def dkwX4_numbered_0 : List UInt8 := [26]
abbrev dktX4_numbered_0 : List UInt8 := dkwX4_numbered_0 ++ dktX4_numbered_1
theorem dksX4_numbered_0 : cX4_numbered.data.toList.drop 0 = dktX4_numbered_0 := by decide +kernel
theorem dksX4_numbered_1 : cX4_numbered.data.toList.drop 1 = dktX4_numbered_1 := dk_seg dksX4_numbered_0 1 rfl rfl
theorem dksX4_numbered_2 : cX4_numbered.data.toList.drop 28 = dktX4_numbered_2 := dk_seg dksX4_numbered_1 27 rfl rfl
theorem dksX4_numbered_3 : cX4_numbered.data.toList.drop 52 = dktX4_numbered_3 := dk_seg dksX4_numbered_2 24 rfl rfl
theorem dX4_numbered_0 : decode cX4_numbered 0 = .ok (.iload_n 0, 1) := dk_26 (dk_at dksX4_numbered_0 0 rfl rfl)
theorem dX4_numbered_1 : decode cX4_numbered 1 = .ok (.lookupswitch 47 #[(0, 27), (1, 37)], 27) := by decide +kernel
theorem dX4_numbered_28 : decode cX4_numbered 28 = .ok (.new 9, 3) := dk_187 0 9 (dk_at dksX4_numbered_2 0 rfl rfl)
theorem dX4_numbered_31 : decode cX4_numbered 31 = .ok (.dup, 1) := dk_89 (dk_at dksX4_numbered_2 3 rfl rfl)
theorem dX4_numbered_32 : decode cX4_numbered 32 = .ok (.invokespecial 11, 3) := dk_183 0 11 (dk_at dksX4_numbered_2 4 rfl rfl)
theorem dX4_numbered_35 : decode cX4_numbered 35 = .ok (.goto 20, 3) := dk_167 0 20 (dk_at dksX4_numbered_2 7 rfl rfl)
theorem dX4_numbered_38 : decode cX4_numbered 38 = .ok (.new 15, 3) := dk_187 0 15 (dk_at dksX4_numbered_2 10 rfl rfl)
theorem dX4_numbered_41 : decode cX4_numbered 41 = .ok (.dup, 1) := dk_89 (dk_at dksX4_numbered_2 13 rfl rfl)
theorem dX4_numbered_42 : decode cX4_numbered 42 = .ok (.invokespecial 17, 3) := dk_183 0 17 (dk_at dksX4_numbered_2 14 rfl rfl)
theorem dX4_numbered_45 : decode cX4_numbered 45 = .ok (.goto 10, 3) := dk_167 0 10 (dk_at dksX4_numbered_2 17 rfl rfl)
theorem dX4_numbered_48 : decode cX4_numbered 48 = .ok (.new 18, 3) := dk_187 0 18 (dk_at dksX4_numbered_2 20 rfl rfl)
theorem dX4_numbered_51 : decode cX4_numbered 51 = .ok (.dup, 1) := dk_89 (dk_at dksX4_numbered_2 23 rfl rfl)
theorem dX4_numbered_52 : decode cX4_numbered 52 = .ok (.invokespecial 20, 3) := dk_183 0 20 (dk_at dksX4_numbered_3 0 rfl rfl)
theorem dX4_numbered_55 : decode cX4_numbered 55 = .ok (.areturn, 1) := dk_176 (dk_at dksX4_numbered_3 3 rfl rfl)
abbrev cX4_isBetter : ByteArray := prog_9_method_3_code
def yX4_isBetter : MethodName := ⟨RX4, "isBetter", "(LBakeryPlan$Day;II)Z"⟩
def dkwX4_isBetter_1 : List UInt8 := [21, 4, 154, 0, 12, 28, 29, 162, 0, 7, 4, 167, 0, 4, 3, 172]
abbrev dktX4_isBetter_1 : List UInt8 := dkwX4_isBetter_1 ++ []
def dkwX4_isBetter_0 : List UInt8 := [42, 43, 29, 185, 0, 3, 3, 0, 42, 43, 28, 185, 0, 3, 3, 0, 100, 54, 4, 21, 4, 157, 0, 13]
abbrev dktX4_isBetter_0 : List UInt8 := dkwX4_isBetter_0 ++ dktX4_isBetter_1
theorem dksX4_isBetter_0 : cX4_isBetter.data.toList.drop 0 = dktX4_isBetter_0 := by decide +kernel
theorem dksX4_isBetter_1 : cX4_isBetter.data.toList.drop 24 = dktX4_isBetter_1 := dk_seg dksX4_isBetter_0 24 rfl rfl
theorem dX4_isBetter_0 : decode cX4_isBetter 0 = .ok (.aload_n 0, 1) := dk_42 (dk_at dksX4_isBetter_0 0 rfl rfl)
theorem dX4_isBetter_1 : decode cX4_isBetter 1 = .ok (.aload_n 1, 1) := dk_43 (dk_at dksX4_isBetter_0 1 rfl rfl)
theorem dX4_isBetter_2 : decode cX4_isBetter 2 = .ok (.iload_n 3, 1) := dk_29 (dk_at dksX4_isBetter_0 2 rfl rfl)
theorem dX4_isBetter_3 : decode cX4_isBetter 3 = .ok (.invokeinterface 3 3, 5) := by decide +kernel
theorem dX4_isBetter_8 : decode cX4_isBetter 8 = .ok (.aload_n 0, 1) := dk_42 (dk_at dksX4_isBetter_0 8 rfl rfl)
theorem dX4_isBetter_9 : decode cX4_isBetter 9 = .ok (.aload_n 1, 1) := dk_43 (dk_at dksX4_isBetter_0 9 rfl rfl)
theorem dX4_isBetter_10 : decode cX4_isBetter 10 = .ok (.iload_n 2, 1) := dk_28 (dk_at dksX4_isBetter_0 10 rfl rfl)
theorem dX4_isBetter_11 : decode cX4_isBetter 11 = .ok (.invokeinterface 3 3, 5) := by decide +kernel
theorem dX4_isBetter_16 : decode cX4_isBetter 16 = .ok (.isub, 1) := dk_100 (dk_at dksX4_isBetter_0 16 rfl rfl)
theorem dX4_isBetter_17 : decode cX4_isBetter 17 = .ok (.istore 4, 2) := dk_54 4 (dk_at dksX4_isBetter_0 17 rfl rfl)
theorem dX4_isBetter_19 : decode cX4_isBetter 19 = .ok (.iload 4, 2) := dk_21 4 (dk_at dksX4_isBetter_0 19 rfl rfl)
theorem dX4_isBetter_21 : decode cX4_isBetter 21 = .ok (.ifCond .gt 13, 3) := dk_157 0 13 (dk_at dksX4_isBetter_0 21 rfl rfl)
theorem dX4_isBetter_24 : decode cX4_isBetter 24 = .ok (.iload 4, 2) := dk_21 4 (dk_at dksX4_isBetter_1 0 rfl rfl)
theorem dX4_isBetter_26 : decode cX4_isBetter 26 = .ok (.ifCond .ne 12, 3) := dk_154 0 12 (dk_at dksX4_isBetter_1 2 rfl rfl)
theorem dX4_isBetter_29 : decode cX4_isBetter 29 = .ok (.iload_n 2, 1) := dk_28 (dk_at dksX4_isBetter_1 5 rfl rfl)
theorem dX4_isBetter_30 : decode cX4_isBetter 30 = .ok (.iload_n 3, 1) := dk_29 (dk_at dksX4_isBetter_1 6 rfl rfl)
theorem dX4_isBetter_31 : decode cX4_isBetter 31 = .ok (.if_icmp .ge 7, 3) := dk_162 0 7 (dk_at dksX4_isBetter_1 7 rfl rfl)
theorem dX4_isBetter_34 : decode cX4_isBetter 34 = .ok (.iconst 1, 1) := dk_4 (dk_at dksX4_isBetter_1 10 rfl rfl)
theorem dX4_isBetter_35 : decode cX4_isBetter 35 = .ok (.goto 4, 3) := dk_167 0 4 (dk_at dksX4_isBetter_1 11 rfl rfl)
theorem dX4_isBetter_38 : decode cX4_isBetter 38 = .ok (.iconst 0, 1) := dk_3 (dk_at dksX4_isBetter_1 14 rfl rfl)
theorem dX4_isBetter_39 : decode cX4_isBetter 39 = .ok (.ireturn, 1) := dk_172 (dk_at dksX4_isBetter_1 15 rfl rfl)
abbrev cX4_numberOf : ByteArray := prog_9_method_5_code
def yX4_numberOf : MethodName := ⟨RX4, "numberOf", "(Ljava/lang/CharSequence;)I"⟩
def dkwX4_numberOf_1 : List UInt8 := [132, 1, 1, 167, 255, 233, 2, 172]
abbrev dktX4_numberOf_1 : List UInt8 := dkwX4_numberOf_1 ++ []
def dkwX4_numberOf_0 : List UInt8 := [3, 60, 27, 6, 162, 0, 24, 27, 184, 0, 21, 42, 185, 0, 25, 2, 0, 153, 0, 5, 27, 172]
abbrev dktX4_numberOf_0 : List UInt8 := dkwX4_numberOf_0 ++ dktX4_numberOf_1
theorem dksX4_numberOf_0 : cX4_numberOf.data.toList.drop 0 = dktX4_numberOf_0 := by decide +kernel
theorem dksX4_numberOf_1 : cX4_numberOf.data.toList.drop 22 = dktX4_numberOf_1 := dk_seg dksX4_numberOf_0 22 rfl rfl
theorem dX4_numberOf_0 : decode cX4_numberOf 0 = .ok (.iconst 0, 1) := dk_3 (dk_at dksX4_numberOf_0 0 rfl rfl)
theorem dX4_numberOf_1 : decode cX4_numberOf 1 = .ok (.istore_n 1, 1) := dk_60 (dk_at dksX4_numberOf_0 1 rfl rfl)
theorem dX4_numberOf_2 : decode cX4_numberOf 2 = .ok (.iload_n 1, 1) := dk_27 (dk_at dksX4_numberOf_0 2 rfl rfl)
theorem dX4_numberOf_3 : decode cX4_numberOf 3 = .ok (.iconst 3, 1) := dk_6 (dk_at dksX4_numberOf_0 3 rfl rfl)
theorem dX4_numberOf_4 : decode cX4_numberOf 4 = .ok (.if_icmp .ge 24, 3) := dk_162 0 24 (dk_at dksX4_numberOf_0 4 rfl rfl)
theorem dX4_numberOf_7 : decode cX4_numberOf 7 = .ok (.iload_n 1, 1) := dk_27 (dk_at dksX4_numberOf_0 7 rfl rfl)
theorem dX4_numberOf_8 : decode cX4_numberOf 8 = .ok (.invokestatic 21, 3) := dk_184 0 21 (dk_at dksX4_numberOf_0 8 rfl rfl)
theorem dX4_numberOf_11 : decode cX4_numberOf 11 = .ok (.aload_n 0, 1) := dk_42 (dk_at dksX4_numberOf_0 11 rfl rfl)
theorem dX4_numberOf_12 : decode cX4_numberOf 12 = .ok (.invokeinterface 25 2, 5) := by decide +kernel
theorem dX4_numberOf_17 : decode cX4_numberOf 17 = .ok (.ifCond .eq 5, 3) := dk_153 0 5 (dk_at dksX4_numberOf_0 17 rfl rfl)
theorem dX4_numberOf_20 : decode cX4_numberOf 20 = .ok (.iload_n 1, 1) := dk_27 (dk_at dksX4_numberOf_0 20 rfl rfl)
theorem dX4_numberOf_21 : decode cX4_numberOf 21 = .ok (.ireturn, 1) := dk_172 (dk_at dksX4_numberOf_0 21 rfl rfl)
theorem dX4_numberOf_22 : decode cX4_numberOf 22 = .ok (.iinc 1 1, 3) := dk_132 1 1 (dk_at dksX4_numberOf_1 0 rfl rfl)
theorem dX4_numberOf_25 : decode cX4_numberOf 25 = .ok (.goto (-23), 3) := dk_167 255 233 (dk_at dksX4_numberOf_1 3 rfl rfl)
theorem dX4_numberOf_28 : decode cX4_numberOf 28 = .ok (.iconst (-1), 1) := dk_2 (dk_at dksX4_numberOf_1 6 rfl rfl)
theorem dX4_numberOf_29 : decode cX4_numberOf 29 = .ok (.ireturn, 1) := dk_172 (dk_at dksX4_numberOf_1 7 rfl rfl)
abbrev cX4_isNamed : ByteArray := prog_9_method_6_code
def yX4_isNamed : MethodName := ⟨RX4, "isNamed", "(Ljava/lang/CharSequence;)Z"⟩
def dkwX4_isNamed_3 : List UInt8 := [167, 0, 4, 3, 61, 132, 3, 1, 167, 255, 206, 28, 172]
abbrev dktX4_isNamed_3 : List UInt8 := dkwX4_isNamed_3 ++ []
def dkwX4_isNamed_2 : List UInt8 := [29, 185, 0, 39, 2, 0, 42, 185, 0, 35, 1, 0, 29, 185, 0, 39, 2, 0, 160, 0, 7, 4]
abbrev dktX4_isNamed_2 : List UInt8 := dkwX4_isNamed_2 ++ dktX4_isNamed_3
def dkwX4_isNamed_1 : List UInt8 := [3, 61, 3, 62, 29, 42, 185, 0, 35, 1, 0, 185, 0, 29, 1, 0, 162, 0, 41, 28, 153, 0, 37, 43]
abbrev dktX4_isNamed_1 : List UInt8 := dkwX4_isNamed_1 ++ dktX4_isNamed_2
def dkwX4_isNamed_0 : List UInt8 := [43, 185, 0, 29, 1, 0, 42, 185, 0, 35, 1, 0, 185, 0, 29, 1, 0, 160, 0, 7, 4, 167, 0, 4]
abbrev dktX4_isNamed_0 : List UInt8 := dkwX4_isNamed_0 ++ dktX4_isNamed_1
theorem dksX4_isNamed_0 : cX4_isNamed.data.toList.drop 0 = dktX4_isNamed_0 := by decide +kernel
theorem dksX4_isNamed_1 : cX4_isNamed.data.toList.drop 24 = dktX4_isNamed_1 := dk_seg dksX4_isNamed_0 24 rfl rfl
theorem dksX4_isNamed_2 : cX4_isNamed.data.toList.drop 48 = dktX4_isNamed_2 := dk_seg dksX4_isNamed_1 24 rfl rfl
theorem dksX4_isNamed_3 : cX4_isNamed.data.toList.drop 70 = dktX4_isNamed_3 := dk_seg dksX4_isNamed_2 22 rfl rfl
theorem dX4_isNamed_0 : decode cX4_isNamed 0 = .ok (.aload_n 1, 1) := dk_43 (dk_at dksX4_isNamed_0 0 rfl rfl)
theorem dX4_isNamed_1 : decode cX4_isNamed 1 = .ok (.invokeinterface 29 1, 5) := by decide +kernel
theorem dX4_isNamed_6 : decode cX4_isNamed 6 = .ok (.aload_n 0, 1) := dk_42 (dk_at dksX4_isNamed_0 6 rfl rfl)
theorem dX4_isNamed_7 : decode cX4_isNamed 7 = .ok (.invokeinterface 35 1, 5) := by decide +kernel
theorem dX4_isNamed_12 : decode cX4_isNamed 12 = .ok (.invokeinterface 29 1, 5) := by decide +kernel
theorem dX4_isNamed_17 : decode cX4_isNamed 17 = .ok (.if_icmp .ne 7, 3) := dk_160 0 7 (dk_at dksX4_isNamed_0 17 rfl rfl)
theorem dX4_isNamed_20 : decode cX4_isNamed 20 = .ok (.iconst 1, 1) := dk_4 (dk_at dksX4_isNamed_0 20 rfl rfl)
theorem dX4_isNamed_21 : decode cX4_isNamed 21 = .ok (.goto 4, 3) := dk_167 0 4 (dk_at dksX4_isNamed_0 21 rfl rfl)
theorem dX4_isNamed_24 : decode cX4_isNamed 24 = .ok (.iconst 0, 1) := dk_3 (dk_at dksX4_isNamed_1 0 rfl rfl)
theorem dX4_isNamed_25 : decode cX4_isNamed 25 = .ok (.istore_n 2, 1) := dk_61 (dk_at dksX4_isNamed_1 1 rfl rfl)
theorem dX4_isNamed_26 : decode cX4_isNamed 26 = .ok (.iconst 0, 1) := dk_3 (dk_at dksX4_isNamed_1 2 rfl rfl)
theorem dX4_isNamed_27 : decode cX4_isNamed 27 = .ok (.istore_n 3, 1) := dk_62 (dk_at dksX4_isNamed_1 3 rfl rfl)
theorem dX4_isNamed_28 : decode cX4_isNamed 28 = .ok (.iload_n 3, 1) := dk_29 (dk_at dksX4_isNamed_1 4 rfl rfl)
theorem dX4_isNamed_29 : decode cX4_isNamed 29 = .ok (.aload_n 0, 1) := dk_42 (dk_at dksX4_isNamed_1 5 rfl rfl)
theorem dX4_isNamed_30 : decode cX4_isNamed 30 = .ok (.invokeinterface 35 1, 5) := by decide +kernel
theorem dX4_isNamed_35 : decode cX4_isNamed 35 = .ok (.invokeinterface 29 1, 5) := by decide +kernel
theorem dX4_isNamed_40 : decode cX4_isNamed 40 = .ok (.if_icmp .ge 41, 3) := dk_162 0 41 (dk_at dksX4_isNamed_1 16 rfl rfl)
theorem dX4_isNamed_43 : decode cX4_isNamed 43 = .ok (.iload_n 2, 1) := dk_28 (dk_at dksX4_isNamed_1 19 rfl rfl)
theorem dX4_isNamed_44 : decode cX4_isNamed 44 = .ok (.ifCond .eq 37, 3) := dk_153 0 37 (dk_at dksX4_isNamed_1 20 rfl rfl)
theorem dX4_isNamed_47 : decode cX4_isNamed 47 = .ok (.aload_n 1, 1) := dk_43 (dk_at dksX4_isNamed_1 23 rfl rfl)
theorem dX4_isNamed_48 : decode cX4_isNamed 48 = .ok (.iload_n 3, 1) := dk_29 (dk_at dksX4_isNamed_2 0 rfl rfl)
theorem dX4_isNamed_49 : decode cX4_isNamed 49 = .ok (.invokeinterface 39 2, 5) := by decide +kernel
theorem dX4_isNamed_54 : decode cX4_isNamed 54 = .ok (.aload_n 0, 1) := dk_42 (dk_at dksX4_isNamed_2 6 rfl rfl)
theorem dX4_isNamed_55 : decode cX4_isNamed 55 = .ok (.invokeinterface 35 1, 5) := by decide +kernel
theorem dX4_isNamed_60 : decode cX4_isNamed 60 = .ok (.iload_n 3, 1) := dk_29 (dk_at dksX4_isNamed_2 12 rfl rfl)
theorem dX4_isNamed_61 : decode cX4_isNamed 61 = .ok (.invokeinterface 39 2, 5) := by decide +kernel
theorem dX4_isNamed_66 : decode cX4_isNamed 66 = .ok (.if_icmp .ne 7, 3) := dk_160 0 7 (dk_at dksX4_isNamed_2 18 rfl rfl)
theorem dX4_isNamed_69 : decode cX4_isNamed 69 = .ok (.iconst 1, 1) := dk_4 (dk_at dksX4_isNamed_2 21 rfl rfl)
theorem dX4_isNamed_70 : decode cX4_isNamed 70 = .ok (.goto 4, 3) := dk_167 0 4 (dk_at dksX4_isNamed_3 0 rfl rfl)
theorem dX4_isNamed_73 : decode cX4_isNamed 73 = .ok (.iconst 0, 1) := dk_3 (dk_at dksX4_isNamed_3 3 rfl rfl)
theorem dX4_isNamed_74 : decode cX4_isNamed 74 = .ok (.istore_n 2, 1) := dk_61 (dk_at dksX4_isNamed_3 4 rfl rfl)
theorem dX4_isNamed_75 : decode cX4_isNamed 75 = .ok (.iinc 3 1, 3) := dk_132 3 1 (dk_at dksX4_isNamed_3 5 rfl rfl)
theorem dX4_isNamed_78 : decode cX4_isNamed 78 = .ok (.goto (-50), 3) := dk_167 255 206 (dk_at dksX4_isNamed_3 8 rfl rfl)
theorem dX4_isNamed_81 : decode cX4_isNamed 81 = .ok (.iload_n 2, 1) := dk_28 (dk_at dksX4_isNamed_3 11 rfl rfl)
theorem dX4_isNamed_82 : decode cX4_isNamed 82 = .ok (.ireturn, 1) := dk_172 (dk_at dksX4_isNamed_3 12 rfl rfl)
theorem q145 : (Jvm.Cond.initialized "BakeryPlan$Policy") ∈ lw_all := lw_g (lw_at lw_m1 23 rfl) rfl
theorem q567 : (Jvm.Cond.static ({ cls := "BakeryPlan$Policy", name := "numbered", desc := "(I)LBakeryPlan$Policy;" } : Jvm.MethodName)) ∈ lw_all := lw_g (lw_at lw_m2 205 rfl) rfl
theorem q568 : (Jvm.Cond.code ({ cls := "BakeryPlan$Policy", name := "numbered", desc := "(I)LBakeryPlan$Policy;" } : Jvm.MethodName) prog_9_method_4_code (1 : Nat) (Option.some (Jvm.ClassFile.FieldType.object "BakeryPlan$Policy"))) ∈ lw_all := lw_g (lw_at lw_m2 206 rfl) rfl
theorem q569 : (Jvm.Cond.classLink "BakeryPlan$Policy" (9 : Nat) "BakeryPlan$ByOrder") ∈ lw_all := lw_g (lw_at lw_m2 207 rfl) rfl
theorem q571 : (Jvm.Cond.methodLinkNest "BakeryPlan$Policy" (11 : Nat) ({ cls := "BakeryPlan$ByOrder", name := "<init>", desc := "()V" } : Jvm.MethodName) "BakeryPlan") ∈ lw_tbl := lw_at lw_m2 209 rfl
theorem q577 : (Jvm.Cond.classLink "BakeryPlan$Policy" (15 : Nat) "BakeryPlan$ByAge") ∈ lw_all := lw_g (lw_at lw_m2 215 rfl) rfl
theorem q579 : (Jvm.Cond.methodLinkNest "BakeryPlan$Policy" (17 : Nat) ({ cls := "BakeryPlan$ByAge", name := "<init>", desc := "()V" } : Jvm.MethodName) "BakeryPlan") ∈ lw_tbl := lw_at lw_m2 217 rfl
theorem q584 : (Jvm.Cond.classLink "BakeryPlan$Policy" (18 : Nat) "BakeryPlan$ByWave") ∈ lw_all := lw_g (lw_at lw_m2 222 rfl) rfl
theorem q586 : (Jvm.Cond.methodLinkNest "BakeryPlan$Policy" (20 : Nat) ({ cls := "BakeryPlan$ByWave", name := "<init>", desc := "()V" } : Jvm.MethodName) "BakeryPlan") ∈ lw_tbl := lw_at lw_m2 224 rfl
theorem q835 : (Jvm.Cond.interfaceMethod "BakeryPlan$Policy" "BakeryPlan$Policy" "isBetter" "(LBakeryPlan$Day;II)Z") ∈ lw_tbl := lw_at lw_m3 233 rfl
theorem q836 : (Jvm.Cond.declares ({ cls := "BakeryPlan$Policy", name := "isBetter", desc := "(LBakeryPlan$Day;II)Z" } : Jvm.MethodName)) ∈ lw_tbl := lw_at lw_m3 234 rfl
theorem q839 : (Jvm.Cond.instanceMethod ({ cls := "BakeryPlan$Policy", name := "isBetter", desc := "(LBakeryPlan$Day;II)Z" } : Jvm.MethodName)) ∈ lw_all := lw_g (lw_at lw_m3 237 rfl) rfl
theorem q840 : (Jvm.Cond.publicMethod ({ cls := "BakeryPlan$Policy", name := "isBetter", desc := "(LBakeryPlan$Day;II)Z" } : Jvm.MethodName)) ∈ lw_tbl := lw_at lw_m3 238 rfl
theorem q841 : (Jvm.Cond.code ({ cls := "BakeryPlan$Policy", name := "isBetter", desc := "(LBakeryPlan$Day;II)Z" } : Jvm.MethodName) prog_9_method_3_code (5 : Nat) (Option.some Jvm.ClassFile.FieldType.boolean)) ∈ lw_all := lw_g (lw_at lw_m3 239 rfl) rfl
theorem q842 : (Jvm.Cond.interfaceEntry "BakeryPlan$Policy" (3 : Nat)) ∈ lw_tbl := lw_at lw_m4 0 rfl
theorem q843 : (Jvm.Cond.methodLink "BakeryPlan$Policy" (3 : Nat) ({ cls := "BakeryPlan$Policy", name := "key", desc := "(LBakeryPlan$Day;I)I" } : Jvm.MethodName)) ∈ lw_all := lw_g (lw_at lw_m4 1 rfl) rfl
theorem q844 : (Jvm.Cond.interfaceMethod "BakeryPlan$Policy" "BakeryPlan$Policy" "key" "(LBakeryPlan$Day;I)I") ∈ lw_tbl := lw_at lw_m4 2 rfl
theorem q845 : (Jvm.Cond.declares ({ cls := "BakeryPlan$Policy", name := "key", desc := "(LBakeryPlan$Day;I)I" } : Jvm.MethodName)) ∈ lw_tbl := lw_at lw_m4 3 rfl
theorem q1404 : (Jvm.Cond.static ({ cls := "BakeryPlan$Policy", name := "numberOf", desc := "(Ljava/lang/CharSequence;)I" } : Jvm.MethodName)) ∈ lw_all := lw_g (lw_at lw_m6 82 rfl) rfl
theorem q1405 : (Jvm.Cond.code ({ cls := "BakeryPlan$Policy", name := "numberOf", desc := "(Ljava/lang/CharSequence;)I" } : Jvm.MethodName) prog_9_method_5_code (2 : Nat) (Option.some Jvm.ClassFile.FieldType.int)) ∈ lw_all := lw_g (lw_at lw_m6 83 rfl) rfl
theorem q1406 : (Jvm.Cond.methodLink "BakeryPlan$Policy" (21 : Nat) ({ cls := "BakeryPlan$Policy", name := "numbered", desc := "(I)LBakeryPlan$Policy;" } : Jvm.MethodName)) ∈ lw_all := lw_g (lw_at lw_m6 84 rfl) rfl
theorem q1407 : (Jvm.Cond.interfaceEntry "BakeryPlan$Policy" (25 : Nat)) ∈ lw_tbl := lw_at lw_m6 85 rfl
theorem q1408 : (Jvm.Cond.methodLink "BakeryPlan$Policy" (25 : Nat) ({ cls := "BakeryPlan$Policy", name := "isNamed", desc := "(Ljava/lang/CharSequence;)Z" } : Jvm.MethodName)) ∈ lw_all := lw_g (lw_at lw_m6 86 rfl) rfl
theorem q1409 : (Jvm.Cond.interfaceMethod "BakeryPlan$Policy" "BakeryPlan$Policy" "isNamed" "(Ljava/lang/CharSequence;)Z") ∈ lw_tbl := lw_at lw_m6 87 rfl
theorem q1410 : (Jvm.Cond.declares ({ cls := "BakeryPlan$Policy", name := "isNamed", desc := "(Ljava/lang/CharSequence;)Z" } : Jvm.MethodName)) ∈ lw_tbl := lw_at lw_m6 88 rfl
theorem q1412 : (Jvm.Cond.instanceMethod ({ cls := "BakeryPlan$Policy", name := "isNamed", desc := "(Ljava/lang/CharSequence;)Z" } : Jvm.MethodName)) ∈ lw_all := lw_g (lw_at lw_m6 90 rfl) rfl
theorem q1413 : (Jvm.Cond.publicMethod ({ cls := "BakeryPlan$Policy", name := "isNamed", desc := "(Ljava/lang/CharSequence;)Z" } : Jvm.MethodName)) ∈ lw_tbl := lw_at lw_m6 91 rfl
theorem q1414 : (Jvm.Cond.code ({ cls := "BakeryPlan$Policy", name := "isNamed", desc := "(Ljava/lang/CharSequence;)Z" } : Jvm.MethodName) prog_9_method_6_code (4 : Nat) (Option.some Jvm.ClassFile.FieldType.boolean)) ∈ lw_all := lw_g (lw_at lw_m6 92 rfl) rfl
theorem q1415 : (Jvm.Cond.interfaceEntry "BakeryPlan$Policy" (29 : Nat)) ∈ lw_tbl := lw_at lw_m6 93 rfl
theorem q1416 : (Jvm.Cond.methodLink "BakeryPlan$Policy" (29 : Nat) ({ cls := "java/lang/CharSequence", name := "length", desc := "()I" } : Jvm.MethodName)) ∈ lw_all := lw_g (lw_at lw_m6 94 rfl) rfl
theorem q1427 : (Jvm.Cond.interfaceEntry "BakeryPlan$Policy" (35 : Nat)) ∈ lw_tbl := lw_at lw_m6 105 rfl
theorem q1428 : (Jvm.Cond.methodLink "BakeryPlan$Policy" (35 : Nat) ({ cls := "BakeryPlan$Policy", name := "name", desc := "()Ljava/lang/CharSequence;" } : Jvm.MethodName)) ∈ lw_all := lw_g (lw_at lw_m6 106 rfl) rfl
theorem q1429 : (Jvm.Cond.interfaceMethod "BakeryPlan$Policy" "BakeryPlan$Policy" "name" "()Ljava/lang/CharSequence;") ∈ lw_tbl := lw_at lw_m6 107 rfl
theorem q1430 : (Jvm.Cond.declares ({ cls := "BakeryPlan$Policy", name := "name", desc := "()Ljava/lang/CharSequence;" } : Jvm.MethodName)) ∈ lw_tbl := lw_at lw_m6 108 rfl
theorem q1449 : (Jvm.Cond.interfaceEntry "BakeryPlan$Policy" (39 : Nat)) ∈ lw_tbl := lw_at lw_m6 127 rfl
theorem q1450 : (Jvm.Cond.methodLink "BakeryPlan$Policy" (39 : Nat) ({ cls := "java/lang/CharSequence", name := "charAt", desc := "(I)C" } : Jvm.MethodName)) ∈ lw_all := lw_g (lw_at lw_m6 128 rfl) rfl
/-! BakeryPlan$ByOrder -/
set_option maxRecDepth 100000
def RX5 : String := "BakeryPlan$ByOrder"
abbrev cX5_init : ByteArray := prog_4_method_1_code
def yX5_init : MethodName := ⟨RX5, "<init>", "()V"⟩
theorem dX5_init_0 : decode cX5_init 0 = .ok (.aload_n 0, 1) := by decide +kernel
theorem dX5_init_1 : decode cX5_init 1 = .ok (.invokespecial 1, 3) := by decide +kernel
theorem dX5_init_4 : decode cX5_init 4 = .ok (.return_, 1) := by decide +kernel
abbrev cX5_key : ByteArray := prog_4_method_2_code
def yX5_key : MethodName := ⟨RX5, "key", "(LBakeryPlan$Day;I)I"⟩
theorem dX5_key_0 : decode cX5_key 0 = .ok (.iload_n 2, 1) := by decide +kernel
theorem dX5_key_1 : decode cX5_key 1 = .ok (.ireturn, 1) := by decide +kernel
abbrev cX5_name : ByteArray := prog_4_method_3_code
def yX5_name : MethodName := ⟨RX5, "name", "()Ljava/lang/CharSequence;"⟩
theorem dX5_name_0 : decode cX5_name 0 = .ok (.ldc 7, 2) := by decide +kernel
theorem dX5_name_2 : decode cX5_name 2 = .ok (.areturn, 1) := by decide +kernel
theorem q146 : (Jvm.Cond.initialized "BakeryPlan$ByOrder") ∈ lw_all := lw_g (lw_at lw_m1 24 rfl) rfl
theorem q570 : (Jvm.Cond.instantiable "BakeryPlan$ByOrder" (0 : Nat)) ∈ lw_all := lw_g (lw_at lw_m2 208 rfl) rfl
theorem q572 : (Jvm.Cond.instanceMethod ({ cls := "BakeryPlan$ByOrder", name := "<init>", desc := "()V" } : Jvm.MethodName)) ∈ lw_all := lw_g (lw_at lw_m2 210 rfl) rfl
theorem q573 : (Jvm.Cond.code ({ cls := "BakeryPlan$ByOrder", name := "<init>", desc := "()V" } : Jvm.MethodName) prog_4_method_1_code (1 : Nat) (Option.none : Option Jvm.ClassFile.FieldType)) ∈ lw_all := lw_g (lw_at lw_m2 211 rfl) rfl
theorem q574 : (Jvm.Cond.methodLink "BakeryPlan$ByOrder" (1 : Nat) ({ cls := "java/lang/Object", name := "<init>", desc := "()V" } : Jvm.MethodName)) ∈ lw_all := lw_g (lw_at lw_m2 212 rfl) rfl
theorem q575 : (Jvm.Cond.superclass "BakeryPlan$ByOrder" "java/lang/Object") ∈ lw_all := lw_g (lw_at lw_m2 213 rfl) rfl
theorem q852 : (Jvm.Cond.castable "BakeryPlan$ByOrder" "BakeryPlan$Policy") ∈ lw_tbl := lw_at lw_m4 10 rfl
theorem q853 : (Jvm.Cond.selects "BakeryPlan$ByOrder" ({ cls := "BakeryPlan$Policy", name := "key", desc := "(LBakeryPlan$Day;I)I" } : Jvm.MethodName) ({ cls := "BakeryPlan$ByOrder", name := "key", desc := "(LBakeryPlan$Day;I)I" } : Jvm.MethodName)) ∈ lw_all := lw_g (lw_at lw_m4 11 rfl) rfl
theorem q854 : (Jvm.Cond.unhidden "BakeryPlan$ByOrder" "key" "(LBakeryPlan$Day;I)I") ∈ lw_tbl := lw_at lw_m4 12 rfl
theorem q855 : (Jvm.Cond.instanceMethod ({ cls := "BakeryPlan$ByOrder", name := "key", desc := "(LBakeryPlan$Day;I)I" } : Jvm.MethodName)) ∈ lw_all := lw_g (lw_at lw_m4 13 rfl) rfl
theorem q856 : (Jvm.Cond.publicMethod ({ cls := "BakeryPlan$ByOrder", name := "key", desc := "(LBakeryPlan$Day;I)I" } : Jvm.MethodName)) ∈ lw_tbl := lw_at lw_m4 14 rfl
theorem q857 : (Jvm.Cond.code ({ cls := "BakeryPlan$ByOrder", name := "key", desc := "(LBakeryPlan$Day;I)I" } : Jvm.MethodName) prog_4_method_2_code (3 : Nat) (Option.some Jvm.ClassFile.FieldType.int)) ∈ lw_all := lw_g (lw_at lw_m4 15 rfl) rfl
theorem q866 : (Jvm.Cond.unhidden "BakeryPlan$ByOrder" "isBetter" "(LBakeryPlan$Day;II)Z") ∈ lw_tbl := lw_at lw_m4 24 rfl
theorem q1018 : (Jvm.Cond.selects "BakeryPlan$ByOrder" ({ cls := "java/lang/Object", name := "getClass", desc := "()Ljava/lang/Class;" } : Jvm.MethodName) ({ cls := "java/lang/Object", name := "getClass", desc := "()Ljava/lang/Class;" } : Jvm.MethodName)) ∈ lw_all := lw_g (lw_at lw_m4 176 rfl) rfl
theorem q1437 : (Jvm.Cond.selects "BakeryPlan$ByOrder" ({ cls := "BakeryPlan$Policy", name := "name", desc := "()Ljava/lang/CharSequence;" } : Jvm.MethodName) ({ cls := "BakeryPlan$ByOrder", name := "name", desc := "()Ljava/lang/CharSequence;" } : Jvm.MethodName)) ∈ lw_all := lw_g (lw_at lw_m6 115 rfl) rfl
theorem q1438 : (Jvm.Cond.unhidden "BakeryPlan$ByOrder" "name" "()Ljava/lang/CharSequence;") ∈ lw_tbl := lw_at lw_m6 116 rfl
theorem q1439 : (Jvm.Cond.instanceMethod ({ cls := "BakeryPlan$ByOrder", name := "name", desc := "()Ljava/lang/CharSequence;" } : Jvm.MethodName)) ∈ lw_all := lw_g (lw_at lw_m6 117 rfl) rfl
theorem q1440 : (Jvm.Cond.publicMethod ({ cls := "BakeryPlan$ByOrder", name := "name", desc := "()Ljava/lang/CharSequence;" } : Jvm.MethodName)) ∈ lw_tbl := lw_at lw_m6 118 rfl
theorem q1441 : (Jvm.Cond.code ({ cls := "BakeryPlan$ByOrder", name := "name", desc := "()Ljava/lang/CharSequence;" } : Jvm.MethodName) prog_4_method_3_code (1 : Nat) (Option.some (Jvm.ClassFile.FieldType.object "java/lang/CharSequence"))) ∈ lw_all := lw_g (lw_at lw_m6 119 rfl) rfl
theorem q1442 : (Jvm.Cond.stringRef "BakeryPlan$ByOrder" (7 : Nat) "order") ∈ lw_tbl := lw_at lw_m6 120 rfl
theorem q1476 : (Jvm.Cond.unhidden "BakeryPlan$ByOrder" "isNamed" "(Ljava/lang/CharSequence;)Z") ∈ lw_tbl := lw_at lw_m6 154 rfl
theorem q2675 : (Jvm.Cond.castable "BakeryPlan$ByOrder" "java/lang/Object") ∈ lw_tbl := lw_at lw_m11 153 rfl
/-! BakeryPlan$ByAge -/
set_option maxRecDepth 100000
def RX6 : String := "BakeryPlan$ByAge"
abbrev cX6_init : ByteArray := prog_3_method_1_code
def yX6_init : MethodName := ⟨RX6, "<init>", "()V"⟩
theorem dX6_init_0 : decode cX6_init 0 = .ok (.aload_n 0, 1) := by decide +kernel
theorem dX6_init_1 : decode cX6_init 1 = .ok (.invokespecial 1, 3) := by decide +kernel
theorem dX6_init_4 : decode cX6_init 4 = .ok (.return_, 1) := by decide +kernel
abbrev cX6_key : ByteArray := prog_3_method_2_code
def yX6_key : MethodName := ⟨RX6, "key", "(LBakeryPlan$Day;I)I"⟩
def dkwX6_key_0 : List UInt8 := [43, 28, 182, 0, 7, 43, 180, 0, 13, 28, 46, 100, 172]
abbrev dktX6_key_0 : List UInt8 := dkwX6_key_0 ++ []
theorem dksX6_key_0 : cX6_key.data.toList.drop 0 = dktX6_key_0 := by decide +kernel
theorem dX6_key_0 : decode cX6_key 0 = .ok (.aload_n 1, 1) := dk_43 (dk_at dksX6_key_0 0 rfl rfl)
theorem dX6_key_1 : decode cX6_key 1 = .ok (.iload_n 2, 1) := dk_28 (dk_at dksX6_key_0 1 rfl rfl)
theorem dX6_key_2 : decode cX6_key 2 = .ok (.invokevirtual 7, 3) := dk_182 0 7 (dk_at dksX6_key_0 2 rfl rfl)
theorem dX6_key_5 : decode cX6_key 5 = .ok (.aload_n 1, 1) := dk_43 (dk_at dksX6_key_0 5 rfl rfl)
theorem dX6_key_6 : decode cX6_key 6 = .ok (.getfield 13, 3) := dk_180 0 13 (dk_at dksX6_key_0 6 rfl rfl)
theorem dX6_key_9 : decode cX6_key 9 = .ok (.iload_n 2, 1) := dk_28 (dk_at dksX6_key_0 9 rfl rfl)
theorem dX6_key_10 : decode cX6_key 10 = .ok (.iaload, 1) := dk_46 (dk_at dksX6_key_0 10 rfl rfl)
theorem dX6_key_11 : decode cX6_key 11 = .ok (.isub, 1) := dk_100 (dk_at dksX6_key_0 11 rfl rfl)
theorem dX6_key_12 : decode cX6_key 12 = .ok (.ireturn, 1) := dk_172 (dk_at dksX6_key_0 12 rfl rfl)
abbrev cX6_name : ByteArray := prog_3_method_3_code
def yX6_name : MethodName := ⟨RX6, "name", "()Ljava/lang/CharSequence;"⟩
theorem dX6_name_0 : decode cX6_name 0 = .ok (.ldc 17, 2) := by decide +kernel
theorem dX6_name_2 : decode cX6_name 2 = .ok (.areturn, 1) := by decide +kernel
theorem q147 : (Jvm.Cond.initialized "BakeryPlan$ByAge") ∈ lw_all := lw_g (lw_at lw_m1 25 rfl) rfl
theorem q578 : (Jvm.Cond.instantiable "BakeryPlan$ByAge" (0 : Nat)) ∈ lw_all := lw_g (lw_at lw_m2 216 rfl) rfl
theorem q580 : (Jvm.Cond.instanceMethod ({ cls := "BakeryPlan$ByAge", name := "<init>", desc := "()V" } : Jvm.MethodName)) ∈ lw_all := lw_g (lw_at lw_m2 218 rfl) rfl
theorem q581 : (Jvm.Cond.code ({ cls := "BakeryPlan$ByAge", name := "<init>", desc := "()V" } : Jvm.MethodName) prog_3_method_1_code (1 : Nat) (Option.none : Option Jvm.ClassFile.FieldType)) ∈ lw_all := lw_g (lw_at lw_m2 219 rfl) rfl
theorem q582 : (Jvm.Cond.methodLink "BakeryPlan$ByAge" (1 : Nat) ({ cls := "java/lang/Object", name := "<init>", desc := "()V" } : Jvm.MethodName)) ∈ lw_all := lw_g (lw_at lw_m2 220 rfl) rfl
theorem q583 : (Jvm.Cond.superclass "BakeryPlan$ByAge" "java/lang/Object") ∈ lw_all := lw_g (lw_at lw_m2 221 rfl) rfl
theorem q609 : (Jvm.Cond.fieldLinkNest "BakeryPlan$ByAge" (13 : Nat) "BakeryPlan$Day" "age" "[I" "BakeryPlan") ∈ lw_tbl := lw_at lw_m3 7 rfl
theorem q837 : (Jvm.Cond.castable "BakeryPlan$ByAge" "BakeryPlan$Policy") ∈ lw_tbl := lw_at lw_m3 235 rfl
theorem q838 : (Jvm.Cond.unhidden "BakeryPlan$ByAge" "isBetter" "(LBakeryPlan$Day;II)Z") ∈ lw_tbl := lw_at lw_m3 236 rfl
theorem q846 : (Jvm.Cond.selects "BakeryPlan$ByAge" ({ cls := "BakeryPlan$Policy", name := "key", desc := "(LBakeryPlan$Day;I)I" } : Jvm.MethodName) ({ cls := "BakeryPlan$ByAge", name := "key", desc := "(LBakeryPlan$Day;I)I" } : Jvm.MethodName)) ∈ lw_all := lw_g (lw_at lw_m4 4 rfl) rfl
theorem q847 : (Jvm.Cond.unhidden "BakeryPlan$ByAge" "key" "(LBakeryPlan$Day;I)I") ∈ lw_tbl := lw_at lw_m4 5 rfl
theorem q848 : (Jvm.Cond.instanceMethod ({ cls := "BakeryPlan$ByAge", name := "key", desc := "(LBakeryPlan$Day;I)I" } : Jvm.MethodName)) ∈ lw_all := lw_g (lw_at lw_m4 6 rfl) rfl
theorem q849 : (Jvm.Cond.publicMethod ({ cls := "BakeryPlan$ByAge", name := "key", desc := "(LBakeryPlan$Day;I)I" } : Jvm.MethodName)) ∈ lw_tbl := lw_at lw_m4 7 rfl
theorem q850 : (Jvm.Cond.code ({ cls := "BakeryPlan$ByAge", name := "key", desc := "(LBakeryPlan$Day;I)I" } : Jvm.MethodName) prog_3_method_2_code (3 : Nat) (Option.some Jvm.ClassFile.FieldType.int)) ∈ lw_all := lw_g (lw_at lw_m4 8 rfl) rfl
theorem q851 : (Jvm.Cond.methodLink "BakeryPlan$ByAge" (7 : Nat) ({ cls := "BakeryPlan$Day", name := "oldest", desc := "(I)I" } : Jvm.MethodName)) ∈ lw_all := lw_g (lw_at lw_m4 9 rfl) rfl
theorem q1017 : (Jvm.Cond.selects "BakeryPlan$ByAge" ({ cls := "java/lang/Object", name := "getClass", desc := "()Ljava/lang/Class;" } : Jvm.MethodName) ({ cls := "java/lang/Object", name := "getClass", desc := "()Ljava/lang/Class;" } : Jvm.MethodName)) ∈ lw_all := lw_g (lw_at lw_m4 175 rfl) rfl
theorem q1411 : (Jvm.Cond.unhidden "BakeryPlan$ByAge" "isNamed" "(Ljava/lang/CharSequence;)Z") ∈ lw_tbl := lw_at lw_m6 89 rfl
theorem q1431 : (Jvm.Cond.selects "BakeryPlan$ByAge" ({ cls := "BakeryPlan$Policy", name := "name", desc := "()Ljava/lang/CharSequence;" } : Jvm.MethodName) ({ cls := "BakeryPlan$ByAge", name := "name", desc := "()Ljava/lang/CharSequence;" } : Jvm.MethodName)) ∈ lw_all := lw_g (lw_at lw_m6 109 rfl) rfl
theorem q1432 : (Jvm.Cond.unhidden "BakeryPlan$ByAge" "name" "()Ljava/lang/CharSequence;") ∈ lw_tbl := lw_at lw_m6 110 rfl
theorem q1433 : (Jvm.Cond.instanceMethod ({ cls := "BakeryPlan$ByAge", name := "name", desc := "()Ljava/lang/CharSequence;" } : Jvm.MethodName)) ∈ lw_all := lw_g (lw_at lw_m6 111 rfl) rfl
theorem q1434 : (Jvm.Cond.publicMethod ({ cls := "BakeryPlan$ByAge", name := "name", desc := "()Ljava/lang/CharSequence;" } : Jvm.MethodName)) ∈ lw_tbl := lw_at lw_m6 112 rfl
theorem q1435 : (Jvm.Cond.code ({ cls := "BakeryPlan$ByAge", name := "name", desc := "()Ljava/lang/CharSequence;" } : Jvm.MethodName) prog_3_method_3_code (1 : Nat) (Option.some (Jvm.ClassFile.FieldType.object "java/lang/CharSequence"))) ∈ lw_all := lw_g (lw_at lw_m6 113 rfl) rfl
theorem q1436 : (Jvm.Cond.stringRef "BakeryPlan$ByAge" (17 : Nat) "urgent") ∈ lw_tbl := lw_at lw_m6 114 rfl
theorem q2676 : (Jvm.Cond.castable "BakeryPlan$ByAge" "java/lang/Object") ∈ lw_tbl := lw_at lw_m11 154 rfl
/-! BakeryPlan$ByWave -/
set_option maxRecDepth 100000
def RX7 : String := "BakeryPlan$ByWave"
abbrev cX7_init : ByteArray := prog_5_method_1_code
def yX7_init : MethodName := ⟨RX7, "<init>", "()V"⟩
theorem dX7_init_0 : decode cX7_init 0 = .ok (.aload_n 0, 1) := by decide +kernel
theorem dX7_init_1 : decode cX7_init 1 = .ok (.invokespecial 1, 3) := by decide +kernel
theorem dX7_init_4 : decode cX7_init 4 = .ok (.return_, 1) := by decide +kernel
abbrev cX7_key : ByteArray := prog_5_method_2_code
def yX7_key : MethodName := ⟨RX7, "key", "(LBakeryPlan$Day;I)I"⟩
def dkwX7_key_0 : List UInt8 := [43, 180, 0, 7, 180, 0, 13, 28, 182, 0, 19, 192, 0, 25, 180, 0, 27, 172]
abbrev dktX7_key_0 : List UInt8 := dkwX7_key_0 ++ []
theorem dksX7_key_0 : cX7_key.data.toList.drop 0 = dktX7_key_0 := by decide +kernel
theorem dX7_key_0 : decode cX7_key 0 = .ok (.aload_n 1, 1) := dk_43 (dk_at dksX7_key_0 0 rfl rfl)
theorem dX7_key_1 : decode cX7_key 1 = .ok (.getfield 7, 3) := dk_180 0 7 (dk_at dksX7_key_0 1 rfl rfl)
theorem dX7_key_4 : decode cX7_key 4 = .ok (.getfield 13, 3) := dk_180 0 13 (dk_at dksX7_key_0 4 rfl rfl)
theorem dX7_key_7 : decode cX7_key 7 = .ok (.iload_n 2, 1) := dk_28 (dk_at dksX7_key_0 7 rfl rfl)
theorem dX7_key_8 : decode cX7_key 8 = .ok (.invokevirtual 19, 3) := dk_182 0 19 (dk_at dksX7_key_0 8 rfl rfl)
theorem dX7_key_11 : decode cX7_key 11 = .ok (.checkcast 25, 3) := dk_192 0 25 (dk_at dksX7_key_0 11 rfl rfl)
theorem dX7_key_14 : decode cX7_key 14 = .ok (.getfield 27, 3) := dk_180 0 27 (dk_at dksX7_key_0 14 rfl rfl)
theorem dX7_key_17 : decode cX7_key 17 = .ok (.ireturn, 1) := dk_172 (dk_at dksX7_key_0 17 rfl rfl)
abbrev cX7_name : ByteArray := prog_5_method_3_code
def yX7_name : MethodName := ⟨RX7, "name", "()Ljava/lang/CharSequence;"⟩
theorem dX7_name_0 : decode cX7_name 0 = .ok (.ldc 31, 2) := by decide +kernel
theorem dX7_name_2 : decode cX7_name 2 = .ok (.areturn, 1) := by decide +kernel
theorem q148 : (Jvm.Cond.initialized "BakeryPlan$ByWave") ∈ lw_all := lw_g (lw_at lw_m1 26 rfl) rfl
theorem q535 : (Jvm.Cond.fieldLinkNest "BakeryPlan$ByWave" (13 : Nat) "BakeryPlan$Plan" "batches" "Ljava/util/ArrayList;" "BakeryPlan") ∈ lw_tbl := lw_at lw_m2 173 rfl
theorem q585 : (Jvm.Cond.instantiable "BakeryPlan$ByWave" (0 : Nat)) ∈ lw_all := lw_g (lw_at lw_m2 223 rfl) rfl
theorem q587 : (Jvm.Cond.instanceMethod ({ cls := "BakeryPlan$ByWave", name := "<init>", desc := "()V" } : Jvm.MethodName)) ∈ lw_all := lw_g (lw_at lw_m2 225 rfl) rfl
theorem q588 : (Jvm.Cond.code ({ cls := "BakeryPlan$ByWave", name := "<init>", desc := "()V" } : Jvm.MethodName) prog_5_method_1_code (1 : Nat) (Option.none : Option Jvm.ClassFile.FieldType)) ∈ lw_all := lw_g (lw_at lw_m2 226 rfl) rfl
theorem q589 : (Jvm.Cond.methodLink "BakeryPlan$ByWave" (1 : Nat) ({ cls := "java/lang/Object", name := "<init>", desc := "()V" } : Jvm.MethodName)) ∈ lw_all := lw_g (lw_at lw_m2 227 rfl) rfl
theorem q590 : (Jvm.Cond.superclass "BakeryPlan$ByWave" "java/lang/Object") ∈ lw_all := lw_g (lw_at lw_m2 228 rfl) rfl
theorem q630 : (Jvm.Cond.fieldLinkNest "BakeryPlan$ByWave" (7 : Nat) "BakeryPlan$Day" "plan" "LBakeryPlan$Plan;" "BakeryPlan") ∈ lw_tbl := lw_at lw_m3 28 rfl
theorem q858 : (Jvm.Cond.castable "BakeryPlan$ByWave" "BakeryPlan$Policy") ∈ lw_tbl := lw_at lw_m4 16 rfl
theorem q859 : (Jvm.Cond.selects "BakeryPlan$ByWave" ({ cls := "BakeryPlan$Policy", name := "key", desc := "(LBakeryPlan$Day;I)I" } : Jvm.MethodName) ({ cls := "BakeryPlan$ByWave", name := "key", desc := "(LBakeryPlan$Day;I)I" } : Jvm.MethodName)) ∈ lw_all := lw_g (lw_at lw_m4 17 rfl) rfl
theorem q860 : (Jvm.Cond.unhidden "BakeryPlan$ByWave" "key" "(LBakeryPlan$Day;I)I") ∈ lw_tbl := lw_at lw_m4 18 rfl
theorem q861 : (Jvm.Cond.instanceMethod ({ cls := "BakeryPlan$ByWave", name := "key", desc := "(LBakeryPlan$Day;I)I" } : Jvm.MethodName)) ∈ lw_all := lw_g (lw_at lw_m4 19 rfl) rfl
theorem q862 : (Jvm.Cond.publicMethod ({ cls := "BakeryPlan$ByWave", name := "key", desc := "(LBakeryPlan$Day;I)I" } : Jvm.MethodName)) ∈ lw_tbl := lw_at lw_m4 20 rfl
theorem q863 : (Jvm.Cond.code ({ cls := "BakeryPlan$ByWave", name := "key", desc := "(LBakeryPlan$Day;I)I" } : Jvm.MethodName) prog_5_method_2_code (3 : Nat) (Option.some Jvm.ClassFile.FieldType.int)) ∈ lw_all := lw_g (lw_at lw_m4 21 rfl) rfl
theorem q864 : (Jvm.Cond.methodLink "BakeryPlan$ByWave" (19 : Nat) ({ cls := "java/util/ArrayList", name := "get", desc := "(I)Ljava/lang/Object;" } : Jvm.MethodName)) ∈ lw_all := lw_g (lw_at lw_m4 22 rfl) rfl
theorem q865 : (Jvm.Cond.classLink "BakeryPlan$ByWave" (25 : Nat) "BakeryPlan$Batch") ∈ lw_all := lw_g (lw_at lw_m4 23 rfl) rfl
theorem q867 : (Jvm.Cond.unhidden "BakeryPlan$ByWave" "isBetter" "(LBakeryPlan$Day;II)Z") ∈ lw_tbl := lw_at lw_m4 25 rfl
theorem q980 : (Jvm.Cond.fieldLinkNest "BakeryPlan$ByWave" (27 : Nat) "BakeryPlan$Batch" "wave" "I" "BakeryPlan") ∈ lw_tbl := lw_at lw_m4 138 rfl
theorem q1019 : (Jvm.Cond.selects "BakeryPlan$ByWave" ({ cls := "java/lang/Object", name := "getClass", desc := "()Ljava/lang/Class;" } : Jvm.MethodName) ({ cls := "java/lang/Object", name := "getClass", desc := "()Ljava/lang/Class;" } : Jvm.MethodName)) ∈ lw_all := lw_g (lw_at lw_m4 177 rfl) rfl
theorem q1443 : (Jvm.Cond.selects "BakeryPlan$ByWave" ({ cls := "BakeryPlan$Policy", name := "name", desc := "()Ljava/lang/CharSequence;" } : Jvm.MethodName) ({ cls := "BakeryPlan$ByWave", name := "name", desc := "()Ljava/lang/CharSequence;" } : Jvm.MethodName)) ∈ lw_all := lw_g (lw_at lw_m6 121 rfl) rfl
theorem q1444 : (Jvm.Cond.unhidden "BakeryPlan$ByWave" "name" "()Ljava/lang/CharSequence;") ∈ lw_tbl := lw_at lw_m6 122 rfl
theorem q1445 : (Jvm.Cond.instanceMethod ({ cls := "BakeryPlan$ByWave", name := "name", desc := "()Ljava/lang/CharSequence;" } : Jvm.MethodName)) ∈ lw_all := lw_g (lw_at lw_m6 123 rfl) rfl
theorem q1446 : (Jvm.Cond.publicMethod ({ cls := "BakeryPlan$ByWave", name := "name", desc := "()Ljava/lang/CharSequence;" } : Jvm.MethodName)) ∈ lw_tbl := lw_at lw_m6 124 rfl
theorem q1447 : (Jvm.Cond.code ({ cls := "BakeryPlan$ByWave", name := "name", desc := "()Ljava/lang/CharSequence;" } : Jvm.MethodName) prog_5_method_3_code (1 : Nat) (Option.some (Jvm.ClassFile.FieldType.object "java/lang/CharSequence"))) ∈ lw_all := lw_g (lw_at lw_m6 125 rfl) rfl
theorem q1448 : (Jvm.Cond.stringRef "BakeryPlan$ByWave" (31 : Nat) "wave") ∈ lw_tbl := lw_at lw_m6 126 rfl
theorem q1477 : (Jvm.Cond.unhidden "BakeryPlan$ByWave" "isNamed" "(Ljava/lang/CharSequence;)Z") ∈ lw_tbl := lw_at lw_m6 155 rfl
theorem q2677 : (Jvm.Cond.castable "BakeryPlan$ByWave" "java/lang/Object") ∈ lw_tbl := lw_at lw_m11 155 rfl
/-! BakeryPlan$Parser -/
set_option maxRecDepth 100000
def RX9 : String := "BakeryPlan$Parser"
def TX9 : u_T := fun k => match k with
  | 0 => ("BakeryPlan$Parser", "text", "[B", true)
  | 1 => ("BakeryPlan$Parser", "parsed", "LBakeryPlan$Plan;", true)
  | 2 => ("BakeryPlan$Parser", "start", "I", false)
  | 3 => ("BakeryPlan$Parser", "next", "I", false)
  | 4 => ("BakeryPlan$Parser", "token", "I", false)
  | 5 => ("BakeryPlan$Parser", "number", "I", false)
  | _ => ("BakeryPlan$Parser", "word", "Ljava/lang/String;", false)
def tyX9 : Nat → FieldType := fun k => match k with
  | 0 => .array .byte
  | 1 => .object "BakeryPlan$Plan"
  | 2 => .int
  | 3 => .int
  | 4 => .int
  | 5 => .int
  | _ => .object "java/lang/String"
abbrev wsX90 : List Cond := u_ws RX9 TX9 7
theorem nmX9 : ∀ a, a < 7 → ∀ b, b < 7 → a ≠ b → (TX9 a).2.1 ≠ (TX9 b).2.1 := by decide +kernel
theorem tyX9_ok : ∀ k, k < 7 → parseFieldDescriptor (TX9 k).2.2.1 = some (tyX9 k) := by decide +kernel
abbrev cX9_init : ByteArray := prog_7_method_1_code
def yX9_init : MethodName := ⟨RX9, "<init>", "([B)V"⟩
def dkwX9_init_1 : List UInt8 := [183, 0, 16, 181, 0, 19, 42, 18, 25, 181, 0, 27, 42, 43, 181, 0, 31, 177]
abbrev dktX9_init_1 : List UInt8 := dkwX9_init_1 ++ []
def dkwX9_init_0 : List UInt8 := [42, 183, 0, 3, 42, 187, 0, 9, 89, 187, 0, 11, 89, 16, 8, 183, 0, 13, 16, 6, 188, 10]
abbrev dktX9_init_0 : List UInt8 := dkwX9_init_0 ++ dktX9_init_1
theorem dksX9_init_0 : cX9_init.data.toList.drop 0 = dktX9_init_0 := by decide +kernel
theorem dksX9_init_1 : cX9_init.data.toList.drop 22 = dktX9_init_1 := dk_seg dksX9_init_0 22 rfl rfl
theorem dX9_init_0 : decode cX9_init 0 = .ok (.aload_n 0, 1) := dk_42 (dk_at dksX9_init_0 0 rfl rfl)
theorem dX9_init_1 : decode cX9_init 1 = .ok (.invokespecial 3, 3) := dk_183 0 3 (dk_at dksX9_init_0 1 rfl rfl)
theorem dX9_init_4 : decode cX9_init 4 = .ok (.aload_n 0, 1) := dk_42 (dk_at dksX9_init_0 4 rfl rfl)
theorem dX9_init_5 : decode cX9_init 5 = .ok (.new 9, 3) := dk_187 0 9 (dk_at dksX9_init_0 5 rfl rfl)
theorem dX9_init_8 : decode cX9_init 8 = .ok (.dup, 1) := dk_89 (dk_at dksX9_init_0 8 rfl rfl)
theorem dX9_init_9 : decode cX9_init 9 = .ok (.new 11, 3) := dk_187 0 11 (dk_at dksX9_init_0 9 rfl rfl)
theorem dX9_init_12 : decode cX9_init 12 = .ok (.dup, 1) := dk_89 (dk_at dksX9_init_0 12 rfl rfl)
theorem dX9_init_13 : decode cX9_init 13 = .ok (.bipush 8, 2) := dk_16 8 (dk_at dksX9_init_0 13 rfl rfl)
theorem dX9_init_15 : decode cX9_init 15 = .ok (.invokespecial 13, 3) := dk_183 0 13 (dk_at dksX9_init_0 15 rfl rfl)
theorem dX9_init_18 : decode cX9_init 18 = .ok (.bipush 6, 2) := dk_16 6 (dk_at dksX9_init_0 18 rfl rfl)
theorem dX9_init_20 : decode cX9_init 20 = .ok (.newarray .int, 2) := dk_188_10 (dk_at dksX9_init_0 20 rfl rfl)
theorem dX9_init_22 : decode cX9_init 22 = .ok (.invokespecial 16, 3) := dk_183 0 16 (dk_at dksX9_init_1 0 rfl rfl)
theorem dX9_init_25 : decode cX9_init 25 = .ok (.putfield 19, 3) := dk_181 0 19 (dk_at dksX9_init_1 3 rfl rfl)
theorem dX9_init_28 : decode cX9_init 28 = .ok (.aload_n 0, 1) := dk_42 (dk_at dksX9_init_1 6 rfl rfl)
theorem dX9_init_29 : decode cX9_init 29 = .ok (.ldc 25, 2) := dk_18 25 (dk_at dksX9_init_1 7 rfl rfl)
theorem dX9_init_31 : decode cX9_init 31 = .ok (.putfield 27, 3) := dk_181 0 27 (dk_at dksX9_init_1 9 rfl rfl)
theorem dX9_init_34 : decode cX9_init 34 = .ok (.aload_n 0, 1) := dk_42 (dk_at dksX9_init_1 12 rfl rfl)
theorem dX9_init_35 : decode cX9_init 35 = .ok (.aload_n 1, 1) := dk_43 (dk_at dksX9_init_1 13 rfl rfl)
theorem dX9_init_36 : decode cX9_init 36 = .ok (.putfield 31, 3) := dk_181 0 31 (dk_at dksX9_init_1 14 rfl rfl)
theorem dX9_init_39 : decode cX9_init 39 = .ok (.return_, 1) := dk_177 (dk_at dksX9_init_1 17 rfl rfl)
abbrev cX9_parse : ByteArray := prog_7_method_7_code
def yX9_parse : MethodName := ⟨RX9, "parse", "()LBakeryPlan$Plan;"⟩
def dkwX9_parse_2 : List UInt8 := [182, 0, 86, 42, 182, 0, 90, 167, 255, 207, 42, 180, 0, 19, 176]
abbrev dktX9_parse_2 : List UInt8 := dkwX9_parse_2 ++ []
def dkwX9_parse_1 : List UInt8 := [3, 182, 0, 86, 42, 182, 0, 113, 42, 42, 180, 0, 50, 7, 160, 0, 7, 4, 167, 0, 4, 3]
abbrev dktX9_parse_1 : List UInt8 := dkwX9_parse_1 ++ dktX9_parse_2
def dkwX9_parse_0 : List UInt8 := [42, 182, 0, 90, 42, 180, 0, 50, 153, 0, 48, 42, 42, 180, 0, 50, 5, 160, 0, 7, 4, 167, 0, 4]
abbrev dktX9_parse_0 : List UInt8 := dkwX9_parse_0 ++ dktX9_parse_1
theorem dksX9_parse_0 : cX9_parse.data.toList.drop 0 = dktX9_parse_0 := by decide +kernel
theorem dksX9_parse_1 : cX9_parse.data.toList.drop 24 = dktX9_parse_1 := dk_seg dksX9_parse_0 24 rfl rfl
theorem dksX9_parse_2 : cX9_parse.data.toList.drop 46 = dktX9_parse_2 := dk_seg dksX9_parse_1 22 rfl rfl
theorem dX9_parse_0 : decode cX9_parse 0 = .ok (.aload_n 0, 1) := dk_42 (dk_at dksX9_parse_0 0 rfl rfl)
theorem dX9_parse_1 : decode cX9_parse 1 = .ok (.invokevirtual 90, 3) := dk_182 0 90 (dk_at dksX9_parse_0 1 rfl rfl)
theorem dX9_parse_4 : decode cX9_parse 4 = .ok (.aload_n 0, 1) := dk_42 (dk_at dksX9_parse_0 4 rfl rfl)
theorem dX9_parse_5 : decode cX9_parse 5 = .ok (.getfield 50, 3) := dk_180 0 50 (dk_at dksX9_parse_0 5 rfl rfl)
theorem dX9_parse_8 : decode cX9_parse 8 = .ok (.ifCond .eq 48, 3) := dk_153 0 48 (dk_at dksX9_parse_0 8 rfl rfl)
theorem dX9_parse_11 : decode cX9_parse 11 = .ok (.aload_n 0, 1) := dk_42 (dk_at dksX9_parse_0 11 rfl rfl)
theorem dX9_parse_12 : decode cX9_parse 12 = .ok (.aload_n 0, 1) := dk_42 (dk_at dksX9_parse_0 12 rfl rfl)
theorem dX9_parse_13 : decode cX9_parse 13 = .ok (.getfield 50, 3) := dk_180 0 50 (dk_at dksX9_parse_0 13 rfl rfl)
theorem dX9_parse_16 : decode cX9_parse 16 = .ok (.iconst 2, 1) := dk_5 (dk_at dksX9_parse_0 16 rfl rfl)
theorem dX9_parse_17 : decode cX9_parse 17 = .ok (.if_icmp .ne 7, 3) := dk_160 0 7 (dk_at dksX9_parse_0 17 rfl rfl)
theorem dX9_parse_20 : decode cX9_parse 20 = .ok (.iconst 1, 1) := dk_4 (dk_at dksX9_parse_0 20 rfl rfl)
theorem dX9_parse_21 : decode cX9_parse 21 = .ok (.goto 4, 3) := dk_167 0 4 (dk_at dksX9_parse_0 21 rfl rfl)
theorem dX9_parse_24 : decode cX9_parse 24 = .ok (.iconst 0, 1) := dk_3 (dk_at dksX9_parse_1 0 rfl rfl)
theorem dX9_parse_25 : decode cX9_parse 25 = .ok (.invokevirtual 86, 3) := dk_182 0 86 (dk_at dksX9_parse_1 1 rfl rfl)
theorem dX9_parse_28 : decode cX9_parse 28 = .ok (.aload_n 0, 1) := dk_42 (dk_at dksX9_parse_1 4 rfl rfl)
theorem dX9_parse_29 : decode cX9_parse 29 = .ok (.invokevirtual 113, 3) := dk_182 0 113 (dk_at dksX9_parse_1 5 rfl rfl)
theorem dX9_parse_32 : decode cX9_parse 32 = .ok (.aload_n 0, 1) := dk_42 (dk_at dksX9_parse_1 8 rfl rfl)
theorem dX9_parse_33 : decode cX9_parse 33 = .ok (.aload_n 0, 1) := dk_42 (dk_at dksX9_parse_1 9 rfl rfl)
theorem dX9_parse_34 : decode cX9_parse 34 = .ok (.getfield 50, 3) := dk_180 0 50 (dk_at dksX9_parse_1 10 rfl rfl)
theorem dX9_parse_37 : decode cX9_parse 37 = .ok (.iconst 4, 1) := dk_7 (dk_at dksX9_parse_1 13 rfl rfl)
theorem dX9_parse_38 : decode cX9_parse 38 = .ok (.if_icmp .ne 7, 3) := dk_160 0 7 (dk_at dksX9_parse_1 14 rfl rfl)
theorem dX9_parse_41 : decode cX9_parse 41 = .ok (.iconst 1, 1) := dk_4 (dk_at dksX9_parse_1 17 rfl rfl)
theorem dX9_parse_42 : decode cX9_parse 42 = .ok (.goto 4, 3) := dk_167 0 4 (dk_at dksX9_parse_1 18 rfl rfl)
theorem dX9_parse_45 : decode cX9_parse 45 = .ok (.iconst 0, 1) := dk_3 (dk_at dksX9_parse_1 21 rfl rfl)
theorem dX9_parse_46 : decode cX9_parse 46 = .ok (.invokevirtual 86, 3) := dk_182 0 86 (dk_at dksX9_parse_2 0 rfl rfl)
theorem dX9_parse_49 : decode cX9_parse 49 = .ok (.aload_n 0, 1) := dk_42 (dk_at dksX9_parse_2 3 rfl rfl)
theorem dX9_parse_50 : decode cX9_parse 50 = .ok (.invokevirtual 90, 3) := dk_182 0 90 (dk_at dksX9_parse_2 4 rfl rfl)
theorem dX9_parse_53 : decode cX9_parse 53 = .ok (.goto (-49), 3) := dk_167 255 207 (dk_at dksX9_parse_2 7 rfl rfl)
theorem dX9_parse_56 : decode cX9_parse 56 = .ok (.aload_n 0, 1) := dk_42 (dk_at dksX9_parse_2 10 rfl rfl)
theorem dX9_parse_57 : decode cX9_parse 57 = .ok (.getfield 19, 3) := dk_180 0 19 (dk_at dksX9_parse_2 11 rfl rfl)
theorem dX9_parse_60 : decode cX9_parse 60 = .ok (.areturn, 1) := dk_176 (dk_at dksX9_parse_2 14 rfl rfl)
abbrev cX9_advance : ByteArray := prog_7_method_3_code
def yX9_advance : MethodName := ⟨RX9, "advance", "()V"⟩
def dkwX9_advance_13 : List UInt8 := [181, 0, 35, 177]
abbrev dktX9_advance_13 : List UInt8 := dkwX9_advance_13 ++ []
def dkwX9_advance_12 : List UInt8 := [16, 59, 182, 0, 43, 153, 0, 7, 7, 167, 0, 4, 4, 181, 0, 50, 42, 89, 180, 0, 35, 4, 96]
abbrev dktX9_advance_12 : List UInt8 := dkwX9_advance_12 ++ dktX9_advance_13
def dkwX9_advance_11 : List UInt8 := [42, 180, 0, 47, 100, 7, 164, 0, 7, 4, 167, 0, 4, 6, 181, 0, 50, 167, 0, 33, 42, 42, 16, 59]
abbrev dktX9_advance_11 : List UInt8 := dkwX9_advance_11 ++ dktX9_advance_12
def dkwX9_advance_10 : List UInt8 := [184, 0, 77, 181, 0, 73, 42, 89, 180, 0, 35, 4, 96, 181, 0, 35, 167, 255, 206, 42, 42, 180, 0, 35]
abbrev dktX9_advance_10 : List UInt8 := dkwX9_advance_10 ++ dktX9_advance_11
def dkwX9_advance_9 : List UInt8 := [42, 18, 76, 16, 10, 42, 180, 0, 73, 104, 42, 180, 0, 31, 42, 180, 0, 35, 51, 96, 16, 48, 100]
abbrev dktX9_advance_9 : List UInt8 := dkwX9_advance_9 ++ dktX9_advance_10
def dkwX9_advance_8 : List UInt8 := [16, 57, 182, 0, 43, 153, 0, 86, 42, 3, 181, 0, 73, 42, 16, 48, 16, 57, 182, 0, 43, 153, 0, 45]
abbrev dktX9_advance_8 : List UInt8 := dkwX9_advance_8 ++ dktX9_advance_9
def dkwX9_advance_7 : List UInt8 := [42, 180, 0, 47, 100, 16, 10, 164, 0, 7, 4, 167, 0, 4, 5, 181, 0, 50, 167, 0, 127, 42, 16, 48]
abbrev dktX9_advance_7 : List UInt8 := dkwX9_advance_7 ++ dktX9_advance_8
def dkwX9_advance_6 : List UInt8 := [182, 0, 69, 181, 0, 27, 42, 89, 180, 0, 35, 4, 96, 181, 0, 35, 167, 255, 182, 42, 42, 180, 0, 35]
abbrev dktX9_advance_6 : List UInt8 := dkwX9_advance_6 ++ dktX9_advance_7
def dkwX9_advance_5 : List UInt8 := [183, 0, 61, 42, 180, 0, 27, 182, 0, 62, 42, 180, 0, 31, 42, 180, 0, 35, 51, 146, 182, 0, 66]
abbrev dktX9_advance_5 : List UInt8 := dkwX9_advance_5 ++ dktX9_advance_6
def dkwX9_advance_4 : List UInt8 := [180, 0, 27, 182, 0, 53, 16, 10, 164, 0, 10, 42, 180, 0, 27, 167, 0, 33, 187, 0, 59, 89]
abbrev dktX9_advance_4 : List UInt8 := dkwX9_advance_4 ++ dktX9_advance_5
def dkwX9_advance_3 : List UInt8 := [16, 97, 16, 122, 182, 0, 43, 153, 0, 106, 42, 16, 97, 16, 122, 182, 0, 43, 153, 0, 69, 42, 42]
abbrev dktX9_advance_3 : List UInt8 := dkwX9_advance_3 ++ dktX9_advance_4
def dkwX9_advance_2 : List UInt8 := [181, 0, 27, 42, 180, 0, 35, 42, 180, 0, 31, 190, 160, 0, 11, 42, 3, 181, 0, 50, 167, 0, 241, 42]
abbrev dktX9_advance_2 : List UInt8 := dkwX9_advance_2 ++ dktX9_advance_3
def dkwX9_advance_1 : List UInt8 := [180, 0, 35, 4, 96, 181, 0, 35, 167, 255, 224, 42, 42, 180, 0, 35, 181, 0, 47, 42, 18, 25]
abbrev dktX9_advance_1 : List UInt8 := dkwX9_advance_1 ++ dktX9_advance_2
def dkwX9_advance_0 : List UInt8 := [42, 16, 32, 16, 32, 182, 0, 43, 154, 0, 14, 42, 16, 10, 16, 10, 182, 0, 43, 153, 0, 16, 42, 89]
abbrev dktX9_advance_0 : List UInt8 := dkwX9_advance_0 ++ dktX9_advance_1
theorem dksX9_advance_0 : cX9_advance.data.toList.drop 0 = dktX9_advance_0 := by decide +kernel
theorem dksX9_advance_1 : cX9_advance.data.toList.drop 24 = dktX9_advance_1 := dk_seg dksX9_advance_0 24 rfl rfl
theorem dksX9_advance_2 : cX9_advance.data.toList.drop 46 = dktX9_advance_2 := dk_seg dksX9_advance_1 22 rfl rfl
theorem dksX9_advance_3 : cX9_advance.data.toList.drop 70 = dktX9_advance_3 := dk_seg dksX9_advance_2 24 rfl rfl
theorem dksX9_advance_4 : cX9_advance.data.toList.drop 93 = dktX9_advance_4 := dk_seg dksX9_advance_3 23 rfl rfl
theorem dksX9_advance_5 : cX9_advance.data.toList.drop 115 = dktX9_advance_5 := dk_seg dksX9_advance_4 22 rfl rfl
theorem dksX9_advance_6 : cX9_advance.data.toList.drop 138 = dktX9_advance_6 := dk_seg dksX9_advance_5 23 rfl rfl
theorem dksX9_advance_7 : cX9_advance.data.toList.drop 162 = dktX9_advance_7 := dk_seg dksX9_advance_6 24 rfl rfl
theorem dksX9_advance_8 : cX9_advance.data.toList.drop 186 = dktX9_advance_8 := dk_seg dksX9_advance_7 24 rfl rfl
theorem dksX9_advance_9 : cX9_advance.data.toList.drop 210 = dktX9_advance_9 := dk_seg dksX9_advance_8 24 rfl rfl
theorem dksX9_advance_10 : cX9_advance.data.toList.drop 233 = dktX9_advance_10 := dk_seg dksX9_advance_9 23 rfl rfl
theorem dksX9_advance_11 : cX9_advance.data.toList.drop 257 = dktX9_advance_11 := dk_seg dksX9_advance_10 24 rfl rfl
theorem dksX9_advance_12 : cX9_advance.data.toList.drop 281 = dktX9_advance_12 := dk_seg dksX9_advance_11 24 rfl rfl
theorem dksX9_advance_13 : cX9_advance.data.toList.drop 304 = dktX9_advance_13 := dk_seg dksX9_advance_12 23 rfl rfl
theorem dX9_advance_0 : decode cX9_advance 0 = .ok (.aload_n 0, 1) := dk_42 (dk_at dksX9_advance_0 0 rfl rfl)
theorem dX9_advance_1 : decode cX9_advance 1 = .ok (.bipush 32, 2) := dk_16 32 (dk_at dksX9_advance_0 1 rfl rfl)
theorem dX9_advance_3 : decode cX9_advance 3 = .ok (.bipush 32, 2) := dk_16 32 (dk_at dksX9_advance_0 3 rfl rfl)
theorem dX9_advance_5 : decode cX9_advance 5 = .ok (.invokevirtual 43, 3) := dk_182 0 43 (dk_at dksX9_advance_0 5 rfl rfl)
theorem dX9_advance_8 : decode cX9_advance 8 = .ok (.ifCond .ne 14, 3) := dk_154 0 14 (dk_at dksX9_advance_0 8 rfl rfl)
theorem dX9_advance_11 : decode cX9_advance 11 = .ok (.aload_n 0, 1) := dk_42 (dk_at dksX9_advance_0 11 rfl rfl)
theorem dX9_advance_12 : decode cX9_advance 12 = .ok (.bipush 10, 2) := dk_16 10 (dk_at dksX9_advance_0 12 rfl rfl)
theorem dX9_advance_14 : decode cX9_advance 14 = .ok (.bipush 10, 2) := dk_16 10 (dk_at dksX9_advance_0 14 rfl rfl)
theorem dX9_advance_16 : decode cX9_advance 16 = .ok (.invokevirtual 43, 3) := dk_182 0 43 (dk_at dksX9_advance_0 16 rfl rfl)
theorem dX9_advance_19 : decode cX9_advance 19 = .ok (.ifCond .eq 16, 3) := dk_153 0 16 (dk_at dksX9_advance_0 19 rfl rfl)
theorem dX9_advance_22 : decode cX9_advance 22 = .ok (.aload_n 0, 1) := dk_42 (dk_at dksX9_advance_0 22 rfl rfl)
theorem dX9_advance_23 : decode cX9_advance 23 = .ok (.dup, 1) := dk_89 (dk_at dksX9_advance_0 23 rfl rfl)
theorem dX9_advance_24 : decode cX9_advance 24 = .ok (.getfield 35, 3) := dk_180 0 35 (dk_at dksX9_advance_1 0 rfl rfl)
theorem dX9_advance_27 : decode cX9_advance 27 = .ok (.iconst 1, 1) := dk_4 (dk_at dksX9_advance_1 3 rfl rfl)
theorem dX9_advance_28 : decode cX9_advance 28 = .ok (.iadd, 1) := dk_96 (dk_at dksX9_advance_1 4 rfl rfl)
theorem dX9_advance_29 : decode cX9_advance 29 = .ok (.putfield 35, 3) := dk_181 0 35 (dk_at dksX9_advance_1 5 rfl rfl)
theorem dX9_advance_32 : decode cX9_advance 32 = .ok (.goto (-32), 3) := dk_167 255 224 (dk_at dksX9_advance_1 8 rfl rfl)
theorem dX9_advance_35 : decode cX9_advance 35 = .ok (.aload_n 0, 1) := dk_42 (dk_at dksX9_advance_1 11 rfl rfl)
theorem dX9_advance_36 : decode cX9_advance 36 = .ok (.aload_n 0, 1) := dk_42 (dk_at dksX9_advance_1 12 rfl rfl)
theorem dX9_advance_37 : decode cX9_advance 37 = .ok (.getfield 35, 3) := dk_180 0 35 (dk_at dksX9_advance_1 13 rfl rfl)
theorem dX9_advance_40 : decode cX9_advance 40 = .ok (.putfield 47, 3) := dk_181 0 47 (dk_at dksX9_advance_1 16 rfl rfl)
theorem dX9_advance_43 : decode cX9_advance 43 = .ok (.aload_n 0, 1) := dk_42 (dk_at dksX9_advance_1 19 rfl rfl)
theorem dX9_advance_44 : decode cX9_advance 44 = .ok (.ldc 25, 2) := dk_18 25 (dk_at dksX9_advance_1 20 rfl rfl)
theorem dX9_advance_46 : decode cX9_advance 46 = .ok (.putfield 27, 3) := dk_181 0 27 (dk_at dksX9_advance_2 0 rfl rfl)
theorem dX9_advance_49 : decode cX9_advance 49 = .ok (.aload_n 0, 1) := dk_42 (dk_at dksX9_advance_2 3 rfl rfl)
theorem dX9_advance_50 : decode cX9_advance 50 = .ok (.getfield 35, 3) := dk_180 0 35 (dk_at dksX9_advance_2 4 rfl rfl)
theorem dX9_advance_53 : decode cX9_advance 53 = .ok (.aload_n 0, 1) := dk_42 (dk_at dksX9_advance_2 7 rfl rfl)
theorem dX9_advance_54 : decode cX9_advance 54 = .ok (.getfield 31, 3) := dk_180 0 31 (dk_at dksX9_advance_2 8 rfl rfl)
theorem dX9_advance_57 : decode cX9_advance 57 = .ok (.arraylength, 1) := dk_190 (dk_at dksX9_advance_2 11 rfl rfl)
theorem dX9_advance_58 : decode cX9_advance 58 = .ok (.if_icmp .ne 11, 3) := dk_160 0 11 (dk_at dksX9_advance_2 12 rfl rfl)
theorem dX9_advance_61 : decode cX9_advance 61 = .ok (.aload_n 0, 1) := dk_42 (dk_at dksX9_advance_2 15 rfl rfl)
theorem dX9_advance_62 : decode cX9_advance 62 = .ok (.iconst 0, 1) := dk_3 (dk_at dksX9_advance_2 16 rfl rfl)
theorem dX9_advance_63 : decode cX9_advance 63 = .ok (.putfield 50, 3) := dk_181 0 50 (dk_at dksX9_advance_2 17 rfl rfl)
theorem dX9_advance_66 : decode cX9_advance 66 = .ok (.goto 241, 3) := dk_167 0 241 (dk_at dksX9_advance_2 20 rfl rfl)
theorem dX9_advance_69 : decode cX9_advance 69 = .ok (.aload_n 0, 1) := dk_42 (dk_at dksX9_advance_2 23 rfl rfl)
theorem dX9_advance_70 : decode cX9_advance 70 = .ok (.bipush 97, 2) := dk_16 97 (dk_at dksX9_advance_3 0 rfl rfl)
theorem dX9_advance_72 : decode cX9_advance 72 = .ok (.bipush 122, 2) := dk_16 122 (dk_at dksX9_advance_3 2 rfl rfl)
theorem dX9_advance_74 : decode cX9_advance 74 = .ok (.invokevirtual 43, 3) := dk_182 0 43 (dk_at dksX9_advance_3 4 rfl rfl)
theorem dX9_advance_77 : decode cX9_advance 77 = .ok (.ifCond .eq 106, 3) := dk_153 0 106 (dk_at dksX9_advance_3 7 rfl rfl)
theorem dX9_advance_80 : decode cX9_advance 80 = .ok (.aload_n 0, 1) := dk_42 (dk_at dksX9_advance_3 10 rfl rfl)
theorem dX9_advance_81 : decode cX9_advance 81 = .ok (.bipush 97, 2) := dk_16 97 (dk_at dksX9_advance_3 11 rfl rfl)
theorem dX9_advance_83 : decode cX9_advance 83 = .ok (.bipush 122, 2) := dk_16 122 (dk_at dksX9_advance_3 13 rfl rfl)
theorem dX9_advance_85 : decode cX9_advance 85 = .ok (.invokevirtual 43, 3) := dk_182 0 43 (dk_at dksX9_advance_3 15 rfl rfl)
theorem dX9_advance_88 : decode cX9_advance 88 = .ok (.ifCond .eq 69, 3) := dk_153 0 69 (dk_at dksX9_advance_3 18 rfl rfl)
theorem dX9_advance_91 : decode cX9_advance 91 = .ok (.aload_n 0, 1) := dk_42 (dk_at dksX9_advance_3 21 rfl rfl)
theorem dX9_advance_92 : decode cX9_advance 92 = .ok (.aload_n 0, 1) := dk_42 (dk_at dksX9_advance_3 22 rfl rfl)
theorem dX9_advance_93 : decode cX9_advance 93 = .ok (.getfield 27, 3) := dk_180 0 27 (dk_at dksX9_advance_4 0 rfl rfl)
theorem dX9_advance_96 : decode cX9_advance 96 = .ok (.invokevirtual 53, 3) := dk_182 0 53 (dk_at dksX9_advance_4 3 rfl rfl)
theorem dX9_advance_99 : decode cX9_advance 99 = .ok (.bipush 10, 2) := dk_16 10 (dk_at dksX9_advance_4 6 rfl rfl)
theorem dX9_advance_101 : decode cX9_advance 101 = .ok (.if_icmp .le 10, 3) := dk_164 0 10 (dk_at dksX9_advance_4 8 rfl rfl)
theorem dX9_advance_104 : decode cX9_advance 104 = .ok (.aload_n 0, 1) := dk_42 (dk_at dksX9_advance_4 11 rfl rfl)
theorem dX9_advance_105 : decode cX9_advance 105 = .ok (.getfield 27, 3) := dk_180 0 27 (dk_at dksX9_advance_4 12 rfl rfl)
theorem dX9_advance_108 : decode cX9_advance 108 = .ok (.goto 33, 3) := dk_167 0 33 (dk_at dksX9_advance_4 15 rfl rfl)
theorem dX9_advance_111 : decode cX9_advance 111 = .ok (.new 59, 3) := dk_187 0 59 (dk_at dksX9_advance_4 18 rfl rfl)
theorem dX9_advance_114 : decode cX9_advance 114 = .ok (.dup, 1) := dk_89 (dk_at dksX9_advance_4 21 rfl rfl)
theorem dX9_advance_115 : decode cX9_advance 115 = .ok (.invokespecial 61, 3) := dk_183 0 61 (dk_at dksX9_advance_5 0 rfl rfl)
theorem dX9_advance_118 : decode cX9_advance 118 = .ok (.aload_n 0, 1) := dk_42 (dk_at dksX9_advance_5 3 rfl rfl)
theorem dX9_advance_119 : decode cX9_advance 119 = .ok (.getfield 27, 3) := dk_180 0 27 (dk_at dksX9_advance_5 4 rfl rfl)
theorem dX9_advance_122 : decode cX9_advance 122 = .ok (.invokevirtual 62, 3) := dk_182 0 62 (dk_at dksX9_advance_5 7 rfl rfl)
theorem dX9_advance_125 : decode cX9_advance 125 = .ok (.aload_n 0, 1) := dk_42 (dk_at dksX9_advance_5 10 rfl rfl)
theorem dX9_advance_126 : decode cX9_advance 126 = .ok (.getfield 31, 3) := dk_180 0 31 (dk_at dksX9_advance_5 11 rfl rfl)
theorem dX9_advance_129 : decode cX9_advance 129 = .ok (.aload_n 0, 1) := dk_42 (dk_at dksX9_advance_5 14 rfl rfl)
theorem dX9_advance_130 : decode cX9_advance 130 = .ok (.getfield 35, 3) := dk_180 0 35 (dk_at dksX9_advance_5 15 rfl rfl)
theorem dX9_advance_133 : decode cX9_advance 133 = .ok (.baload, 1) := dk_51 (dk_at dksX9_advance_5 18 rfl rfl)
theorem dX9_advance_134 : decode cX9_advance 134 = .ok (.i2c, 1) := dk_146 (dk_at dksX9_advance_5 19 rfl rfl)
theorem dX9_advance_135 : decode cX9_advance 135 = .ok (.invokevirtual 66, 3) := dk_182 0 66 (dk_at dksX9_advance_5 20 rfl rfl)
theorem dX9_advance_138 : decode cX9_advance 138 = .ok (.invokevirtual 69, 3) := dk_182 0 69 (dk_at dksX9_advance_6 0 rfl rfl)
theorem dX9_advance_141 : decode cX9_advance 141 = .ok (.putfield 27, 3) := dk_181 0 27 (dk_at dksX9_advance_6 3 rfl rfl)
theorem dX9_advance_144 : decode cX9_advance 144 = .ok (.aload_n 0, 1) := dk_42 (dk_at dksX9_advance_6 6 rfl rfl)
theorem dX9_advance_145 : decode cX9_advance 145 = .ok (.dup, 1) := dk_89 (dk_at dksX9_advance_6 7 rfl rfl)
theorem dX9_advance_146 : decode cX9_advance 146 = .ok (.getfield 35, 3) := dk_180 0 35 (dk_at dksX9_advance_6 8 rfl rfl)
theorem dX9_advance_149 : decode cX9_advance 149 = .ok (.iconst 1, 1) := dk_4 (dk_at dksX9_advance_6 11 rfl rfl)
theorem dX9_advance_150 : decode cX9_advance 150 = .ok (.iadd, 1) := dk_96 (dk_at dksX9_advance_6 12 rfl rfl)
theorem dX9_advance_151 : decode cX9_advance 151 = .ok (.putfield 35, 3) := dk_181 0 35 (dk_at dksX9_advance_6 13 rfl rfl)
theorem dX9_advance_154 : decode cX9_advance 154 = .ok (.goto (-74), 3) := dk_167 255 182 (dk_at dksX9_advance_6 16 rfl rfl)
theorem dX9_advance_157 : decode cX9_advance 157 = .ok (.aload_n 0, 1) := dk_42 (dk_at dksX9_advance_6 19 rfl rfl)
theorem dX9_advance_158 : decode cX9_advance 158 = .ok (.aload_n 0, 1) := dk_42 (dk_at dksX9_advance_6 20 rfl rfl)
theorem dX9_advance_159 : decode cX9_advance 159 = .ok (.getfield 35, 3) := dk_180 0 35 (dk_at dksX9_advance_6 21 rfl rfl)
theorem dX9_advance_162 : decode cX9_advance 162 = .ok (.aload_n 0, 1) := dk_42 (dk_at dksX9_advance_7 0 rfl rfl)
theorem dX9_advance_163 : decode cX9_advance 163 = .ok (.getfield 47, 3) := dk_180 0 47 (dk_at dksX9_advance_7 1 rfl rfl)
theorem dX9_advance_166 : decode cX9_advance 166 = .ok (.isub, 1) := dk_100 (dk_at dksX9_advance_7 4 rfl rfl)
theorem dX9_advance_167 : decode cX9_advance 167 = .ok (.bipush 10, 2) := dk_16 10 (dk_at dksX9_advance_7 5 rfl rfl)
theorem dX9_advance_169 : decode cX9_advance 169 = .ok (.if_icmp .le 7, 3) := dk_164 0 7 (dk_at dksX9_advance_7 7 rfl rfl)
theorem dX9_advance_172 : decode cX9_advance 172 = .ok (.iconst 1, 1) := dk_4 (dk_at dksX9_advance_7 10 rfl rfl)
theorem dX9_advance_173 : decode cX9_advance 173 = .ok (.goto 4, 3) := dk_167 0 4 (dk_at dksX9_advance_7 11 rfl rfl)
theorem dX9_advance_176 : decode cX9_advance 176 = .ok (.iconst 2, 1) := dk_5 (dk_at dksX9_advance_7 14 rfl rfl)
theorem dX9_advance_177 : decode cX9_advance 177 = .ok (.putfield 50, 3) := dk_181 0 50 (dk_at dksX9_advance_7 15 rfl rfl)
theorem dX9_advance_180 : decode cX9_advance 180 = .ok (.goto 127, 3) := dk_167 0 127 (dk_at dksX9_advance_7 18 rfl rfl)
theorem dX9_advance_183 : decode cX9_advance 183 = .ok (.aload_n 0, 1) := dk_42 (dk_at dksX9_advance_7 21 rfl rfl)
theorem dX9_advance_184 : decode cX9_advance 184 = .ok (.bipush 48, 2) := dk_16 48 (dk_at dksX9_advance_7 22 rfl rfl)
theorem dX9_advance_186 : decode cX9_advance 186 = .ok (.bipush 57, 2) := dk_16 57 (dk_at dksX9_advance_8 0 rfl rfl)
theorem dX9_advance_188 : decode cX9_advance 188 = .ok (.invokevirtual 43, 3) := dk_182 0 43 (dk_at dksX9_advance_8 2 rfl rfl)
theorem dX9_advance_191 : decode cX9_advance 191 = .ok (.ifCond .eq 86, 3) := dk_153 0 86 (dk_at dksX9_advance_8 5 rfl rfl)
theorem dX9_advance_194 : decode cX9_advance 194 = .ok (.aload_n 0, 1) := dk_42 (dk_at dksX9_advance_8 8 rfl rfl)
theorem dX9_advance_195 : decode cX9_advance 195 = .ok (.iconst 0, 1) := dk_3 (dk_at dksX9_advance_8 9 rfl rfl)
theorem dX9_advance_196 : decode cX9_advance 196 = .ok (.putfield 73, 3) := dk_181 0 73 (dk_at dksX9_advance_8 10 rfl rfl)
theorem dX9_advance_199 : decode cX9_advance 199 = .ok (.aload_n 0, 1) := dk_42 (dk_at dksX9_advance_8 13 rfl rfl)
theorem dX9_advance_200 : decode cX9_advance 200 = .ok (.bipush 48, 2) := dk_16 48 (dk_at dksX9_advance_8 14 rfl rfl)
theorem dX9_advance_202 : decode cX9_advance 202 = .ok (.bipush 57, 2) := dk_16 57 (dk_at dksX9_advance_8 16 rfl rfl)
theorem dX9_advance_204 : decode cX9_advance 204 = .ok (.invokevirtual 43, 3) := dk_182 0 43 (dk_at dksX9_advance_8 18 rfl rfl)
theorem dX9_advance_207 : decode cX9_advance 207 = .ok (.ifCond .eq 45, 3) := dk_153 0 45 (dk_at dksX9_advance_8 21 rfl rfl)
theorem dX9_advance_210 : decode cX9_advance 210 = .ok (.aload_n 0, 1) := dk_42 (dk_at dksX9_advance_9 0 rfl rfl)
theorem dX9_advance_211 : decode cX9_advance 211 = .ok (.ldc 76, 2) := dk_18 76 (dk_at dksX9_advance_9 1 rfl rfl)
theorem dX9_advance_213 : decode cX9_advance 213 = .ok (.bipush 10, 2) := dk_16 10 (dk_at dksX9_advance_9 3 rfl rfl)
theorem dX9_advance_215 : decode cX9_advance 215 = .ok (.aload_n 0, 1) := dk_42 (dk_at dksX9_advance_9 5 rfl rfl)
theorem dX9_advance_216 : decode cX9_advance 216 = .ok (.getfield 73, 3) := dk_180 0 73 (dk_at dksX9_advance_9 6 rfl rfl)
theorem dX9_advance_219 : decode cX9_advance 219 = .ok (.imul, 1) := dk_104 (dk_at dksX9_advance_9 9 rfl rfl)
theorem dX9_advance_220 : decode cX9_advance 220 = .ok (.aload_n 0, 1) := dk_42 (dk_at dksX9_advance_9 10 rfl rfl)
theorem dX9_advance_221 : decode cX9_advance 221 = .ok (.getfield 31, 3) := dk_180 0 31 (dk_at dksX9_advance_9 11 rfl rfl)
theorem dX9_advance_224 : decode cX9_advance 224 = .ok (.aload_n 0, 1) := dk_42 (dk_at dksX9_advance_9 14 rfl rfl)
theorem dX9_advance_225 : decode cX9_advance 225 = .ok (.getfield 35, 3) := dk_180 0 35 (dk_at dksX9_advance_9 15 rfl rfl)
theorem dX9_advance_228 : decode cX9_advance 228 = .ok (.baload, 1) := dk_51 (dk_at dksX9_advance_9 18 rfl rfl)
theorem dX9_advance_229 : decode cX9_advance 229 = .ok (.iadd, 1) := dk_96 (dk_at dksX9_advance_9 19 rfl rfl)
theorem dX9_advance_230 : decode cX9_advance 230 = .ok (.bipush 48, 2) := dk_16 48 (dk_at dksX9_advance_9 20 rfl rfl)
theorem dX9_advance_232 : decode cX9_advance 232 = .ok (.isub, 1) := dk_100 (dk_at dksX9_advance_9 22 rfl rfl)
theorem dX9_advance_233 : decode cX9_advance 233 = .ok (.invokestatic 77, 3) := dk_184 0 77 (dk_at dksX9_advance_10 0 rfl rfl)
theorem dX9_advance_236 : decode cX9_advance 236 = .ok (.putfield 73, 3) := dk_181 0 73 (dk_at dksX9_advance_10 3 rfl rfl)
theorem dX9_advance_239 : decode cX9_advance 239 = .ok (.aload_n 0, 1) := dk_42 (dk_at dksX9_advance_10 6 rfl rfl)
theorem dX9_advance_240 : decode cX9_advance 240 = .ok (.dup, 1) := dk_89 (dk_at dksX9_advance_10 7 rfl rfl)
theorem dX9_advance_241 : decode cX9_advance 241 = .ok (.getfield 35, 3) := dk_180 0 35 (dk_at dksX9_advance_10 8 rfl rfl)
theorem dX9_advance_244 : decode cX9_advance 244 = .ok (.iconst 1, 1) := dk_4 (dk_at dksX9_advance_10 11 rfl rfl)
theorem dX9_advance_245 : decode cX9_advance 245 = .ok (.iadd, 1) := dk_96 (dk_at dksX9_advance_10 12 rfl rfl)
theorem dX9_advance_246 : decode cX9_advance 246 = .ok (.putfield 35, 3) := dk_181 0 35 (dk_at dksX9_advance_10 13 rfl rfl)
theorem dX9_advance_249 : decode cX9_advance 249 = .ok (.goto (-50), 3) := dk_167 255 206 (dk_at dksX9_advance_10 16 rfl rfl)
theorem dX9_advance_252 : decode cX9_advance 252 = .ok (.aload_n 0, 1) := dk_42 (dk_at dksX9_advance_10 19 rfl rfl)
theorem dX9_advance_253 : decode cX9_advance 253 = .ok (.aload_n 0, 1) := dk_42 (dk_at dksX9_advance_10 20 rfl rfl)
theorem dX9_advance_254 : decode cX9_advance 254 = .ok (.getfield 35, 3) := dk_180 0 35 (dk_at dksX9_advance_10 21 rfl rfl)
theorem dX9_advance_257 : decode cX9_advance 257 = .ok (.aload_n 0, 1) := dk_42 (dk_at dksX9_advance_11 0 rfl rfl)
theorem dX9_advance_258 : decode cX9_advance 258 = .ok (.getfield 47, 3) := dk_180 0 47 (dk_at dksX9_advance_11 1 rfl rfl)
theorem dX9_advance_261 : decode cX9_advance 261 = .ok (.isub, 1) := dk_100 (dk_at dksX9_advance_11 4 rfl rfl)
theorem dX9_advance_262 : decode cX9_advance 262 = .ok (.iconst 4, 1) := dk_7 (dk_at dksX9_advance_11 5 rfl rfl)
theorem dX9_advance_263 : decode cX9_advance 263 = .ok (.if_icmp .le 7, 3) := dk_164 0 7 (dk_at dksX9_advance_11 6 rfl rfl)
theorem dX9_advance_266 : decode cX9_advance 266 = .ok (.iconst 1, 1) := dk_4 (dk_at dksX9_advance_11 9 rfl rfl)
theorem dX9_advance_267 : decode cX9_advance 267 = .ok (.goto 4, 3) := dk_167 0 4 (dk_at dksX9_advance_11 10 rfl rfl)
theorem dX9_advance_270 : decode cX9_advance 270 = .ok (.iconst 3, 1) := dk_6 (dk_at dksX9_advance_11 13 rfl rfl)
theorem dX9_advance_271 : decode cX9_advance 271 = .ok (.putfield 50, 3) := dk_181 0 50 (dk_at dksX9_advance_11 14 rfl rfl)
theorem dX9_advance_274 : decode cX9_advance 274 = .ok (.goto 33, 3) := dk_167 0 33 (dk_at dksX9_advance_11 17 rfl rfl)
theorem dX9_advance_277 : decode cX9_advance 277 = .ok (.aload_n 0, 1) := dk_42 (dk_at dksX9_advance_11 20 rfl rfl)
theorem dX9_advance_278 : decode cX9_advance 278 = .ok (.aload_n 0, 1) := dk_42 (dk_at dksX9_advance_11 21 rfl rfl)
theorem dX9_advance_279 : decode cX9_advance 279 = .ok (.bipush 59, 2) := dk_16 59 (dk_at dksX9_advance_11 22 rfl rfl)
theorem dX9_advance_281 : decode cX9_advance 281 = .ok (.bipush 59, 2) := dk_16 59 (dk_at dksX9_advance_12 0 rfl rfl)
theorem dX9_advance_283 : decode cX9_advance 283 = .ok (.invokevirtual 43, 3) := dk_182 0 43 (dk_at dksX9_advance_12 2 rfl rfl)
theorem dX9_advance_286 : decode cX9_advance 286 = .ok (.ifCond .eq 7, 3) := dk_153 0 7 (dk_at dksX9_advance_12 5 rfl rfl)
theorem dX9_advance_289 : decode cX9_advance 289 = .ok (.iconst 4, 1) := dk_7 (dk_at dksX9_advance_12 8 rfl rfl)
theorem dX9_advance_290 : decode cX9_advance 290 = .ok (.goto 4, 3) := dk_167 0 4 (dk_at dksX9_advance_12 9 rfl rfl)
theorem dX9_advance_293 : decode cX9_advance 293 = .ok (.iconst 1, 1) := dk_4 (dk_at dksX9_advance_12 12 rfl rfl)
theorem dX9_advance_294 : decode cX9_advance 294 = .ok (.putfield 50, 3) := dk_181 0 50 (dk_at dksX9_advance_12 13 rfl rfl)
theorem dX9_advance_297 : decode cX9_advance 297 = .ok (.aload_n 0, 1) := dk_42 (dk_at dksX9_advance_12 16 rfl rfl)
theorem dX9_advance_298 : decode cX9_advance 298 = .ok (.dup, 1) := dk_89 (dk_at dksX9_advance_12 17 rfl rfl)
theorem dX9_advance_299 : decode cX9_advance 299 = .ok (.getfield 35, 3) := dk_180 0 35 (dk_at dksX9_advance_12 18 rfl rfl)
theorem dX9_advance_302 : decode cX9_advance 302 = .ok (.iconst 1, 1) := dk_4 (dk_at dksX9_advance_12 21 rfl rfl)
theorem dX9_advance_303 : decode cX9_advance 303 = .ok (.iadd, 1) := dk_96 (dk_at dksX9_advance_12 22 rfl rfl)
theorem dX9_advance_304 : decode cX9_advance 304 = .ok (.putfield 35, 3) := dk_181 0 35 (dk_at dksX9_advance_13 0 rfl rfl)
theorem dX9_advance_307 : decode cX9_advance 307 = .ok (.return_, 1) := dk_177 (dk_at dksX9_advance_13 3 rfl rfl)
abbrev cX9_isNext : ByteArray := prog_7_method_2_code
def yX9_isNext : MethodName := ⟨RX9, "isNext", "(II)Z"⟩
def dkwX9_isNext_1 : List UInt8 := [28, 133, 184, 0, 39, 153, 0, 7, 4, 167, 0, 4, 3, 172]
abbrev dktX9_isNext_1 : List UInt8 := dkwX9_isNext_1 ++ []
def dkwX9_isNext_0 : List UInt8 := [42, 180, 0, 35, 42, 180, 0, 31, 190, 162, 0, 27, 42, 180, 0, 31, 42, 180, 0, 35, 51, 133, 27, 133]
abbrev dktX9_isNext_0 : List UInt8 := dkwX9_isNext_0 ++ dktX9_isNext_1
theorem dksX9_isNext_0 : cX9_isNext.data.toList.drop 0 = dktX9_isNext_0 := by decide +kernel
theorem dksX9_isNext_1 : cX9_isNext.data.toList.drop 24 = dktX9_isNext_1 := dk_seg dksX9_isNext_0 24 rfl rfl
theorem dX9_isNext_0 : decode cX9_isNext 0 = .ok (.aload_n 0, 1) := dk_42 (dk_at dksX9_isNext_0 0 rfl rfl)
theorem dX9_isNext_1 : decode cX9_isNext 1 = .ok (.getfield 35, 3) := dk_180 0 35 (dk_at dksX9_isNext_0 1 rfl rfl)
theorem dX9_isNext_4 : decode cX9_isNext 4 = .ok (.aload_n 0, 1) := dk_42 (dk_at dksX9_isNext_0 4 rfl rfl)
theorem dX9_isNext_5 : decode cX9_isNext 5 = .ok (.getfield 31, 3) := dk_180 0 31 (dk_at dksX9_isNext_0 5 rfl rfl)
theorem dX9_isNext_8 : decode cX9_isNext 8 = .ok (.arraylength, 1) := dk_190 (dk_at dksX9_isNext_0 8 rfl rfl)
theorem dX9_isNext_9 : decode cX9_isNext 9 = .ok (.if_icmp .ge 27, 3) := dk_162 0 27 (dk_at dksX9_isNext_0 9 rfl rfl)
theorem dX9_isNext_12 : decode cX9_isNext 12 = .ok (.aload_n 0, 1) := dk_42 (dk_at dksX9_isNext_0 12 rfl rfl)
theorem dX9_isNext_13 : decode cX9_isNext 13 = .ok (.getfield 31, 3) := dk_180 0 31 (dk_at dksX9_isNext_0 13 rfl rfl)
theorem dX9_isNext_16 : decode cX9_isNext 16 = .ok (.aload_n 0, 1) := dk_42 (dk_at dksX9_isNext_0 16 rfl rfl)
theorem dX9_isNext_17 : decode cX9_isNext 17 = .ok (.getfield 35, 3) := dk_180 0 35 (dk_at dksX9_isNext_0 17 rfl rfl)
theorem dX9_isNext_20 : decode cX9_isNext 20 = .ok (.baload, 1) := dk_51 (dk_at dksX9_isNext_0 20 rfl rfl)
theorem dX9_isNext_21 : decode cX9_isNext 21 = .ok (.i2l, 1) := dk_133 (dk_at dksX9_isNext_0 21 rfl rfl)
theorem dX9_isNext_22 : decode cX9_isNext 22 = .ok (.iload_n 1, 1) := dk_27 (dk_at dksX9_isNext_0 22 rfl rfl)
theorem dX9_isNext_23 : decode cX9_isNext 23 = .ok (.i2l, 1) := dk_133 (dk_at dksX9_isNext_0 23 rfl rfl)
theorem dX9_isNext_24 : decode cX9_isNext 24 = .ok (.iload_n 2, 1) := dk_28 (dk_at dksX9_isNext_1 0 rfl rfl)
theorem dX9_isNext_25 : decode cX9_isNext 25 = .ok (.i2l, 1) := dk_133 (dk_at dksX9_isNext_1 1 rfl rfl)
theorem dX9_isNext_26 : decode cX9_isNext 26 = .ok (.invokestatic 39, 3) := dk_184 0 39 (dk_at dksX9_isNext_1 2 rfl rfl)
theorem dX9_isNext_29 : decode cX9_isNext 29 = .ok (.ifCond .eq 7, 3) := dk_153 0 7 (dk_at dksX9_isNext_1 5 rfl rfl)
theorem dX9_isNext_32 : decode cX9_isNext 32 = .ok (.iconst 1, 1) := dk_4 (dk_at dksX9_isNext_1 8 rfl rfl)
theorem dX9_isNext_33 : decode cX9_isNext 33 = .ok (.goto 4, 3) := dk_167 0 4 (dk_at dksX9_isNext_1 9 rfl rfl)
theorem dX9_isNext_36 : decode cX9_isNext 36 = .ok (.iconst 0, 1) := dk_3 (dk_at dksX9_isNext_1 12 rfl rfl)
theorem dX9_isNext_37 : decode cX9_isNext 37 = .ok (.ireturn, 1) := dk_172 (dk_at dksX9_isNext_1 13 rfl rfl)
abbrev cX9_require : ByteArray := prog_7_method_4_code
def yX9_require : MethodName := ⟨RX9, "require", "(Z)V"⟩
def dkwX9_require_0 : List UInt8 := [27, 154, 0, 15, 187, 0, 83, 89, 42, 180, 0, 47, 183, 0, 85, 191, 177]
abbrev dktX9_require_0 : List UInt8 := dkwX9_require_0 ++ []
theorem dksX9_require_0 : cX9_require.data.toList.drop 0 = dktX9_require_0 := by decide +kernel
theorem dX9_require_0 : decode cX9_require 0 = .ok (.iload_n 1, 1) := dk_27 (dk_at dksX9_require_0 0 rfl rfl)
theorem dX9_require_1 : decode cX9_require 1 = .ok (.ifCond .ne 15, 3) := dk_154 0 15 (dk_at dksX9_require_0 1 rfl rfl)
theorem dX9_require_4 : decode cX9_require 4 = .ok (.new 83, 3) := dk_187 0 83 (dk_at dksX9_require_0 4 rfl rfl)
theorem dX9_require_7 : decode cX9_require 7 = .ok (.dup, 1) := dk_89 (dk_at dksX9_require_0 7 rfl rfl)
theorem dX9_require_8 : decode cX9_require 8 = .ok (.aload_n 0, 1) := dk_42 (dk_at dksX9_require_0 8 rfl rfl)
theorem dX9_require_9 : decode cX9_require 9 = .ok (.getfield 47, 3) := dk_180 0 47 (dk_at dksX9_require_0 9 rfl rfl)
theorem dX9_require_12 : decode cX9_require 12 = .ok (.invokespecial 85, 3) := dk_183 0 85 (dk_at dksX9_require_0 12 rfl rfl)
theorem dX9_require_15 : decode cX9_require 15 = .ok (.athrow, 1) := dk_191 (dk_at dksX9_require_0 15 rfl rfl)
theorem dX9_require_16 : decode cX9_require 16 = .ok (.return_, 1) := dk_177 (dk_at dksX9_require_0 16 rfl rfl)
abbrev cX9_statement : ByteArray := prog_7_method_9_code
def yX9_statement : MethodName := ⟨RX9, "statement", "()V"⟩
def dkwX9_statement_11 : List UInt8 := [184, 0, 166, 21, 4, 184, 0, 170, 182, 0, 173, 79, 177]
abbrev dktX9_statement_11 : List UInt8 := dkwX9_statement_11 ++ []
def dkwX9_statement_10 : List UInt8 := [167, 0, 4, 3, 182, 0, 86, 42, 182, 0, 90, 42, 180, 0, 19, 180, 0, 162, 21, 4, 42, 21, 4]
abbrev dktX9_statement_10 : List UInt8 := dkwX9_statement_10 ++ dktX9_statement_11
def dkwX9_statement_9 : List UInt8 := [182, 0, 90, 167, 0, 55, 42, 180, 0, 27, 184, 0, 158, 54, 4, 42, 21, 4, 2, 159, 0, 7, 4]
abbrev dktX9_statement_9 : List UInt8 := dkwX9_statement_9 ++ dktX9_statement_10
def dkwX9_statement_8 : List UInt8 := [29, 2, 159, 0, 7, 4, 167, 0, 4, 3, 182, 0, 86, 42, 180, 0, 19, 29, 181, 0, 156, 42]
abbrev dktX9_statement_8 : List UInt8 := dkwX9_statement_8 ++ dktX9_statement_9
def dkwX9_statement_7 : List UInt8 := [182, 0, 90, 42, 180, 0, 50, 5, 160, 0, 13, 42, 180, 0, 27, 184, 0, 150, 167, 0, 4, 2, 62, 42]
abbrev dktX9_statement_7 : List UInt8 := dkwX9_statement_7 ++ dktX9_statement_8
def dkwX9_statement_6 : List UInt8 := [42, 182, 0, 141, 167, 0, 122, 42, 182, 0, 144, 167, 0, 115, 42, 182, 0, 147, 167, 0, 108, 42]
abbrev dktX9_statement_6 : List UInt8 := dkwX9_statement_6 ++ dktX9_statement_7
def dkwX9_statement_5 : List UInt8 := [170, 0, 0, 0, 0, 104, 0, 0, 0, 0, 0, 0, 0, 3, 0, 0, 0, 30, 0, 0, 0, 37, 0, 0, 0, 44, 0, 0, 0, 51]
abbrev dktX9_statement_5 : List UInt8 := dkwX9_statement_5 ++ dktX9_statement_6
def dkwX9_statement_4 : List UInt8 := [153, 0, 5, 6, 61, 28]
abbrev dktX9_statement_4 : List UInt8 := dkwX9_statement_4 ++ dktX9_statement_5
def dkwX9_statement_3 : List UInt8 := [61, 167, 0, 28, 43, 18, 137, 182, 0, 109, 153, 0, 19, 5, 61, 167, 0, 14, 43, 18, 139, 182, 0, 109]
abbrev dktX9_statement_3 : List UInt8 := dkwX9_statement_3 ++ dktX9_statement_4
def dkwX9_statement_2 : List UInt8 := [43, 18, 133, 182, 0, 109, 153, 0, 47, 3, 61, 167, 0, 42, 43, 18, 135, 182, 0, 109, 153, 0, 33, 4]
abbrev dktX9_statement_2 : List UInt8 := dkwX9_statement_2 ++ dktX9_statement_3
def dkwX9_statement_1 : List UInt8 := [171, 0, 0, 0, 94, 0, 0, 0, 4, 197, 109, 165, 50, 0, 0, 0, 83, 237, 141, 204, 239, 0, 0, 0, 41, 0, 55, 146, 249, 0, 0, 0, 55, 5, 146, 215, 58, 0, 0, 0, 69]
abbrev dktX9_statement_1 : List UInt8 := dkwX9_statement_1 ++ dktX9_statement_2
def dkwX9_statement_0 : List UInt8 := [42, 180, 0, 27, 76, 2, 61, 43, 182, 0, 116]
abbrev dktX9_statement_0 : List UInt8 := dkwX9_statement_0 ++ dktX9_statement_1
theorem dksX9_statement_0 : cX9_statement.data.toList.drop 0 = dktX9_statement_0 := by decide +kernel
theorem dksX9_statement_1 : cX9_statement.data.toList.drop 11 = dktX9_statement_1 := dk_seg dksX9_statement_0 11 rfl rfl
theorem dksX9_statement_2 : cX9_statement.data.toList.drop 52 = dktX9_statement_2 := dk_seg dksX9_statement_1 41 rfl rfl
theorem dksX9_statement_3 : cX9_statement.data.toList.drop 76 = dktX9_statement_3 := dk_seg dksX9_statement_2 24 rfl rfl
theorem dksX9_statement_4 : cX9_statement.data.toList.drop 100 = dktX9_statement_4 := dk_seg dksX9_statement_3 24 rfl rfl
theorem dksX9_statement_5 : cX9_statement.data.toList.drop 106 = dktX9_statement_5 := dk_seg dksX9_statement_4 6 rfl rfl
theorem dksX9_statement_6 : cX9_statement.data.toList.drop 136 = dktX9_statement_6 := dk_seg dksX9_statement_5 30 rfl rfl
theorem dksX9_statement_7 : cX9_statement.data.toList.drop 158 = dktX9_statement_7 := dk_seg dksX9_statement_6 22 rfl rfl
theorem dksX9_statement_8 : cX9_statement.data.toList.drop 182 = dktX9_statement_8 := dk_seg dksX9_statement_7 24 rfl rfl
theorem dksX9_statement_9 : cX9_statement.data.toList.drop 204 = dktX9_statement_9 := dk_seg dksX9_statement_8 22 rfl rfl
theorem dksX9_statement_10 : cX9_statement.data.toList.drop 227 = dktX9_statement_10 := dk_seg dksX9_statement_9 23 rfl rfl
theorem dksX9_statement_11 : cX9_statement.data.toList.drop 250 = dktX9_statement_11 := dk_seg dksX9_statement_10 23 rfl rfl
theorem dX9_statement_0 : decode cX9_statement 0 = .ok (.aload_n 0, 1) := dk_42 (dk_at dksX9_statement_0 0 rfl rfl)
theorem dX9_statement_1 : decode cX9_statement 1 = .ok (.getfield 27, 3) := dk_180 0 27 (dk_at dksX9_statement_0 1 rfl rfl)
theorem dX9_statement_4 : decode cX9_statement 4 = .ok (.astore_n 1, 1) := dk_76 (dk_at dksX9_statement_0 4 rfl rfl)
theorem dX9_statement_5 : decode cX9_statement 5 = .ok (.iconst (-1), 1) := dk_2 (dk_at dksX9_statement_0 5 rfl rfl)
theorem dX9_statement_6 : decode cX9_statement 6 = .ok (.istore_n 2, 1) := dk_61 (dk_at dksX9_statement_0 6 rfl rfl)
theorem dX9_statement_7 : decode cX9_statement 7 = .ok (.aload_n 1, 1) := dk_43 (dk_at dksX9_statement_0 7 rfl rfl)
theorem dX9_statement_8 : decode cX9_statement 8 = .ok (.invokevirtual 116, 3) := dk_182 0 116 (dk_at dksX9_statement_0 8 rfl rfl)
theorem dX9_statement_11 : decode cX9_statement 11 = .ok (.lookupswitch 94 #[(-982670030, 83), (-309474065, 41), (3642105, 55), (93509434, 69)], 41) := by decide +kernel
theorem dX9_statement_52 : decode cX9_statement 52 = .ok (.aload_n 1, 1) := dk_43 (dk_at dksX9_statement_2 0 rfl rfl)
theorem dX9_statement_53 : decode cX9_statement 53 = .ok (.ldc 133, 2) := dk_18 133 (dk_at dksX9_statement_2 1 rfl rfl)
theorem dX9_statement_55 : decode cX9_statement 55 = .ok (.invokevirtual 109, 3) := dk_182 0 109 (dk_at dksX9_statement_2 3 rfl rfl)
theorem dX9_statement_58 : decode cX9_statement 58 = .ok (.ifCond .eq 47, 3) := dk_153 0 47 (dk_at dksX9_statement_2 6 rfl rfl)
theorem dX9_statement_61 : decode cX9_statement 61 = .ok (.iconst 0, 1) := dk_3 (dk_at dksX9_statement_2 9 rfl rfl)
theorem dX9_statement_62 : decode cX9_statement 62 = .ok (.istore_n 2, 1) := dk_61 (dk_at dksX9_statement_2 10 rfl rfl)
theorem dX9_statement_63 : decode cX9_statement 63 = .ok (.goto 42, 3) := dk_167 0 42 (dk_at dksX9_statement_2 11 rfl rfl)
theorem dX9_statement_66 : decode cX9_statement 66 = .ok (.aload_n 1, 1) := dk_43 (dk_at dksX9_statement_2 14 rfl rfl)
theorem dX9_statement_67 : decode cX9_statement 67 = .ok (.ldc 135, 2) := dk_18 135 (dk_at dksX9_statement_2 15 rfl rfl)
theorem dX9_statement_69 : decode cX9_statement 69 = .ok (.invokevirtual 109, 3) := dk_182 0 109 (dk_at dksX9_statement_2 17 rfl rfl)
theorem dX9_statement_72 : decode cX9_statement 72 = .ok (.ifCond .eq 33, 3) := dk_153 0 33 (dk_at dksX9_statement_2 20 rfl rfl)
theorem dX9_statement_75 : decode cX9_statement 75 = .ok (.iconst 1, 1) := dk_4 (dk_at dksX9_statement_2 23 rfl rfl)
theorem dX9_statement_76 : decode cX9_statement 76 = .ok (.istore_n 2, 1) := dk_61 (dk_at dksX9_statement_3 0 rfl rfl)
theorem dX9_statement_77 : decode cX9_statement 77 = .ok (.goto 28, 3) := dk_167 0 28 (dk_at dksX9_statement_3 1 rfl rfl)
theorem dX9_statement_80 : decode cX9_statement 80 = .ok (.aload_n 1, 1) := dk_43 (dk_at dksX9_statement_3 4 rfl rfl)
theorem dX9_statement_81 : decode cX9_statement 81 = .ok (.ldc 137, 2) := dk_18 137 (dk_at dksX9_statement_3 5 rfl rfl)
theorem dX9_statement_83 : decode cX9_statement 83 = .ok (.invokevirtual 109, 3) := dk_182 0 109 (dk_at dksX9_statement_3 7 rfl rfl)
theorem dX9_statement_86 : decode cX9_statement 86 = .ok (.ifCond .eq 19, 3) := dk_153 0 19 (dk_at dksX9_statement_3 10 rfl rfl)
theorem dX9_statement_89 : decode cX9_statement 89 = .ok (.iconst 2, 1) := dk_5 (dk_at dksX9_statement_3 13 rfl rfl)
theorem dX9_statement_90 : decode cX9_statement 90 = .ok (.istore_n 2, 1) := dk_61 (dk_at dksX9_statement_3 14 rfl rfl)
theorem dX9_statement_91 : decode cX9_statement 91 = .ok (.goto 14, 3) := dk_167 0 14 (dk_at dksX9_statement_3 15 rfl rfl)
theorem dX9_statement_94 : decode cX9_statement 94 = .ok (.aload_n 1, 1) := dk_43 (dk_at dksX9_statement_3 18 rfl rfl)
theorem dX9_statement_95 : decode cX9_statement 95 = .ok (.ldc 139, 2) := dk_18 139 (dk_at dksX9_statement_3 19 rfl rfl)
theorem dX9_statement_97 : decode cX9_statement 97 = .ok (.invokevirtual 109, 3) := dk_182 0 109 (dk_at dksX9_statement_3 21 rfl rfl)
theorem dX9_statement_100 : decode cX9_statement 100 = .ok (.ifCond .eq 5, 3) := dk_153 0 5 (dk_at dksX9_statement_4 0 rfl rfl)
theorem dX9_statement_103 : decode cX9_statement 103 = .ok (.iconst 3, 1) := dk_6 (dk_at dksX9_statement_4 3 rfl rfl)
theorem dX9_statement_104 : decode cX9_statement 104 = .ok (.istore_n 2, 1) := dk_61 (dk_at dksX9_statement_4 4 rfl rfl)
theorem dX9_statement_105 : decode cX9_statement 105 = .ok (.iload_n 2, 1) := dk_28 (dk_at dksX9_statement_4 5 rfl rfl)
theorem dX9_statement_106 : decode cX9_statement 106 = .ok (.tableswitch 104 0 3 #[30, 37, 44, 51], 30) := by decide +kernel
theorem dX9_statement_136 : decode cX9_statement 136 = .ok (.aload_n 0, 1) := dk_42 (dk_at dksX9_statement_6 0 rfl rfl)
theorem dX9_statement_137 : decode cX9_statement 137 = .ok (.invokevirtual 141, 3) := dk_182 0 141 (dk_at dksX9_statement_6 1 rfl rfl)
theorem dX9_statement_140 : decode cX9_statement 140 = .ok (.goto 122, 3) := dk_167 0 122 (dk_at dksX9_statement_6 4 rfl rfl)
theorem dX9_statement_143 : decode cX9_statement 143 = .ok (.aload_n 0, 1) := dk_42 (dk_at dksX9_statement_6 7 rfl rfl)
theorem dX9_statement_144 : decode cX9_statement 144 = .ok (.invokevirtual 144, 3) := dk_182 0 144 (dk_at dksX9_statement_6 8 rfl rfl)
theorem dX9_statement_147 : decode cX9_statement 147 = .ok (.goto 115, 3) := dk_167 0 115 (dk_at dksX9_statement_6 11 rfl rfl)
theorem dX9_statement_150 : decode cX9_statement 150 = .ok (.aload_n 0, 1) := dk_42 (dk_at dksX9_statement_6 14 rfl rfl)
theorem dX9_statement_151 : decode cX9_statement 151 = .ok (.invokevirtual 147, 3) := dk_182 0 147 (dk_at dksX9_statement_6 15 rfl rfl)
theorem dX9_statement_154 : decode cX9_statement 154 = .ok (.goto 108, 3) := dk_167 0 108 (dk_at dksX9_statement_6 18 rfl rfl)
theorem dX9_statement_157 : decode cX9_statement 157 = .ok (.aload_n 0, 1) := dk_42 (dk_at dksX9_statement_6 21 rfl rfl)
theorem dX9_statement_158 : decode cX9_statement 158 = .ok (.invokevirtual 90, 3) := dk_182 0 90 (dk_at dksX9_statement_7 0 rfl rfl)
theorem dX9_statement_161 : decode cX9_statement 161 = .ok (.aload_n 0, 1) := dk_42 (dk_at dksX9_statement_7 3 rfl rfl)
theorem dX9_statement_162 : decode cX9_statement 162 = .ok (.getfield 50, 3) := dk_180 0 50 (dk_at dksX9_statement_7 4 rfl rfl)
theorem dX9_statement_165 : decode cX9_statement 165 = .ok (.iconst 2, 1) := dk_5 (dk_at dksX9_statement_7 7 rfl rfl)
theorem dX9_statement_166 : decode cX9_statement 166 = .ok (.if_icmp .ne 13, 3) := dk_160 0 13 (dk_at dksX9_statement_7 8 rfl rfl)
theorem dX9_statement_169 : decode cX9_statement 169 = .ok (.aload_n 0, 1) := dk_42 (dk_at dksX9_statement_7 11 rfl rfl)
theorem dX9_statement_170 : decode cX9_statement 170 = .ok (.getfield 27, 3) := dk_180 0 27 (dk_at dksX9_statement_7 12 rfl rfl)
theorem dX9_statement_173 : decode cX9_statement 173 = .ok (.invokestatic 150, 3) := dk_184 0 150 (dk_at dksX9_statement_7 15 rfl rfl)
theorem dX9_statement_176 : decode cX9_statement 176 = .ok (.goto 4, 3) := dk_167 0 4 (dk_at dksX9_statement_7 18 rfl rfl)
theorem dX9_statement_179 : decode cX9_statement 179 = .ok (.iconst (-1), 1) := dk_2 (dk_at dksX9_statement_7 21 rfl rfl)
theorem dX9_statement_180 : decode cX9_statement 180 = .ok (.istore_n 3, 1) := dk_62 (dk_at dksX9_statement_7 22 rfl rfl)
theorem dX9_statement_181 : decode cX9_statement 181 = .ok (.aload_n 0, 1) := dk_42 (dk_at dksX9_statement_7 23 rfl rfl)
theorem dX9_statement_182 : decode cX9_statement 182 = .ok (.iload_n 3, 1) := dk_29 (dk_at dksX9_statement_8 0 rfl rfl)
theorem dX9_statement_183 : decode cX9_statement 183 = .ok (.iconst (-1), 1) := dk_2 (dk_at dksX9_statement_8 1 rfl rfl)
theorem dX9_statement_184 : decode cX9_statement 184 = .ok (.if_icmp .eq 7, 3) := dk_159 0 7 (dk_at dksX9_statement_8 2 rfl rfl)
theorem dX9_statement_187 : decode cX9_statement 187 = .ok (.iconst 1, 1) := dk_4 (dk_at dksX9_statement_8 5 rfl rfl)
theorem dX9_statement_188 : decode cX9_statement 188 = .ok (.goto 4, 3) := dk_167 0 4 (dk_at dksX9_statement_8 6 rfl rfl)
theorem dX9_statement_191 : decode cX9_statement 191 = .ok (.iconst 0, 1) := dk_3 (dk_at dksX9_statement_8 9 rfl rfl)
theorem dX9_statement_192 : decode cX9_statement 192 = .ok (.invokevirtual 86, 3) := dk_182 0 86 (dk_at dksX9_statement_8 10 rfl rfl)
theorem dX9_statement_195 : decode cX9_statement 195 = .ok (.aload_n 0, 1) := dk_42 (dk_at dksX9_statement_8 13 rfl rfl)
theorem dX9_statement_196 : decode cX9_statement 196 = .ok (.getfield 19, 3) := dk_180 0 19 (dk_at dksX9_statement_8 14 rfl rfl)
theorem dX9_statement_199 : decode cX9_statement 199 = .ok (.iload_n 3, 1) := dk_29 (dk_at dksX9_statement_8 17 rfl rfl)
theorem dX9_statement_200 : decode cX9_statement 200 = .ok (.putfield 156, 3) := dk_181 0 156 (dk_at dksX9_statement_8 18 rfl rfl)
theorem dX9_statement_203 : decode cX9_statement 203 = .ok (.aload_n 0, 1) := dk_42 (dk_at dksX9_statement_8 21 rfl rfl)
theorem dX9_statement_204 : decode cX9_statement 204 = .ok (.invokevirtual 90, 3) := dk_182 0 90 (dk_at dksX9_statement_9 0 rfl rfl)
theorem dX9_statement_207 : decode cX9_statement 207 = .ok (.goto 55, 3) := dk_167 0 55 (dk_at dksX9_statement_9 3 rfl rfl)
theorem dX9_statement_210 : decode cX9_statement 210 = .ok (.aload_n 0, 1) := dk_42 (dk_at dksX9_statement_9 6 rfl rfl)
theorem dX9_statement_211 : decode cX9_statement 211 = .ok (.getfield 27, 3) := dk_180 0 27 (dk_at dksX9_statement_9 7 rfl rfl)
theorem dX9_statement_214 : decode cX9_statement 214 = .ok (.invokestatic 158, 3) := dk_184 0 158 (dk_at dksX9_statement_9 10 rfl rfl)
theorem dX9_statement_217 : decode cX9_statement 217 = .ok (.istore 4, 2) := dk_54 4 (dk_at dksX9_statement_9 13 rfl rfl)
theorem dX9_statement_219 : decode cX9_statement 219 = .ok (.aload_n 0, 1) := dk_42 (dk_at dksX9_statement_9 15 rfl rfl)
theorem dX9_statement_220 : decode cX9_statement 220 = .ok (.iload 4, 2) := dk_21 4 (dk_at dksX9_statement_9 16 rfl rfl)
theorem dX9_statement_222 : decode cX9_statement 222 = .ok (.iconst (-1), 1) := dk_2 (dk_at dksX9_statement_9 18 rfl rfl)
theorem dX9_statement_223 : decode cX9_statement 223 = .ok (.if_icmp .eq 7, 3) := dk_159 0 7 (dk_at dksX9_statement_9 19 rfl rfl)
theorem dX9_statement_226 : decode cX9_statement 226 = .ok (.iconst 1, 1) := dk_4 (dk_at dksX9_statement_9 22 rfl rfl)
theorem dX9_statement_227 : decode cX9_statement 227 = .ok (.goto 4, 3) := dk_167 0 4 (dk_at dksX9_statement_10 0 rfl rfl)
theorem dX9_statement_230 : decode cX9_statement 230 = .ok (.iconst 0, 1) := dk_3 (dk_at dksX9_statement_10 3 rfl rfl)
theorem dX9_statement_231 : decode cX9_statement 231 = .ok (.invokevirtual 86, 3) := dk_182 0 86 (dk_at dksX9_statement_10 4 rfl rfl)
theorem dX9_statement_234 : decode cX9_statement 234 = .ok (.aload_n 0, 1) := dk_42 (dk_at dksX9_statement_10 7 rfl rfl)
theorem dX9_statement_235 : decode cX9_statement 235 = .ok (.invokevirtual 90, 3) := dk_182 0 90 (dk_at dksX9_statement_10 8 rfl rfl)
theorem dX9_statement_238 : decode cX9_statement 238 = .ok (.aload_n 0, 1) := dk_42 (dk_at dksX9_statement_10 11 rfl rfl)
theorem dX9_statement_239 : decode cX9_statement 239 = .ok (.getfield 19, 3) := dk_180 0 19 (dk_at dksX9_statement_10 12 rfl rfl)
theorem dX9_statement_242 : decode cX9_statement 242 = .ok (.getfield 162, 3) := dk_180 0 162 (dk_at dksX9_statement_10 15 rfl rfl)
theorem dX9_statement_245 : decode cX9_statement 245 = .ok (.iload 4, 2) := dk_21 4 (dk_at dksX9_statement_10 18 rfl rfl)
theorem dX9_statement_247 : decode cX9_statement 247 = .ok (.aload_n 0, 1) := dk_42 (dk_at dksX9_statement_10 20 rfl rfl)
theorem dX9_statement_248 : decode cX9_statement 248 = .ok (.iload 4, 2) := dk_21 4 (dk_at dksX9_statement_10 21 rfl rfl)
theorem dX9_statement_250 : decode cX9_statement 250 = .ok (.invokestatic 166, 3) := dk_184 0 166 (dk_at dksX9_statement_11 0 rfl rfl)
theorem dX9_statement_253 : decode cX9_statement 253 = .ok (.iload 4, 2) := dk_21 4 (dk_at dksX9_statement_11 3 rfl rfl)
theorem dX9_statement_255 : decode cX9_statement 255 = .ok (.invokestatic 170, 3) := dk_184 0 170 (dk_at dksX9_statement_11 5 rfl rfl)
theorem dX9_statement_258 : decode cX9_statement 258 = .ok (.invokevirtual 173, 3) := dk_182 0 173 (dk_at dksX9_statement_11 8 rfl rfl)
theorem dX9_statement_261 : decode cX9_statement 261 = .ok (.iastore, 1) := dk_79 (dk_at dksX9_statement_11 11 rfl rfl)
theorem dX9_statement_262 : decode cX9_statement 262 = .ok (.return_, 1) := dk_177 (dk_at dksX9_statement_11 12 rfl rfl)
abbrev cX9_addProduct : ByteArray := prog_7_method_10_code
def yX9_addProduct : MethodName := ⟨RX9, "addProduct", "()V"⟩
def dkwX9_addProduct_6 : List UInt8 := [183, 0, 178, 182, 0, 181, 87, 177]
abbrev dktX9_addProduct_6 : List UInt8 := dkwX9_addProduct_6 ++ []
def dkwX9_addProduct_5 : List UInt8 := [187, 0, 104, 89, 43, 28, 29, 21, 4, 21, 5, 21, 6, 42, 16, 100, 17, 1, 44, 182, 0, 173]
abbrev dktX9_addProduct_5 : List UInt8 := dkwX9_addProduct_5 ++ dktX9_addProduct_6
def dkwX9_addProduct_4 : List UInt8 := [16, 120, 182, 0, 173, 54, 5, 42, 4, 16, 120, 182, 0, 173, 54, 6, 42, 180, 0, 19, 180, 0, 93]
abbrev dktX9_addProduct_4 : List UInt8 := dkwX9_addProduct_4 ++ dktX9_addProduct_5
def dkwX9_addProduct_3 : List UInt8 := [182, 0, 173, 61, 42, 4, 16, 60, 182, 0, 173, 62, 42, 4, 17, 0, 240, 182, 0, 173, 54, 4, 42, 3]
abbrev dktX9_addProduct_3 : List UInt8 := dkwX9_addProduct_3 ++ dktX9_addProduct_4
def dkwX9_addProduct_2 : List UInt8 := [160, 0, 7, 4, 167, 0, 4, 3, 182, 0, 86, 42, 180, 0, 27, 76, 42, 182, 0, 90, 42, 3, 16, 9]
abbrev dktX9_addProduct_2 : List UInt8 := dkwX9_addProduct_2 ++ dktX9_addProduct_3
def dkwX9_addProduct_1 : List UInt8 := [42, 182, 0, 90, 42, 42, 180, 0, 50, 5, 160, 0, 19, 42, 42, 180, 0, 27, 182, 0, 175, 2]
abbrev dktX9_addProduct_1 : List UInt8 := dkwX9_addProduct_1 ++ dktX9_addProduct_2
def dkwX9_addProduct_0 : List UInt8 := [42, 42, 180, 0, 19, 180, 0, 93, 182, 0, 97, 16, 8, 162, 0, 7, 4, 167, 0, 4, 3, 182, 0, 86]
abbrev dktX9_addProduct_0 : List UInt8 := dkwX9_addProduct_0 ++ dktX9_addProduct_1
theorem dksX9_addProduct_0 : cX9_addProduct.data.toList.drop 0 = dktX9_addProduct_0 := by decide +kernel
theorem dksX9_addProduct_1 : cX9_addProduct.data.toList.drop 24 = dktX9_addProduct_1 := dk_seg dksX9_addProduct_0 24 rfl rfl
theorem dksX9_addProduct_2 : cX9_addProduct.data.toList.drop 46 = dktX9_addProduct_2 := dk_seg dksX9_addProduct_1 22 rfl rfl
theorem dksX9_addProduct_3 : cX9_addProduct.data.toList.drop 70 = dktX9_addProduct_3 := dk_seg dksX9_addProduct_2 24 rfl rfl
theorem dksX9_addProduct_4 : cX9_addProduct.data.toList.drop 94 = dktX9_addProduct_4 := dk_seg dksX9_addProduct_3 24 rfl rfl
theorem dksX9_addProduct_5 : cX9_addProduct.data.toList.drop 117 = dktX9_addProduct_5 := dk_seg dksX9_addProduct_4 23 rfl rfl
theorem dksX9_addProduct_6 : cX9_addProduct.data.toList.drop 139 = dktX9_addProduct_6 := dk_seg dksX9_addProduct_5 22 rfl rfl
theorem dX9_addProduct_0 : decode cX9_addProduct 0 = .ok (.aload_n 0, 1) := dk_42 (dk_at dksX9_addProduct_0 0 rfl rfl)
theorem dX9_addProduct_1 : decode cX9_addProduct 1 = .ok (.aload_n 0, 1) := dk_42 (dk_at dksX9_addProduct_0 1 rfl rfl)
theorem dX9_addProduct_2 : decode cX9_addProduct 2 = .ok (.getfield 19, 3) := dk_180 0 19 (dk_at dksX9_addProduct_0 2 rfl rfl)
theorem dX9_addProduct_5 : decode cX9_addProduct 5 = .ok (.getfield 93, 3) := dk_180 0 93 (dk_at dksX9_addProduct_0 5 rfl rfl)
theorem dX9_addProduct_8 : decode cX9_addProduct 8 = .ok (.invokevirtual 97, 3) := dk_182 0 97 (dk_at dksX9_addProduct_0 8 rfl rfl)
theorem dX9_addProduct_11 : decode cX9_addProduct 11 = .ok (.bipush 8, 2) := dk_16 8 (dk_at dksX9_addProduct_0 11 rfl rfl)
theorem dX9_addProduct_13 : decode cX9_addProduct 13 = .ok (.if_icmp .ge 7, 3) := dk_162 0 7 (dk_at dksX9_addProduct_0 13 rfl rfl)
theorem dX9_addProduct_16 : decode cX9_addProduct 16 = .ok (.iconst 1, 1) := dk_4 (dk_at dksX9_addProduct_0 16 rfl rfl)
theorem dX9_addProduct_17 : decode cX9_addProduct 17 = .ok (.goto 4, 3) := dk_167 0 4 (dk_at dksX9_addProduct_0 17 rfl rfl)
theorem dX9_addProduct_20 : decode cX9_addProduct 20 = .ok (.iconst 0, 1) := dk_3 (dk_at dksX9_addProduct_0 20 rfl rfl)
theorem dX9_addProduct_21 : decode cX9_addProduct 21 = .ok (.invokevirtual 86, 3) := dk_182 0 86 (dk_at dksX9_addProduct_0 21 rfl rfl)
theorem dX9_addProduct_24 : decode cX9_addProduct 24 = .ok (.aload_n 0, 1) := dk_42 (dk_at dksX9_addProduct_1 0 rfl rfl)
theorem dX9_addProduct_25 : decode cX9_addProduct 25 = .ok (.invokevirtual 90, 3) := dk_182 0 90 (dk_at dksX9_addProduct_1 1 rfl rfl)
theorem dX9_addProduct_28 : decode cX9_addProduct 28 = .ok (.aload_n 0, 1) := dk_42 (dk_at dksX9_addProduct_1 4 rfl rfl)
theorem dX9_addProduct_29 : decode cX9_addProduct 29 = .ok (.aload_n 0, 1) := dk_42 (dk_at dksX9_addProduct_1 5 rfl rfl)
theorem dX9_addProduct_30 : decode cX9_addProduct 30 = .ok (.getfield 50, 3) := dk_180 0 50 (dk_at dksX9_addProduct_1 6 rfl rfl)
theorem dX9_addProduct_33 : decode cX9_addProduct 33 = .ok (.iconst 2, 1) := dk_5 (dk_at dksX9_addProduct_1 9 rfl rfl)
theorem dX9_addProduct_34 : decode cX9_addProduct 34 = .ok (.if_icmp .ne 19, 3) := dk_160 0 19 (dk_at dksX9_addProduct_1 10 rfl rfl)
theorem dX9_addProduct_37 : decode cX9_addProduct 37 = .ok (.aload_n 0, 1) := dk_42 (dk_at dksX9_addProduct_1 13 rfl rfl)
theorem dX9_addProduct_38 : decode cX9_addProduct 38 = .ok (.aload_n 0, 1) := dk_42 (dk_at dksX9_addProduct_1 14 rfl rfl)
theorem dX9_addProduct_39 : decode cX9_addProduct 39 = .ok (.getfield 27, 3) := dk_180 0 27 (dk_at dksX9_addProduct_1 15 rfl rfl)
theorem dX9_addProduct_42 : decode cX9_addProduct 42 = .ok (.invokevirtual 175, 3) := dk_182 0 175 (dk_at dksX9_addProduct_1 18 rfl rfl)
theorem dX9_addProduct_45 : decode cX9_addProduct 45 = .ok (.iconst (-1), 1) := dk_2 (dk_at dksX9_addProduct_1 21 rfl rfl)
theorem dX9_addProduct_46 : decode cX9_addProduct 46 = .ok (.if_icmp .ne 7, 3) := dk_160 0 7 (dk_at dksX9_addProduct_2 0 rfl rfl)
theorem dX9_addProduct_49 : decode cX9_addProduct 49 = .ok (.iconst 1, 1) := dk_4 (dk_at dksX9_addProduct_2 3 rfl rfl)
theorem dX9_addProduct_50 : decode cX9_addProduct 50 = .ok (.goto 4, 3) := dk_167 0 4 (dk_at dksX9_addProduct_2 4 rfl rfl)
theorem dX9_addProduct_53 : decode cX9_addProduct 53 = .ok (.iconst 0, 1) := dk_3 (dk_at dksX9_addProduct_2 7 rfl rfl)
theorem dX9_addProduct_54 : decode cX9_addProduct 54 = .ok (.invokevirtual 86, 3) := dk_182 0 86 (dk_at dksX9_addProduct_2 8 rfl rfl)
theorem dX9_addProduct_57 : decode cX9_addProduct 57 = .ok (.aload_n 0, 1) := dk_42 (dk_at dksX9_addProduct_2 11 rfl rfl)
theorem dX9_addProduct_58 : decode cX9_addProduct 58 = .ok (.getfield 27, 3) := dk_180 0 27 (dk_at dksX9_addProduct_2 12 rfl rfl)
theorem dX9_addProduct_61 : decode cX9_addProduct 61 = .ok (.astore_n 1, 1) := dk_76 (dk_at dksX9_addProduct_2 15 rfl rfl)
theorem dX9_addProduct_62 : decode cX9_addProduct 62 = .ok (.aload_n 0, 1) := dk_42 (dk_at dksX9_addProduct_2 16 rfl rfl)
theorem dX9_addProduct_63 : decode cX9_addProduct 63 = .ok (.invokevirtual 90, 3) := dk_182 0 90 (dk_at dksX9_addProduct_2 17 rfl rfl)
theorem dX9_addProduct_66 : decode cX9_addProduct 66 = .ok (.aload_n 0, 1) := dk_42 (dk_at dksX9_addProduct_2 20 rfl rfl)
theorem dX9_addProduct_67 : decode cX9_addProduct 67 = .ok (.iconst 0, 1) := dk_3 (dk_at dksX9_addProduct_2 21 rfl rfl)
theorem dX9_addProduct_68 : decode cX9_addProduct 68 = .ok (.bipush 9, 2) := dk_16 9 (dk_at dksX9_addProduct_2 22 rfl rfl)
theorem dX9_addProduct_70 : decode cX9_addProduct 70 = .ok (.invokevirtual 173, 3) := dk_182 0 173 (dk_at dksX9_addProduct_3 0 rfl rfl)
theorem dX9_addProduct_73 : decode cX9_addProduct 73 = .ok (.istore_n 2, 1) := dk_61 (dk_at dksX9_addProduct_3 3 rfl rfl)
theorem dX9_addProduct_74 : decode cX9_addProduct 74 = .ok (.aload_n 0, 1) := dk_42 (dk_at dksX9_addProduct_3 4 rfl rfl)
theorem dX9_addProduct_75 : decode cX9_addProduct 75 = .ok (.iconst 1, 1) := dk_4 (dk_at dksX9_addProduct_3 5 rfl rfl)
theorem dX9_addProduct_76 : decode cX9_addProduct 76 = .ok (.bipush 60, 2) := dk_16 60 (dk_at dksX9_addProduct_3 6 rfl rfl)
theorem dX9_addProduct_78 : decode cX9_addProduct 78 = .ok (.invokevirtual 173, 3) := dk_182 0 173 (dk_at dksX9_addProduct_3 8 rfl rfl)
theorem dX9_addProduct_81 : decode cX9_addProduct 81 = .ok (.istore_n 3, 1) := dk_62 (dk_at dksX9_addProduct_3 11 rfl rfl)
theorem dX9_addProduct_82 : decode cX9_addProduct 82 = .ok (.aload_n 0, 1) := dk_42 (dk_at dksX9_addProduct_3 12 rfl rfl)
theorem dX9_addProduct_83 : decode cX9_addProduct 83 = .ok (.iconst 1, 1) := dk_4 (dk_at dksX9_addProduct_3 13 rfl rfl)
theorem dX9_addProduct_84 : decode cX9_addProduct 84 = .ok (.sipush 240, 3) := dk_17 0 240 (dk_at dksX9_addProduct_3 14 rfl rfl)
theorem dX9_addProduct_87 : decode cX9_addProduct 87 = .ok (.invokevirtual 173, 3) := dk_182 0 173 (dk_at dksX9_addProduct_3 17 rfl rfl)
theorem dX9_addProduct_90 : decode cX9_addProduct 90 = .ok (.istore 4, 2) := dk_54 4 (dk_at dksX9_addProduct_3 20 rfl rfl)
theorem dX9_addProduct_92 : decode cX9_addProduct 92 = .ok (.aload_n 0, 1) := dk_42 (dk_at dksX9_addProduct_3 22 rfl rfl)
theorem dX9_addProduct_93 : decode cX9_addProduct 93 = .ok (.iconst 0, 1) := dk_3 (dk_at dksX9_addProduct_3 23 rfl rfl)
theorem dX9_addProduct_94 : decode cX9_addProduct 94 = .ok (.bipush 120, 2) := dk_16 120 (dk_at dksX9_addProduct_4 0 rfl rfl)
theorem dX9_addProduct_96 : decode cX9_addProduct 96 = .ok (.invokevirtual 173, 3) := dk_182 0 173 (dk_at dksX9_addProduct_4 2 rfl rfl)
theorem dX9_addProduct_99 : decode cX9_addProduct 99 = .ok (.istore 5, 2) := dk_54 5 (dk_at dksX9_addProduct_4 5 rfl rfl)
theorem dX9_addProduct_101 : decode cX9_addProduct 101 = .ok (.aload_n 0, 1) := dk_42 (dk_at dksX9_addProduct_4 7 rfl rfl)
theorem dX9_addProduct_102 : decode cX9_addProduct 102 = .ok (.iconst 1, 1) := dk_4 (dk_at dksX9_addProduct_4 8 rfl rfl)
theorem dX9_addProduct_103 : decode cX9_addProduct 103 = .ok (.bipush 120, 2) := dk_16 120 (dk_at dksX9_addProduct_4 9 rfl rfl)
theorem dX9_addProduct_105 : decode cX9_addProduct 105 = .ok (.invokevirtual 173, 3) := dk_182 0 173 (dk_at dksX9_addProduct_4 11 rfl rfl)
theorem dX9_addProduct_108 : decode cX9_addProduct 108 = .ok (.istore 6, 2) := dk_54 6 (dk_at dksX9_addProduct_4 14 rfl rfl)
theorem dX9_addProduct_110 : decode cX9_addProduct 110 = .ok (.aload_n 0, 1) := dk_42 (dk_at dksX9_addProduct_4 16 rfl rfl)
theorem dX9_addProduct_111 : decode cX9_addProduct 111 = .ok (.getfield 19, 3) := dk_180 0 19 (dk_at dksX9_addProduct_4 17 rfl rfl)
theorem dX9_addProduct_114 : decode cX9_addProduct 114 = .ok (.getfield 93, 3) := dk_180 0 93 (dk_at dksX9_addProduct_4 20 rfl rfl)
theorem dX9_addProduct_117 : decode cX9_addProduct 117 = .ok (.new 104, 3) := dk_187 0 104 (dk_at dksX9_addProduct_5 0 rfl rfl)
theorem dX9_addProduct_120 : decode cX9_addProduct 120 = .ok (.dup, 1) := dk_89 (dk_at dksX9_addProduct_5 3 rfl rfl)
theorem dX9_addProduct_121 : decode cX9_addProduct 121 = .ok (.aload_n 1, 1) := dk_43 (dk_at dksX9_addProduct_5 4 rfl rfl)
theorem dX9_addProduct_122 : decode cX9_addProduct 122 = .ok (.iload_n 2, 1) := dk_28 (dk_at dksX9_addProduct_5 5 rfl rfl)
theorem dX9_addProduct_123 : decode cX9_addProduct 123 = .ok (.iload_n 3, 1) := dk_29 (dk_at dksX9_addProduct_5 6 rfl rfl)
theorem dX9_addProduct_124 : decode cX9_addProduct 124 = .ok (.iload 4, 2) := dk_21 4 (dk_at dksX9_addProduct_5 7 rfl rfl)
theorem dX9_addProduct_126 : decode cX9_addProduct 126 = .ok (.iload 5, 2) := dk_21 5 (dk_at dksX9_addProduct_5 9 rfl rfl)
theorem dX9_addProduct_128 : decode cX9_addProduct 128 = .ok (.iload 6, 2) := dk_21 6 (dk_at dksX9_addProduct_5 11 rfl rfl)
theorem dX9_addProduct_130 : decode cX9_addProduct 130 = .ok (.aload_n 0, 1) := dk_42 (dk_at dksX9_addProduct_5 13 rfl rfl)
theorem dX9_addProduct_131 : decode cX9_addProduct 131 = .ok (.bipush 100, 2) := dk_16 100 (dk_at dksX9_addProduct_5 14 rfl rfl)
theorem dX9_addProduct_133 : decode cX9_addProduct 133 = .ok (.sipush 300, 3) := dk_17 1 44 (dk_at dksX9_addProduct_5 16 rfl rfl)
theorem dX9_addProduct_136 : decode cX9_addProduct 136 = .ok (.invokevirtual 173, 3) := dk_182 0 173 (dk_at dksX9_addProduct_5 19 rfl rfl)
theorem dX9_addProduct_139 : decode cX9_addProduct 139 = .ok (.invokespecial 178, 3) := dk_183 0 178 (dk_at dksX9_addProduct_6 0 rfl rfl)
theorem dX9_addProduct_142 : decode cX9_addProduct 142 = .ok (.invokevirtual 181, 3) := dk_182 0 181 (dk_at dksX9_addProduct_6 3 rfl rfl)
theorem dX9_addProduct_145 : decode cX9_addProduct 145 = .ok (.pop, 1) := dk_87 (dk_at dksX9_addProduct_6 6 rfl rfl)
theorem dX9_addProduct_146 : decode cX9_addProduct 146 = .ok (.return_, 1) := dk_177 (dk_at dksX9_addProduct_6 7 rfl rfl)
abbrev cX9_productNamed : ByteArray := prog_7_method_6_code
def yX9_productNamed : MethodName := ⟨RX9, "productNamed", "(Ljava/lang/String;)I"⟩
def dkwX9_productNamed_2 : List UInt8 := [2, 172]
abbrev dktX9_productNamed_2 : List UInt8 := dkwX9_productNamed_2 ++ []
def dkwX9_productNamed_1 : List UInt8 := [182, 0, 100, 192, 0, 104, 180, 0, 106, 43, 182, 0, 109, 153, 0, 5, 28, 172, 132, 2, 1, 167, 255, 213]
abbrev dktX9_productNamed_1 : List UInt8 := dkwX9_productNamed_1 ++ dktX9_productNamed_2
def dkwX9_productNamed_0 : List UInt8 := [3, 61, 28, 42, 180, 0, 19, 180, 0, 93, 182, 0, 97, 162, 0, 35, 42, 180, 0, 19, 180, 0, 93, 28]
abbrev dktX9_productNamed_0 : List UInt8 := dkwX9_productNamed_0 ++ dktX9_productNamed_1
theorem dksX9_productNamed_0 : cX9_productNamed.data.toList.drop 0 = dktX9_productNamed_0 := by decide +kernel
theorem dksX9_productNamed_1 : cX9_productNamed.data.toList.drop 24 = dktX9_productNamed_1 := dk_seg dksX9_productNamed_0 24 rfl rfl
theorem dksX9_productNamed_2 : cX9_productNamed.data.toList.drop 48 = dktX9_productNamed_2 := dk_seg dksX9_productNamed_1 24 rfl rfl
theorem dX9_productNamed_0 : decode cX9_productNamed 0 = .ok (.iconst 0, 1) := dk_3 (dk_at dksX9_productNamed_0 0 rfl rfl)
theorem dX9_productNamed_1 : decode cX9_productNamed 1 = .ok (.istore_n 2, 1) := dk_61 (dk_at dksX9_productNamed_0 1 rfl rfl)
theorem dX9_productNamed_2 : decode cX9_productNamed 2 = .ok (.iload_n 2, 1) := dk_28 (dk_at dksX9_productNamed_0 2 rfl rfl)
theorem dX9_productNamed_3 : decode cX9_productNamed 3 = .ok (.aload_n 0, 1) := dk_42 (dk_at dksX9_productNamed_0 3 rfl rfl)
theorem dX9_productNamed_4 : decode cX9_productNamed 4 = .ok (.getfield 19, 3) := dk_180 0 19 (dk_at dksX9_productNamed_0 4 rfl rfl)
theorem dX9_productNamed_7 : decode cX9_productNamed 7 = .ok (.getfield 93, 3) := dk_180 0 93 (dk_at dksX9_productNamed_0 7 rfl rfl)
theorem dX9_productNamed_10 : decode cX9_productNamed 10 = .ok (.invokevirtual 97, 3) := dk_182 0 97 (dk_at dksX9_productNamed_0 10 rfl rfl)
theorem dX9_productNamed_13 : decode cX9_productNamed 13 = .ok (.if_icmp .ge 35, 3) := dk_162 0 35 (dk_at dksX9_productNamed_0 13 rfl rfl)
theorem dX9_productNamed_16 : decode cX9_productNamed 16 = .ok (.aload_n 0, 1) := dk_42 (dk_at dksX9_productNamed_0 16 rfl rfl)
theorem dX9_productNamed_17 : decode cX9_productNamed 17 = .ok (.getfield 19, 3) := dk_180 0 19 (dk_at dksX9_productNamed_0 17 rfl rfl)
theorem dX9_productNamed_20 : decode cX9_productNamed 20 = .ok (.getfield 93, 3) := dk_180 0 93 (dk_at dksX9_productNamed_0 20 rfl rfl)
theorem dX9_productNamed_23 : decode cX9_productNamed 23 = .ok (.iload_n 2, 1) := dk_28 (dk_at dksX9_productNamed_0 23 rfl rfl)
theorem dX9_productNamed_24 : decode cX9_productNamed 24 = .ok (.invokevirtual 100, 3) := dk_182 0 100 (dk_at dksX9_productNamed_1 0 rfl rfl)
theorem dX9_productNamed_27 : decode cX9_productNamed 27 = .ok (.checkcast 104, 3) := dk_192 0 104 (dk_at dksX9_productNamed_1 3 rfl rfl)
theorem dX9_productNamed_30 : decode cX9_productNamed 30 = .ok (.getfield 106, 3) := dk_180 0 106 (dk_at dksX9_productNamed_1 6 rfl rfl)
theorem dX9_productNamed_33 : decode cX9_productNamed 33 = .ok (.aload_n 1, 1) := dk_43 (dk_at dksX9_productNamed_1 9 rfl rfl)
theorem dX9_productNamed_34 : decode cX9_productNamed 34 = .ok (.invokevirtual 109, 3) := dk_182 0 109 (dk_at dksX9_productNamed_1 10 rfl rfl)
theorem dX9_productNamed_37 : decode cX9_productNamed 37 = .ok (.ifCond .eq 5, 3) := dk_153 0 5 (dk_at dksX9_productNamed_1 13 rfl rfl)
theorem dX9_productNamed_40 : decode cX9_productNamed 40 = .ok (.iload_n 2, 1) := dk_28 (dk_at dksX9_productNamed_1 16 rfl rfl)
theorem dX9_productNamed_41 : decode cX9_productNamed 41 = .ok (.ireturn, 1) := dk_172 (dk_at dksX9_productNamed_1 17 rfl rfl)
theorem dX9_productNamed_42 : decode cX9_productNamed 42 = .ok (.iinc 2 1, 3) := dk_132 2 1 (dk_at dksX9_productNamed_1 18 rfl rfl)
theorem dX9_productNamed_45 : decode cX9_productNamed 45 = .ok (.goto (-43), 3) := dk_167 255 213 (dk_at dksX9_productNamed_1 21 rfl rfl)
theorem dX9_productNamed_48 : decode cX9_productNamed 48 = .ok (.iconst (-1), 1) := dk_2 (dk_at dksX9_productNamed_2 0 rfl rfl)
theorem dX9_productNamed_49 : decode cX9_productNamed 49 = .ok (.ireturn, 1) := dk_172 (dk_at dksX9_productNamed_2 1 rfl rfl)
abbrev cX9_number : ByteArray := prog_7_method_5_code
def yX9_number : MethodName := ⟨RX9, "number", "(II)I"⟩
def dkwX9_number_1 : List UInt8 := [4, 167, 0, 4, 3, 182, 0, 86, 42, 180, 0, 73, 62, 42, 182, 0, 90, 29, 172]
abbrev dktX9_number_1 : List UInt8 := dkwX9_number_1 ++ []
def dkwX9_number_0 : List UInt8 := [42, 42, 180, 0, 50, 6, 160, 0, 22, 42, 180, 0, 73, 133, 27, 133, 28, 133, 184, 0, 39, 153, 0, 7]
abbrev dktX9_number_0 : List UInt8 := dkwX9_number_0 ++ dktX9_number_1
theorem dksX9_number_0 : cX9_number.data.toList.drop 0 = dktX9_number_0 := by decide +kernel
theorem dksX9_number_1 : cX9_number.data.toList.drop 24 = dktX9_number_1 := dk_seg dksX9_number_0 24 rfl rfl
theorem dX9_number_0 : decode cX9_number 0 = .ok (.aload_n 0, 1) := dk_42 (dk_at dksX9_number_0 0 rfl rfl)
theorem dX9_number_1 : decode cX9_number 1 = .ok (.aload_n 0, 1) := dk_42 (dk_at dksX9_number_0 1 rfl rfl)
theorem dX9_number_2 : decode cX9_number 2 = .ok (.getfield 50, 3) := dk_180 0 50 (dk_at dksX9_number_0 2 rfl rfl)
theorem dX9_number_5 : decode cX9_number 5 = .ok (.iconst 3, 1) := dk_6 (dk_at dksX9_number_0 5 rfl rfl)
theorem dX9_number_6 : decode cX9_number 6 = .ok (.if_icmp .ne 22, 3) := dk_160 0 22 (dk_at dksX9_number_0 6 rfl rfl)
theorem dX9_number_9 : decode cX9_number 9 = .ok (.aload_n 0, 1) := dk_42 (dk_at dksX9_number_0 9 rfl rfl)
theorem dX9_number_10 : decode cX9_number 10 = .ok (.getfield 73, 3) := dk_180 0 73 (dk_at dksX9_number_0 10 rfl rfl)
theorem dX9_number_13 : decode cX9_number 13 = .ok (.i2l, 1) := dk_133 (dk_at dksX9_number_0 13 rfl rfl)
theorem dX9_number_14 : decode cX9_number 14 = .ok (.iload_n 1, 1) := dk_27 (dk_at dksX9_number_0 14 rfl rfl)
theorem dX9_number_15 : decode cX9_number 15 = .ok (.i2l, 1) := dk_133 (dk_at dksX9_number_0 15 rfl rfl)
theorem dX9_number_16 : decode cX9_number 16 = .ok (.iload_n 2, 1) := dk_28 (dk_at dksX9_number_0 16 rfl rfl)
theorem dX9_number_17 : decode cX9_number 17 = .ok (.i2l, 1) := dk_133 (dk_at dksX9_number_0 17 rfl rfl)
theorem dX9_number_18 : decode cX9_number 18 = .ok (.invokestatic 39, 3) := dk_184 0 39 (dk_at dksX9_number_0 18 rfl rfl)
theorem dX9_number_21 : decode cX9_number 21 = .ok (.ifCond .eq 7, 3) := dk_153 0 7 (dk_at dksX9_number_0 21 rfl rfl)
theorem dX9_number_24 : decode cX9_number 24 = .ok (.iconst 1, 1) := dk_4 (dk_at dksX9_number_1 0 rfl rfl)
theorem dX9_number_25 : decode cX9_number 25 = .ok (.goto 4, 3) := dk_167 0 4 (dk_at dksX9_number_1 1 rfl rfl)
theorem dX9_number_28 : decode cX9_number 28 = .ok (.iconst 0, 1) := dk_3 (dk_at dksX9_number_1 4 rfl rfl)
theorem dX9_number_29 : decode cX9_number 29 = .ok (.invokevirtual 86, 3) := dk_182 0 86 (dk_at dksX9_number_1 5 rfl rfl)
theorem dX9_number_32 : decode cX9_number 32 = .ok (.aload_n 0, 1) := dk_42 (dk_at dksX9_number_1 8 rfl rfl)
theorem dX9_number_33 : decode cX9_number 33 = .ok (.getfield 73, 3) := dk_180 0 73 (dk_at dksX9_number_1 9 rfl rfl)
theorem dX9_number_36 : decode cX9_number 36 = .ok (.istore_n 3, 1) := dk_62 (dk_at dksX9_number_1 12 rfl rfl)
theorem dX9_number_37 : decode cX9_number 37 = .ok (.aload_n 0, 1) := dk_42 (dk_at dksX9_number_1 13 rfl rfl)
theorem dX9_number_38 : decode cX9_number 38 = .ok (.invokevirtual 90, 3) := dk_182 0 90 (dk_at dksX9_number_1 14 rfl rfl)
theorem dX9_number_41 : decode cX9_number 41 = .ok (.iload_n 3, 1) := dk_29 (dk_at dksX9_number_1 17 rfl rfl)
theorem dX9_number_42 : decode cX9_number 42 = .ok (.ireturn, 1) := dk_172 (dk_at dksX9_number_1 18 rfl rfl)
abbrev cX9_addWave : ByteArray := prog_7_method_11_code
def yX9_addWave : MethodName := ⟨RX9, "addWave", "()V"⟩
def dkwX9_addWave_4 : List UInt8 := [181, 0, 184, 177]
abbrev dktX9_addWave_4 : List UInt8 := dkwX9_addWave_4 ++ []
def dkwX9_addWave_3 : List UInt8 := [180, 0, 184, 42, 27, 17, 5, 159, 182, 0, 173, 79, 42, 180, 0, 19, 89, 180, 0, 184, 4, 96]
abbrev dktX9_addWave_3 : List UInt8 := dkwX9_addWave_3 ++ dktX9_addWave_4
def dkwX9_addWave_2 : List UInt8 := [42, 180, 0, 19, 180, 0, 184, 4, 100, 46, 4, 96, 60, 42, 180, 0, 19, 180, 0, 187, 42, 180, 0, 19]
abbrev dktX9_addWave_2 : List UInt8 := dkwX9_addWave_2 ++ dktX9_addWave_3
def dkwX9_addWave_1 : List UInt8 := [182, 0, 90, 42, 180, 0, 19, 180, 0, 184, 154, 0, 7, 3, 167, 0, 22, 42, 180, 0, 19, 180, 0, 187]
abbrev dktX9_addWave_1 : List UInt8 := dkwX9_addWave_1 ++ dktX9_addWave_2
def dkwX9_addWave_0 : List UInt8 := [42, 42, 180, 0, 19, 180, 0, 184, 16, 6, 162, 0, 7, 4, 167, 0, 4, 3, 182, 0, 86, 42]
abbrev dktX9_addWave_0 : List UInt8 := dkwX9_addWave_0 ++ dktX9_addWave_1
theorem dksX9_addWave_0 : cX9_addWave.data.toList.drop 0 = dktX9_addWave_0 := by decide +kernel
theorem dksX9_addWave_1 : cX9_addWave.data.toList.drop 22 = dktX9_addWave_1 := dk_seg dksX9_addWave_0 22 rfl rfl
theorem dksX9_addWave_2 : cX9_addWave.data.toList.drop 46 = dktX9_addWave_2 := dk_seg dksX9_addWave_1 24 rfl rfl
theorem dksX9_addWave_3 : cX9_addWave.data.toList.drop 70 = dktX9_addWave_3 := dk_seg dksX9_addWave_2 24 rfl rfl
theorem dksX9_addWave_4 : cX9_addWave.data.toList.drop 92 = dktX9_addWave_4 := dk_seg dksX9_addWave_3 22 rfl rfl
theorem dX9_addWave_0 : decode cX9_addWave 0 = .ok (.aload_n 0, 1) := dk_42 (dk_at dksX9_addWave_0 0 rfl rfl)
theorem dX9_addWave_1 : decode cX9_addWave 1 = .ok (.aload_n 0, 1) := dk_42 (dk_at dksX9_addWave_0 1 rfl rfl)
theorem dX9_addWave_2 : decode cX9_addWave 2 = .ok (.getfield 19, 3) := dk_180 0 19 (dk_at dksX9_addWave_0 2 rfl rfl)
theorem dX9_addWave_5 : decode cX9_addWave 5 = .ok (.getfield 184, 3) := dk_180 0 184 (dk_at dksX9_addWave_0 5 rfl rfl)
theorem dX9_addWave_8 : decode cX9_addWave 8 = .ok (.bipush 6, 2) := dk_16 6 (dk_at dksX9_addWave_0 8 rfl rfl)
theorem dX9_addWave_10 : decode cX9_addWave 10 = .ok (.if_icmp .ge 7, 3) := dk_162 0 7 (dk_at dksX9_addWave_0 10 rfl rfl)
theorem dX9_addWave_13 : decode cX9_addWave 13 = .ok (.iconst 1, 1) := dk_4 (dk_at dksX9_addWave_0 13 rfl rfl)
theorem dX9_addWave_14 : decode cX9_addWave 14 = .ok (.goto 4, 3) := dk_167 0 4 (dk_at dksX9_addWave_0 14 rfl rfl)
theorem dX9_addWave_17 : decode cX9_addWave 17 = .ok (.iconst 0, 1) := dk_3 (dk_at dksX9_addWave_0 17 rfl rfl)
theorem dX9_addWave_18 : decode cX9_addWave 18 = .ok (.invokevirtual 86, 3) := dk_182 0 86 (dk_at dksX9_addWave_0 18 rfl rfl)
theorem dX9_addWave_21 : decode cX9_addWave 21 = .ok (.aload_n 0, 1) := dk_42 (dk_at dksX9_addWave_0 21 rfl rfl)
theorem dX9_addWave_22 : decode cX9_addWave 22 = .ok (.invokevirtual 90, 3) := dk_182 0 90 (dk_at dksX9_addWave_1 0 rfl rfl)
theorem dX9_addWave_25 : decode cX9_addWave 25 = .ok (.aload_n 0, 1) := dk_42 (dk_at dksX9_addWave_1 3 rfl rfl)
theorem dX9_addWave_26 : decode cX9_addWave 26 = .ok (.getfield 19, 3) := dk_180 0 19 (dk_at dksX9_addWave_1 4 rfl rfl)
theorem dX9_addWave_29 : decode cX9_addWave 29 = .ok (.getfield 184, 3) := dk_180 0 184 (dk_at dksX9_addWave_1 7 rfl rfl)
theorem dX9_addWave_32 : decode cX9_addWave 32 = .ok (.ifCond .ne 7, 3) := dk_154 0 7 (dk_at dksX9_addWave_1 10 rfl rfl)
theorem dX9_addWave_35 : decode cX9_addWave 35 = .ok (.iconst 0, 1) := dk_3 (dk_at dksX9_addWave_1 13 rfl rfl)
theorem dX9_addWave_36 : decode cX9_addWave 36 = .ok (.goto 22, 3) := dk_167 0 22 (dk_at dksX9_addWave_1 14 rfl rfl)
theorem dX9_addWave_39 : decode cX9_addWave 39 = .ok (.aload_n 0, 1) := dk_42 (dk_at dksX9_addWave_1 17 rfl rfl)
theorem dX9_addWave_40 : decode cX9_addWave 40 = .ok (.getfield 19, 3) := dk_180 0 19 (dk_at dksX9_addWave_1 18 rfl rfl)
theorem dX9_addWave_43 : decode cX9_addWave 43 = .ok (.getfield 187, 3) := dk_180 0 187 (dk_at dksX9_addWave_1 21 rfl rfl)
theorem dX9_addWave_46 : decode cX9_addWave 46 = .ok (.aload_n 0, 1) := dk_42 (dk_at dksX9_addWave_2 0 rfl rfl)
theorem dX9_addWave_47 : decode cX9_addWave 47 = .ok (.getfield 19, 3) := dk_180 0 19 (dk_at dksX9_addWave_2 1 rfl rfl)
theorem dX9_addWave_50 : decode cX9_addWave 50 = .ok (.getfield 184, 3) := dk_180 0 184 (dk_at dksX9_addWave_2 4 rfl rfl)
theorem dX9_addWave_53 : decode cX9_addWave 53 = .ok (.iconst 1, 1) := dk_4 (dk_at dksX9_addWave_2 7 rfl rfl)
theorem dX9_addWave_54 : decode cX9_addWave 54 = .ok (.isub, 1) := dk_100 (dk_at dksX9_addWave_2 8 rfl rfl)
theorem dX9_addWave_55 : decode cX9_addWave 55 = .ok (.iaload, 1) := dk_46 (dk_at dksX9_addWave_2 9 rfl rfl)
theorem dX9_addWave_56 : decode cX9_addWave 56 = .ok (.iconst 1, 1) := dk_4 (dk_at dksX9_addWave_2 10 rfl rfl)
theorem dX9_addWave_57 : decode cX9_addWave 57 = .ok (.iadd, 1) := dk_96 (dk_at dksX9_addWave_2 11 rfl rfl)
theorem dX9_addWave_58 : decode cX9_addWave 58 = .ok (.istore_n 1, 1) := dk_60 (dk_at dksX9_addWave_2 12 rfl rfl)
theorem dX9_addWave_59 : decode cX9_addWave 59 = .ok (.aload_n 0, 1) := dk_42 (dk_at dksX9_addWave_2 13 rfl rfl)
theorem dX9_addWave_60 : decode cX9_addWave 60 = .ok (.getfield 19, 3) := dk_180 0 19 (dk_at dksX9_addWave_2 14 rfl rfl)
theorem dX9_addWave_63 : decode cX9_addWave 63 = .ok (.getfield 187, 3) := dk_180 0 187 (dk_at dksX9_addWave_2 17 rfl rfl)
theorem dX9_addWave_66 : decode cX9_addWave 66 = .ok (.aload_n 0, 1) := dk_42 (dk_at dksX9_addWave_2 20 rfl rfl)
theorem dX9_addWave_67 : decode cX9_addWave 67 = .ok (.getfield 19, 3) := dk_180 0 19 (dk_at dksX9_addWave_2 21 rfl rfl)
theorem dX9_addWave_70 : decode cX9_addWave 70 = .ok (.getfield 184, 3) := dk_180 0 184 (dk_at dksX9_addWave_3 0 rfl rfl)
theorem dX9_addWave_73 : decode cX9_addWave 73 = .ok (.aload_n 0, 1) := dk_42 (dk_at dksX9_addWave_3 3 rfl rfl)
theorem dX9_addWave_74 : decode cX9_addWave 74 = .ok (.iload_n 1, 1) := dk_27 (dk_at dksX9_addWave_3 4 rfl rfl)
theorem dX9_addWave_75 : decode cX9_addWave 75 = .ok (.sipush 1439, 3) := dk_17 5 159 (dk_at dksX9_addWave_3 5 rfl rfl)
theorem dX9_addWave_78 : decode cX9_addWave 78 = .ok (.invokevirtual 173, 3) := dk_182 0 173 (dk_at dksX9_addWave_3 8 rfl rfl)
theorem dX9_addWave_81 : decode cX9_addWave 81 = .ok (.iastore, 1) := dk_79 (dk_at dksX9_addWave_3 11 rfl rfl)
theorem dX9_addWave_82 : decode cX9_addWave 82 = .ok (.aload_n 0, 1) := dk_42 (dk_at dksX9_addWave_3 12 rfl rfl)
theorem dX9_addWave_83 : decode cX9_addWave 83 = .ok (.getfield 19, 3) := dk_180 0 19 (dk_at dksX9_addWave_3 13 rfl rfl)
theorem dX9_addWave_86 : decode cX9_addWave 86 = .ok (.dup, 1) := dk_89 (dk_at dksX9_addWave_3 16 rfl rfl)
theorem dX9_addWave_87 : decode cX9_addWave 87 = .ok (.getfield 184, 3) := dk_180 0 184 (dk_at dksX9_addWave_3 17 rfl rfl)
theorem dX9_addWave_90 : decode cX9_addWave 90 = .ok (.iconst 1, 1) := dk_4 (dk_at dksX9_addWave_3 20 rfl rfl)
theorem dX9_addWave_91 : decode cX9_addWave 91 = .ok (.iadd, 1) := dk_96 (dk_at dksX9_addWave_3 21 rfl rfl)
theorem dX9_addWave_92 : decode cX9_addWave 92 = .ok (.putfield 184, 3) := dk_181 0 184 (dk_at dksX9_addWave_4 0 rfl rfl)
theorem dX9_addWave_95 : decode cX9_addWave 95 = .ok (.return_, 1) := dk_177 (dk_at dksX9_addWave_4 3 rfl rfl)
abbrev cX9_addBatch : ByteArray := prog_7_method_12_code
def yX9_addBatch : MethodName := ⟨RX9, "addBatch", "()V"⟩
def dkwX9_addBatch_4 : List UInt8 := [180, 0, 184, 4, 100, 182, 0, 173, 183, 0, 195, 182, 0, 181, 87, 177]
abbrev dktX9_addBatch_4 : List UInt8 := dkwX9_addBatch_4 ++ []
def dkwX9_addBatch_3 : List UInt8 := [182, 0, 173, 61, 42, 180, 0, 19, 180, 0, 190, 187, 0, 193, 89, 27, 28, 42, 3, 42, 180, 0, 19]
abbrev dktX9_addBatch_3 : List UInt8 := dkwX9_addBatch_3 ++ dktX9_addBatch_4
def dkwX9_addBatch_2 : List UInt8 := [60, 42, 27, 2, 159, 0, 7, 4, 167, 0, 4, 3, 182, 0, 86, 42, 182, 0, 90, 42, 3, 17, 3, 231]
abbrev dktX9_addBatch_2 : List UInt8 := dkwX9_addBatch_2 ++ dktX9_addBatch_3
def dkwX9_addBatch_1 : List UInt8 := [42, 182, 0, 90, 42, 180, 0, 50, 5, 160, 0, 14, 42, 42, 180, 0, 27, 182, 0, 175, 167, 0, 4, 2]
abbrev dktX9_addBatch_1 : List UInt8 := dkwX9_addBatch_1 ++ dktX9_addBatch_2
def dkwX9_addBatch_0 : List UInt8 := [42, 42, 180, 0, 19, 180, 0, 190, 182, 0, 97, 16, 20, 162, 0, 7, 4, 167, 0, 4, 3, 182, 0, 86]
abbrev dktX9_addBatch_0 : List UInt8 := dkwX9_addBatch_0 ++ dktX9_addBatch_1
theorem dksX9_addBatch_0 : cX9_addBatch.data.toList.drop 0 = dktX9_addBatch_0 := by decide +kernel
theorem dksX9_addBatch_1 : cX9_addBatch.data.toList.drop 24 = dktX9_addBatch_1 := dk_seg dksX9_addBatch_0 24 rfl rfl
theorem dksX9_addBatch_2 : cX9_addBatch.data.toList.drop 48 = dktX9_addBatch_2 := dk_seg dksX9_addBatch_1 24 rfl rfl
theorem dksX9_addBatch_3 : cX9_addBatch.data.toList.drop 72 = dktX9_addBatch_3 := dk_seg dksX9_addBatch_2 24 rfl rfl
theorem dksX9_addBatch_4 : cX9_addBatch.data.toList.drop 95 = dktX9_addBatch_4 := dk_seg dksX9_addBatch_3 23 rfl rfl
theorem dX9_addBatch_0 : decode cX9_addBatch 0 = .ok (.aload_n 0, 1) := dk_42 (dk_at dksX9_addBatch_0 0 rfl rfl)
theorem dX9_addBatch_1 : decode cX9_addBatch 1 = .ok (.aload_n 0, 1) := dk_42 (dk_at dksX9_addBatch_0 1 rfl rfl)
theorem dX9_addBatch_2 : decode cX9_addBatch 2 = .ok (.getfield 19, 3) := dk_180 0 19 (dk_at dksX9_addBatch_0 2 rfl rfl)
theorem dX9_addBatch_5 : decode cX9_addBatch 5 = .ok (.getfield 190, 3) := dk_180 0 190 (dk_at dksX9_addBatch_0 5 rfl rfl)
theorem dX9_addBatch_8 : decode cX9_addBatch 8 = .ok (.invokevirtual 97, 3) := dk_182 0 97 (dk_at dksX9_addBatch_0 8 rfl rfl)
theorem dX9_addBatch_11 : decode cX9_addBatch 11 = .ok (.bipush 20, 2) := dk_16 20 (dk_at dksX9_addBatch_0 11 rfl rfl)
theorem dX9_addBatch_13 : decode cX9_addBatch 13 = .ok (.if_icmp .ge 7, 3) := dk_162 0 7 (dk_at dksX9_addBatch_0 13 rfl rfl)
theorem dX9_addBatch_16 : decode cX9_addBatch 16 = .ok (.iconst 1, 1) := dk_4 (dk_at dksX9_addBatch_0 16 rfl rfl)
theorem dX9_addBatch_17 : decode cX9_addBatch 17 = .ok (.goto 4, 3) := dk_167 0 4 (dk_at dksX9_addBatch_0 17 rfl rfl)
theorem dX9_addBatch_20 : decode cX9_addBatch 20 = .ok (.iconst 0, 1) := dk_3 (dk_at dksX9_addBatch_0 20 rfl rfl)
theorem dX9_addBatch_21 : decode cX9_addBatch 21 = .ok (.invokevirtual 86, 3) := dk_182 0 86 (dk_at dksX9_addBatch_0 21 rfl rfl)
theorem dX9_addBatch_24 : decode cX9_addBatch 24 = .ok (.aload_n 0, 1) := dk_42 (dk_at dksX9_addBatch_1 0 rfl rfl)
theorem dX9_addBatch_25 : decode cX9_addBatch 25 = .ok (.invokevirtual 90, 3) := dk_182 0 90 (dk_at dksX9_addBatch_1 1 rfl rfl)
theorem dX9_addBatch_28 : decode cX9_addBatch 28 = .ok (.aload_n 0, 1) := dk_42 (dk_at dksX9_addBatch_1 4 rfl rfl)
theorem dX9_addBatch_29 : decode cX9_addBatch 29 = .ok (.getfield 50, 3) := dk_180 0 50 (dk_at dksX9_addBatch_1 5 rfl rfl)
theorem dX9_addBatch_32 : decode cX9_addBatch 32 = .ok (.iconst 2, 1) := dk_5 (dk_at dksX9_addBatch_1 8 rfl rfl)
theorem dX9_addBatch_33 : decode cX9_addBatch 33 = .ok (.if_icmp .ne 14, 3) := dk_160 0 14 (dk_at dksX9_addBatch_1 9 rfl rfl)
theorem dX9_addBatch_36 : decode cX9_addBatch 36 = .ok (.aload_n 0, 1) := dk_42 (dk_at dksX9_addBatch_1 12 rfl rfl)
theorem dX9_addBatch_37 : decode cX9_addBatch 37 = .ok (.aload_n 0, 1) := dk_42 (dk_at dksX9_addBatch_1 13 rfl rfl)
theorem dX9_addBatch_38 : decode cX9_addBatch 38 = .ok (.getfield 27, 3) := dk_180 0 27 (dk_at dksX9_addBatch_1 14 rfl rfl)
theorem dX9_addBatch_41 : decode cX9_addBatch 41 = .ok (.invokevirtual 175, 3) := dk_182 0 175 (dk_at dksX9_addBatch_1 17 rfl rfl)
theorem dX9_addBatch_44 : decode cX9_addBatch 44 = .ok (.goto 4, 3) := dk_167 0 4 (dk_at dksX9_addBatch_1 20 rfl rfl)
theorem dX9_addBatch_47 : decode cX9_addBatch 47 = .ok (.iconst (-1), 1) := dk_2 (dk_at dksX9_addBatch_1 23 rfl rfl)
theorem dX9_addBatch_48 : decode cX9_addBatch 48 = .ok (.istore_n 1, 1) := dk_60 (dk_at dksX9_addBatch_2 0 rfl rfl)
theorem dX9_addBatch_49 : decode cX9_addBatch 49 = .ok (.aload_n 0, 1) := dk_42 (dk_at dksX9_addBatch_2 1 rfl rfl)
theorem dX9_addBatch_50 : decode cX9_addBatch 50 = .ok (.iload_n 1, 1) := dk_27 (dk_at dksX9_addBatch_2 2 rfl rfl)
theorem dX9_addBatch_51 : decode cX9_addBatch 51 = .ok (.iconst (-1), 1) := dk_2 (dk_at dksX9_addBatch_2 3 rfl rfl)
theorem dX9_addBatch_52 : decode cX9_addBatch 52 = .ok (.if_icmp .eq 7, 3) := dk_159 0 7 (dk_at dksX9_addBatch_2 4 rfl rfl)
theorem dX9_addBatch_55 : decode cX9_addBatch 55 = .ok (.iconst 1, 1) := dk_4 (dk_at dksX9_addBatch_2 7 rfl rfl)
theorem dX9_addBatch_56 : decode cX9_addBatch 56 = .ok (.goto 4, 3) := dk_167 0 4 (dk_at dksX9_addBatch_2 8 rfl rfl)
theorem dX9_addBatch_59 : decode cX9_addBatch 59 = .ok (.iconst 0, 1) := dk_3 (dk_at dksX9_addBatch_2 11 rfl rfl)
theorem dX9_addBatch_60 : decode cX9_addBatch 60 = .ok (.invokevirtual 86, 3) := dk_182 0 86 (dk_at dksX9_addBatch_2 12 rfl rfl)
theorem dX9_addBatch_63 : decode cX9_addBatch 63 = .ok (.aload_n 0, 1) := dk_42 (dk_at dksX9_addBatch_2 15 rfl rfl)
theorem dX9_addBatch_64 : decode cX9_addBatch 64 = .ok (.invokevirtual 90, 3) := dk_182 0 90 (dk_at dksX9_addBatch_2 16 rfl rfl)
theorem dX9_addBatch_67 : decode cX9_addBatch 67 = .ok (.aload_n 0, 1) := dk_42 (dk_at dksX9_addBatch_2 19 rfl rfl)
theorem dX9_addBatch_68 : decode cX9_addBatch 68 = .ok (.iconst 0, 1) := dk_3 (dk_at dksX9_addBatch_2 20 rfl rfl)
theorem dX9_addBatch_69 : decode cX9_addBatch 69 = .ok (.sipush 999, 3) := dk_17 3 231 (dk_at dksX9_addBatch_2 21 rfl rfl)
theorem dX9_addBatch_72 : decode cX9_addBatch 72 = .ok (.invokevirtual 173, 3) := dk_182 0 173 (dk_at dksX9_addBatch_3 0 rfl rfl)
theorem dX9_addBatch_75 : decode cX9_addBatch 75 = .ok (.istore_n 2, 1) := dk_61 (dk_at dksX9_addBatch_3 3 rfl rfl)
theorem dX9_addBatch_76 : decode cX9_addBatch 76 = .ok (.aload_n 0, 1) := dk_42 (dk_at dksX9_addBatch_3 4 rfl rfl)
theorem dX9_addBatch_77 : decode cX9_addBatch 77 = .ok (.getfield 19, 3) := dk_180 0 19 (dk_at dksX9_addBatch_3 5 rfl rfl)
theorem dX9_addBatch_80 : decode cX9_addBatch 80 = .ok (.getfield 190, 3) := dk_180 0 190 (dk_at dksX9_addBatch_3 8 rfl rfl)
theorem dX9_addBatch_83 : decode cX9_addBatch 83 = .ok (.new 193, 3) := dk_187 0 193 (dk_at dksX9_addBatch_3 11 rfl rfl)
theorem dX9_addBatch_86 : decode cX9_addBatch 86 = .ok (.dup, 1) := dk_89 (dk_at dksX9_addBatch_3 14 rfl rfl)
theorem dX9_addBatch_87 : decode cX9_addBatch 87 = .ok (.iload_n 1, 1) := dk_27 (dk_at dksX9_addBatch_3 15 rfl rfl)
theorem dX9_addBatch_88 : decode cX9_addBatch 88 = .ok (.iload_n 2, 1) := dk_28 (dk_at dksX9_addBatch_3 16 rfl rfl)
theorem dX9_addBatch_89 : decode cX9_addBatch 89 = .ok (.aload_n 0, 1) := dk_42 (dk_at dksX9_addBatch_3 17 rfl rfl)
theorem dX9_addBatch_90 : decode cX9_addBatch 90 = .ok (.iconst 0, 1) := dk_3 (dk_at dksX9_addBatch_3 18 rfl rfl)
theorem dX9_addBatch_91 : decode cX9_addBatch 91 = .ok (.aload_n 0, 1) := dk_42 (dk_at dksX9_addBatch_3 19 rfl rfl)
theorem dX9_addBatch_92 : decode cX9_addBatch 92 = .ok (.getfield 19, 3) := dk_180 0 19 (dk_at dksX9_addBatch_3 20 rfl rfl)
theorem dX9_addBatch_95 : decode cX9_addBatch 95 = .ok (.getfield 184, 3) := dk_180 0 184 (dk_at dksX9_addBatch_4 0 rfl rfl)
theorem dX9_addBatch_98 : decode cX9_addBatch 98 = .ok (.iconst 1, 1) := dk_4 (dk_at dksX9_addBatch_4 3 rfl rfl)
theorem dX9_addBatch_99 : decode cX9_addBatch 99 = .ok (.isub, 1) := dk_100 (dk_at dksX9_addBatch_4 4 rfl rfl)
theorem dX9_addBatch_100 : decode cX9_addBatch 100 = .ok (.invokevirtual 173, 3) := dk_182 0 173 (dk_at dksX9_addBatch_4 5 rfl rfl)
theorem dX9_addBatch_103 : decode cX9_addBatch 103 = .ok (.invokespecial 195, 3) := dk_183 0 195 (dk_at dksX9_addBatch_4 8 rfl rfl)
theorem dX9_addBatch_106 : decode cX9_addBatch 106 = .ok (.invokevirtual 181, 3) := dk_182 0 181 (dk_at dksX9_addBatch_4 11 rfl rfl)
theorem dX9_addBatch_109 : decode cX9_addBatch 109 = .ok (.pop, 1) := dk_87 (dk_at dksX9_addBatch_4 14 rfl rfl)
theorem dX9_addBatch_110 : decode cX9_addBatch 110 = .ok (.return_, 1) := dk_177 (dk_at dksX9_addBatch_4 15 rfl rfl)
abbrev cX9_settingNamed : ByteArray := prog_7_method_8_code
def yX9_settingNamed : MethodName := ⟨RX9, "settingNamed", "(Ljava/lang/String;)I"⟩
def dkwX9_settingNamed_9 : List UInt8 := [16, 6, 167, 0, 4, 2, 172]
abbrev dktX9_settingNamed_9 : List UInt8 := dkwX9_settingNamed_9 ++ []
def dkwX9_settingNamed_8 : List UInt8 := [3, 167, 0, 29, 4, 167, 0, 25, 5, 167, 0, 21, 6, 167, 0, 17, 7, 167, 0, 13, 8, 167, 0, 9]
abbrev dktX9_settingNamed_8 : List UInt8 := dkwX9_settingNamed_8 ++ dktX9_settingNamed_9
def dkwX9_settingNamed_7 : List UInt8 := [170, 0, 0, 0, 0, 0, 72, 0, 0, 0, 0, 0, 0, 0, 6, 0, 0, 0, 43, 0, 0, 0, 47, 0, 0, 0, 51, 0, 0, 0, 55, 0, 0, 0, 59, 0, 0, 0, 63, 0, 0, 0, 67]
abbrev dktX9_settingNamed_7 : List UInt8 := dkwX9_settingNamed_7 ++ dktX9_settingNamed_8
def dkwX9_settingNamed_6 : List UInt8 := [61, 28]
abbrev dktX9_settingNamed_6 : List UInt8 := dkwX9_settingNamed_6 ++ dktX9_settingNamed_7
def dkwX9_settingNamed_5 : List UInt8 := [18, 129, 182, 0, 109, 153, 0, 20, 8, 61, 167, 0, 15, 43, 18, 131, 182, 0, 109, 153, 0, 6, 16, 6]
abbrev dktX9_settingNamed_5 : List UInt8 := dkwX9_settingNamed_5 ++ dktX9_settingNamed_6
def dkwX9_settingNamed_4 : List UInt8 := [153, 0, 48, 6, 61, 167, 0, 43, 43, 18, 127, 182, 0, 109, 153, 0, 34, 7, 61, 167, 0, 29, 43]
abbrev dktX9_settingNamed_4 : List UInt8 := dkwX9_settingNamed_4 ++ dktX9_settingNamed_5
def dkwX9_settingNamed_3 : List UInt8 := [61, 167, 0, 71, 43, 18, 123, 182, 0, 109, 153, 0, 62, 5, 61, 167, 0, 57, 43, 18, 125, 182, 0, 109]
abbrev dktX9_settingNamed_3 : List UInt8 := dkwX9_settingNamed_3 ++ dktX9_settingNamed_4
def dkwX9_settingNamed_2 : List UInt8 := [43, 18, 119, 182, 0, 109, 153, 0, 90, 3, 61, 167, 0, 85, 43, 18, 121, 182, 0, 109, 153, 0, 76, 4]
abbrev dktX9_settingNamed_2 : List UInt8 := dkwX9_settingNamed_2 ++ dktX9_settingNamed_3
def dkwX9_settingNamed_1 : List UInt8 := [171, 0, 0, 0, 0, 0, 0, 164, 0, 0, 0, 7, 191, 255, 245, 138, 0, 0, 0, 68, 0, 46, 175, 73, 0, 0, 0, 152, 0, 53, 76, 224, 0, 0, 0, 138, 0, 53, 234, 1, 0, 0, 0, 124, 5, 165, 182, 73, 0, 0, 0, 110, 5, 176, 152, 234, 0, 0, 0, 82, 122, 166, 196, 104, 0, 0, 0, 96]
abbrev dktX9_settingNamed_1 : List UInt8 := dkwX9_settingNamed_1 ++ dktX9_settingNamed_2
def dkwX9_settingNamed_0 : List UInt8 := [42, 76, 2, 61, 43, 182, 0, 116]
abbrev dktX9_settingNamed_0 : List UInt8 := dkwX9_settingNamed_0 ++ dktX9_settingNamed_1
theorem dksX9_settingNamed_0 : cX9_settingNamed.data.toList.drop 0 = dktX9_settingNamed_0 := by decide +kernel
theorem dksX9_settingNamed_1 : cX9_settingNamed.data.toList.drop 8 = dktX9_settingNamed_1 := dk_seg dksX9_settingNamed_0 8 rfl rfl
theorem dksX9_settingNamed_2 : cX9_settingNamed.data.toList.drop 76 = dktX9_settingNamed_2 := dk_seg dksX9_settingNamed_1 68 rfl rfl
theorem dksX9_settingNamed_3 : cX9_settingNamed.data.toList.drop 100 = dktX9_settingNamed_3 := dk_seg dksX9_settingNamed_2 24 rfl rfl
theorem dksX9_settingNamed_4 : cX9_settingNamed.data.toList.drop 124 = dktX9_settingNamed_4 := dk_seg dksX9_settingNamed_3 24 rfl rfl
theorem dksX9_settingNamed_5 : cX9_settingNamed.data.toList.drop 147 = dktX9_settingNamed_5 := dk_seg dksX9_settingNamed_4 23 rfl rfl
theorem dksX9_settingNamed_6 : cX9_settingNamed.data.toList.drop 171 = dktX9_settingNamed_6 := dk_seg dksX9_settingNamed_5 24 rfl rfl
theorem dksX9_settingNamed_7 : cX9_settingNamed.data.toList.drop 173 = dktX9_settingNamed_7 := dk_seg dksX9_settingNamed_6 2 rfl rfl
theorem dksX9_settingNamed_8 : cX9_settingNamed.data.toList.drop 216 = dktX9_settingNamed_8 := dk_seg dksX9_settingNamed_7 43 rfl rfl
theorem dksX9_settingNamed_9 : cX9_settingNamed.data.toList.drop 240 = dktX9_settingNamed_9 := dk_seg dksX9_settingNamed_8 24 rfl rfl
theorem dX9_settingNamed_0 : decode cX9_settingNamed 0 = .ok (.aload_n 0, 1) := dk_42 (dk_at dksX9_settingNamed_0 0 rfl rfl)
theorem dX9_settingNamed_1 : decode cX9_settingNamed 1 = .ok (.astore_n 1, 1) := dk_76 (dk_at dksX9_settingNamed_0 1 rfl rfl)
theorem dX9_settingNamed_2 : decode cX9_settingNamed 2 = .ok (.iconst (-1), 1) := dk_2 (dk_at dksX9_settingNamed_0 2 rfl rfl)
theorem dX9_settingNamed_3 : decode cX9_settingNamed 3 = .ok (.istore_n 2, 1) := dk_61 (dk_at dksX9_settingNamed_0 3 rfl rfl)
theorem dX9_settingNamed_4 : decode cX9_settingNamed 4 = .ok (.aload_n 1, 1) := dk_43 (dk_at dksX9_settingNamed_0 4 rfl rfl)
theorem dX9_settingNamed_5 : decode cX9_settingNamed 5 = .ok (.invokevirtual 116, 3) := dk_182 0 116 (dk_at dksX9_settingNamed_0 5 rfl rfl)
theorem dX9_settingNamed_8 : decode cX9_settingNamed 8 = .ok (.lookupswitch 164 #[(-1073744502, 68), (3059529, 152), (3493088, 138), (3533313, 124), (94746185, 110), (95459562, 82), (2057749608, 96)], 68) := by decide +kernel
theorem dX9_settingNamed_76 : decode cX9_settingNamed 76 = .ok (.aload_n 1, 1) := dk_43 (dk_at dksX9_settingNamed_2 0 rfl rfl)
theorem dX9_settingNamed_77 : decode cX9_settingNamed 77 = .ok (.ldc 119, 2) := dk_18 119 (dk_at dksX9_settingNamed_2 1 rfl rfl)
theorem dX9_settingNamed_79 : decode cX9_settingNamed 79 = .ok (.invokevirtual 109, 3) := dk_182 0 109 (dk_at dksX9_settingNamed_2 3 rfl rfl)
theorem dX9_settingNamed_82 : decode cX9_settingNamed 82 = .ok (.ifCond .eq 90, 3) := dk_153 0 90 (dk_at dksX9_settingNamed_2 6 rfl rfl)
theorem dX9_settingNamed_85 : decode cX9_settingNamed 85 = .ok (.iconst 0, 1) := dk_3 (dk_at dksX9_settingNamed_2 9 rfl rfl)
theorem dX9_settingNamed_86 : decode cX9_settingNamed 86 = .ok (.istore_n 2, 1) := dk_61 (dk_at dksX9_settingNamed_2 10 rfl rfl)
theorem dX9_settingNamed_87 : decode cX9_settingNamed 87 = .ok (.goto 85, 3) := dk_167 0 85 (dk_at dksX9_settingNamed_2 11 rfl rfl)
theorem dX9_settingNamed_90 : decode cX9_settingNamed 90 = .ok (.aload_n 1, 1) := dk_43 (dk_at dksX9_settingNamed_2 14 rfl rfl)
theorem dX9_settingNamed_91 : decode cX9_settingNamed 91 = .ok (.ldc 121, 2) := dk_18 121 (dk_at dksX9_settingNamed_2 15 rfl rfl)
theorem dX9_settingNamed_93 : decode cX9_settingNamed 93 = .ok (.invokevirtual 109, 3) := dk_182 0 109 (dk_at dksX9_settingNamed_2 17 rfl rfl)
theorem dX9_settingNamed_96 : decode cX9_settingNamed 96 = .ok (.ifCond .eq 76, 3) := dk_153 0 76 (dk_at dksX9_settingNamed_2 20 rfl rfl)
theorem dX9_settingNamed_99 : decode cX9_settingNamed 99 = .ok (.iconst 1, 1) := dk_4 (dk_at dksX9_settingNamed_2 23 rfl rfl)
theorem dX9_settingNamed_100 : decode cX9_settingNamed 100 = .ok (.istore_n 2, 1) := dk_61 (dk_at dksX9_settingNamed_3 0 rfl rfl)
theorem dX9_settingNamed_101 : decode cX9_settingNamed 101 = .ok (.goto 71, 3) := dk_167 0 71 (dk_at dksX9_settingNamed_3 1 rfl rfl)
theorem dX9_settingNamed_104 : decode cX9_settingNamed 104 = .ok (.aload_n 1, 1) := dk_43 (dk_at dksX9_settingNamed_3 4 rfl rfl)
theorem dX9_settingNamed_105 : decode cX9_settingNamed 105 = .ok (.ldc 123, 2) := dk_18 123 (dk_at dksX9_settingNamed_3 5 rfl rfl)
theorem dX9_settingNamed_107 : decode cX9_settingNamed 107 = .ok (.invokevirtual 109, 3) := dk_182 0 109 (dk_at dksX9_settingNamed_3 7 rfl rfl)
theorem dX9_settingNamed_110 : decode cX9_settingNamed 110 = .ok (.ifCond .eq 62, 3) := dk_153 0 62 (dk_at dksX9_settingNamed_3 10 rfl rfl)
theorem dX9_settingNamed_113 : decode cX9_settingNamed 113 = .ok (.iconst 2, 1) := dk_5 (dk_at dksX9_settingNamed_3 13 rfl rfl)
theorem dX9_settingNamed_114 : decode cX9_settingNamed 114 = .ok (.istore_n 2, 1) := dk_61 (dk_at dksX9_settingNamed_3 14 rfl rfl)
theorem dX9_settingNamed_115 : decode cX9_settingNamed 115 = .ok (.goto 57, 3) := dk_167 0 57 (dk_at dksX9_settingNamed_3 15 rfl rfl)
theorem dX9_settingNamed_118 : decode cX9_settingNamed 118 = .ok (.aload_n 1, 1) := dk_43 (dk_at dksX9_settingNamed_3 18 rfl rfl)
theorem dX9_settingNamed_119 : decode cX9_settingNamed 119 = .ok (.ldc 125, 2) := dk_18 125 (dk_at dksX9_settingNamed_3 19 rfl rfl)
theorem dX9_settingNamed_121 : decode cX9_settingNamed 121 = .ok (.invokevirtual 109, 3) := dk_182 0 109 (dk_at dksX9_settingNamed_3 21 rfl rfl)
theorem dX9_settingNamed_124 : decode cX9_settingNamed 124 = .ok (.ifCond .eq 48, 3) := dk_153 0 48 (dk_at dksX9_settingNamed_4 0 rfl rfl)
theorem dX9_settingNamed_127 : decode cX9_settingNamed 127 = .ok (.iconst 3, 1) := dk_6 (dk_at dksX9_settingNamed_4 3 rfl rfl)
theorem dX9_settingNamed_128 : decode cX9_settingNamed 128 = .ok (.istore_n 2, 1) := dk_61 (dk_at dksX9_settingNamed_4 4 rfl rfl)
theorem dX9_settingNamed_129 : decode cX9_settingNamed 129 = .ok (.goto 43, 3) := dk_167 0 43 (dk_at dksX9_settingNamed_4 5 rfl rfl)
theorem dX9_settingNamed_132 : decode cX9_settingNamed 132 = .ok (.aload_n 1, 1) := dk_43 (dk_at dksX9_settingNamed_4 8 rfl rfl)
theorem dX9_settingNamed_133 : decode cX9_settingNamed 133 = .ok (.ldc 127, 2) := dk_18 127 (dk_at dksX9_settingNamed_4 9 rfl rfl)
theorem dX9_settingNamed_135 : decode cX9_settingNamed 135 = .ok (.invokevirtual 109, 3) := dk_182 0 109 (dk_at dksX9_settingNamed_4 11 rfl rfl)
theorem dX9_settingNamed_138 : decode cX9_settingNamed 138 = .ok (.ifCond .eq 34, 3) := dk_153 0 34 (dk_at dksX9_settingNamed_4 14 rfl rfl)
theorem dX9_settingNamed_141 : decode cX9_settingNamed 141 = .ok (.iconst 4, 1) := dk_7 (dk_at dksX9_settingNamed_4 17 rfl rfl)
theorem dX9_settingNamed_142 : decode cX9_settingNamed 142 = .ok (.istore_n 2, 1) := dk_61 (dk_at dksX9_settingNamed_4 18 rfl rfl)
theorem dX9_settingNamed_143 : decode cX9_settingNamed 143 = .ok (.goto 29, 3) := dk_167 0 29 (dk_at dksX9_settingNamed_4 19 rfl rfl)
theorem dX9_settingNamed_146 : decode cX9_settingNamed 146 = .ok (.aload_n 1, 1) := dk_43 (dk_at dksX9_settingNamed_4 22 rfl rfl)
theorem dX9_settingNamed_147 : decode cX9_settingNamed 147 = .ok (.ldc 129, 2) := dk_18 129 (dk_at dksX9_settingNamed_5 0 rfl rfl)
theorem dX9_settingNamed_149 : decode cX9_settingNamed 149 = .ok (.invokevirtual 109, 3) := dk_182 0 109 (dk_at dksX9_settingNamed_5 2 rfl rfl)
theorem dX9_settingNamed_152 : decode cX9_settingNamed 152 = .ok (.ifCond .eq 20, 3) := dk_153 0 20 (dk_at dksX9_settingNamed_5 5 rfl rfl)
theorem dX9_settingNamed_155 : decode cX9_settingNamed 155 = .ok (.iconst 5, 1) := dk_8 (dk_at dksX9_settingNamed_5 8 rfl rfl)
theorem dX9_settingNamed_156 : decode cX9_settingNamed 156 = .ok (.istore_n 2, 1) := dk_61 (dk_at dksX9_settingNamed_5 9 rfl rfl)
theorem dX9_settingNamed_157 : decode cX9_settingNamed 157 = .ok (.goto 15, 3) := dk_167 0 15 (dk_at dksX9_settingNamed_5 10 rfl rfl)
theorem dX9_settingNamed_160 : decode cX9_settingNamed 160 = .ok (.aload_n 1, 1) := dk_43 (dk_at dksX9_settingNamed_5 13 rfl rfl)
theorem dX9_settingNamed_161 : decode cX9_settingNamed 161 = .ok (.ldc 131, 2) := dk_18 131 (dk_at dksX9_settingNamed_5 14 rfl rfl)
theorem dX9_settingNamed_163 : decode cX9_settingNamed 163 = .ok (.invokevirtual 109, 3) := dk_182 0 109 (dk_at dksX9_settingNamed_5 16 rfl rfl)
theorem dX9_settingNamed_166 : decode cX9_settingNamed 166 = .ok (.ifCond .eq 6, 3) := dk_153 0 6 (dk_at dksX9_settingNamed_5 19 rfl rfl)
theorem dX9_settingNamed_169 : decode cX9_settingNamed 169 = .ok (.bipush 6, 2) := dk_16 6 (dk_at dksX9_settingNamed_5 22 rfl rfl)
theorem dX9_settingNamed_171 : decode cX9_settingNamed 171 = .ok (.istore_n 2, 1) := dk_61 (dk_at dksX9_settingNamed_6 0 rfl rfl)
theorem dX9_settingNamed_172 : decode cX9_settingNamed 172 = .ok (.iload_n 2, 1) := dk_28 (dk_at dksX9_settingNamed_6 1 rfl rfl)
theorem dX9_settingNamed_173 : decode cX9_settingNamed 173 = .ok (.tableswitch 72 0 6 #[43, 47, 51, 55, 59, 63, 67], 43) := by decide +kernel
theorem dX9_settingNamed_216 : decode cX9_settingNamed 216 = .ok (.iconst 0, 1) := dk_3 (dk_at dksX9_settingNamed_8 0 rfl rfl)
theorem dX9_settingNamed_217 : decode cX9_settingNamed 217 = .ok (.goto 29, 3) := dk_167 0 29 (dk_at dksX9_settingNamed_8 1 rfl rfl)
theorem dX9_settingNamed_220 : decode cX9_settingNamed 220 = .ok (.iconst 1, 1) := dk_4 (dk_at dksX9_settingNamed_8 4 rfl rfl)
theorem dX9_settingNamed_221 : decode cX9_settingNamed 221 = .ok (.goto 25, 3) := dk_167 0 25 (dk_at dksX9_settingNamed_8 5 rfl rfl)
theorem dX9_settingNamed_224 : decode cX9_settingNamed 224 = .ok (.iconst 2, 1) := dk_5 (dk_at dksX9_settingNamed_8 8 rfl rfl)
theorem dX9_settingNamed_225 : decode cX9_settingNamed 225 = .ok (.goto 21, 3) := dk_167 0 21 (dk_at dksX9_settingNamed_8 9 rfl rfl)
theorem dX9_settingNamed_228 : decode cX9_settingNamed 228 = .ok (.iconst 3, 1) := dk_6 (dk_at dksX9_settingNamed_8 12 rfl rfl)
theorem dX9_settingNamed_229 : decode cX9_settingNamed 229 = .ok (.goto 17, 3) := dk_167 0 17 (dk_at dksX9_settingNamed_8 13 rfl rfl)
theorem dX9_settingNamed_232 : decode cX9_settingNamed 232 = .ok (.iconst 4, 1) := dk_7 (dk_at dksX9_settingNamed_8 16 rfl rfl)
theorem dX9_settingNamed_233 : decode cX9_settingNamed 233 = .ok (.goto 13, 3) := dk_167 0 13 (dk_at dksX9_settingNamed_8 17 rfl rfl)
theorem dX9_settingNamed_236 : decode cX9_settingNamed 236 = .ok (.iconst 5, 1) := dk_8 (dk_at dksX9_settingNamed_8 20 rfl rfl)
theorem dX9_settingNamed_237 : decode cX9_settingNamed 237 = .ok (.goto 9, 3) := dk_167 0 9 (dk_at dksX9_settingNamed_8 21 rfl rfl)
theorem dX9_settingNamed_240 : decode cX9_settingNamed 240 = .ok (.bipush 6, 2) := dk_16 6 (dk_at dksX9_settingNamed_9 0 rfl rfl)
theorem dX9_settingNamed_242 : decode cX9_settingNamed 242 = .ok (.goto 4, 3) := dk_167 0 4 (dk_at dksX9_settingNamed_9 2 rfl rfl)
theorem dX9_settingNamed_245 : decode cX9_settingNamed 245 = .ok (.iconst (-1), 1) := dk_2 (dk_at dksX9_settingNamed_9 5 rfl rfl)
theorem dX9_settingNamed_246 : decode cX9_settingNamed 246 = .ok (.ireturn, 1) := dk_172 (dk_at dksX9_settingNamed_9 6 rfl rfl)
theorem q152 : (Jvm.Cond.initialized "BakeryPlan$Parser") ∈ lw_all := lw_g (lw_at lw_m1 30 rfl) rfl
theorem q524 : (Jvm.Cond.fieldLinkNest "BakeryPlan$Parser" (93 : Nat) "BakeryPlan$Plan" "products" "Ljava/util/ArrayList;" "BakeryPlan") ∈ lw_tbl := lw_at lw_m2 162 rfl
theorem q528 : (Jvm.Cond.fieldLinkNest "BakeryPlan$Parser" (187 : Nat) "BakeryPlan$Plan" "waves" "[I" "BakeryPlan") ∈ lw_tbl := lw_at lw_m2 166 rfl
theorem q532 : (Jvm.Cond.fieldLinkNest "BakeryPlan$Parser" (162 : Nat) "BakeryPlan$Plan" "settings" "[I" "BakeryPlan") ∈ lw_tbl := lw_at lw_m2 170 rfl
theorem q538 : (Jvm.Cond.fieldLinkNest "BakeryPlan$Parser" (190 : Nat) "BakeryPlan$Plan" "batches" "Ljava/util/ArrayList;" "BakeryPlan") ∈ lw_tbl := lw_at lw_m2 176 rfl
theorem q540 : (Jvm.Cond.fieldLinkNest "BakeryPlan$Parser" (184 : Nat) "BakeryPlan$Plan" "waveCount" "I" "BakeryPlan") ∈ lw_tbl := lw_at lw_m2 178 rfl
theorem q544 : (Jvm.Cond.fieldLinkNest "BakeryPlan$Parser" (156 : Nat) "BakeryPlan$Plan" "policy" "I" "BakeryPlan") ∈ lw_tbl := lw_at lw_m2 182 rfl
theorem q1021 : (Jvm.Cond.selects "BakeryPlan$Parser" ({ cls := "java/lang/Object", name := "getClass", desc := "()Ljava/lang/Class;" } : Jvm.MethodName) ({ cls := "java/lang/Object", name := "getClass", desc := "()Ljava/lang/Class;" } : Jvm.MethodName)) ∈ lw_all := lw_g (lw_at lw_m4 179 rfl) rfl
theorem q1165 : (Jvm.Cond.instantiable "BakeryPlan$Parser" (7 : Nat)) ∈ lw_all := lw_g (lw_at lw_m5 83 rfl) rfl
theorem q1167 : (Jvm.Cond.instanceMethod ({ cls := "BakeryPlan$Parser", name := "<init>", desc := "([B)V" } : Jvm.MethodName)) ∈ lw_all := lw_g (lw_at lw_m5 85 rfl) rfl
theorem q1168 : (Jvm.Cond.code ({ cls := "BakeryPlan$Parser", name := "<init>", desc := "([B)V" } : Jvm.MethodName) prog_7_method_1_code (2 : Nat) (Option.none : Option Jvm.ClassFile.FieldType)) ∈ lw_all := lw_g (lw_at lw_m5 86 rfl) rfl
theorem q1169 : (Jvm.Cond.methodLink "BakeryPlan$Parser" (3 : Nat) ({ cls := "java/lang/Object", name := "<init>", desc := "()V" } : Jvm.MethodName)) ∈ lw_all := lw_g (lw_at lw_m5 87 rfl) rfl
theorem q1170 : (Jvm.Cond.classLink "BakeryPlan$Parser" (9 : Nat) "BakeryPlan$Plan") ∈ lw_all := lw_g (lw_at lw_m5 88 rfl) rfl
theorem q1171 : (Jvm.Cond.classLink "BakeryPlan$Parser" (11 : Nat) "java/util/ArrayList") ∈ lw_all := lw_g (lw_at lw_m5 89 rfl) rfl
theorem q1172 : (Jvm.Cond.methodLink "BakeryPlan$Parser" (13 : Nat) ({ cls := "java/util/ArrayList", name := "<init>", desc := "(I)V" } : Jvm.MethodName)) ∈ lw_all := lw_g (lw_at lw_m5 90 rfl) rfl
theorem q1173 : (Jvm.Cond.methodLink "BakeryPlan$Parser" (16 : Nat) ({ cls := "BakeryPlan$Plan", name := "<init>", desc := "(Ljava/util/ArrayList;[I)V" } : Jvm.MethodName)) ∈ lw_all := lw_g (lw_at lw_m5 91 rfl) rfl
theorem q1174 : (Jvm.Cond.stringRef "BakeryPlan$Parser" (25 : Nat) "") ∈ lw_tbl := lw_at lw_m5 92 rfl
theorem q1175 : (Jvm.Cond.fieldLink "BakeryPlan$Parser" (31 : Nat) "BakeryPlan$Parser" "text" "[B") ∈ lw_all := lw_g (lw_at lw_m5 93 rfl) rfl
theorem q1176 : (Jvm.Cond.fieldLink "BakeryPlan$Parser" (19 : Nat) "BakeryPlan$Parser" "parsed" "LBakeryPlan$Plan;") ∈ lw_all := lw_g (lw_at lw_m5 94 rfl) rfl
theorem q1177 : (Jvm.Cond.fieldLink "BakeryPlan$Parser" (47 : Nat) "BakeryPlan$Parser" "start" "I") ∈ lw_all := lw_g (lw_at lw_m5 95 rfl) rfl
theorem q1178 : (Jvm.Cond.fieldLink "BakeryPlan$Parser" (35 : Nat) "BakeryPlan$Parser" "next" "I") ∈ lw_all := lw_g (lw_at lw_m5 96 rfl) rfl
theorem q1179 : (Jvm.Cond.fieldLink "BakeryPlan$Parser" (50 : Nat) "BakeryPlan$Parser" "token" "I") ∈ lw_all := lw_g (lw_at lw_m5 97 rfl) rfl
theorem q1180 : (Jvm.Cond.fieldLink "BakeryPlan$Parser" (73 : Nat) "BakeryPlan$Parser" "number" "I") ∈ lw_all := lw_g (lw_at lw_m5 98 rfl) rfl
theorem q1181 : (Jvm.Cond.fieldLink "BakeryPlan$Parser" (27 : Nat) "BakeryPlan$Parser" "word" "Ljava/lang/String;") ∈ lw_all := lw_g (lw_at lw_m5 99 rfl) rfl
theorem q1182 : (Jvm.Cond.laysFinal "BakeryPlan$Parser" "BakeryPlan$Parser" "text" "[B") ∈ lw_all := lw_g (lw_at lw_m5 100 rfl) rfl
theorem q1183 : (Jvm.Cond.soleField "BakeryPlan$Parser" "text") ∈ lw_all := lw_g (lw_at lw_m5 101 rfl) rfl
theorem q1184 : (Jvm.Cond.laysFinal "BakeryPlan$Parser" "BakeryPlan$Parser" "parsed" "LBakeryPlan$Plan;") ∈ lw_all := lw_g (lw_at lw_m5 102 rfl) rfl
theorem q1185 : (Jvm.Cond.soleField "BakeryPlan$Parser" "parsed") ∈ lw_all := lw_g (lw_at lw_m5 103 rfl) rfl
theorem q1186 : (Jvm.Cond.lays "BakeryPlan$Parser" "BakeryPlan$Parser" "start" "I") ∈ lw_all := lw_g (lw_at lw_m5 104 rfl) rfl
theorem q1187 : (Jvm.Cond.soleField "BakeryPlan$Parser" "start") ∈ lw_all := lw_g (lw_at lw_m5 105 rfl) rfl
theorem q1188 : (Jvm.Cond.lays "BakeryPlan$Parser" "BakeryPlan$Parser" "next" "I") ∈ lw_all := lw_g (lw_at lw_m5 106 rfl) rfl
theorem q1189 : (Jvm.Cond.soleField "BakeryPlan$Parser" "next") ∈ lw_all := lw_g (lw_at lw_m5 107 rfl) rfl
theorem q1190 : (Jvm.Cond.lays "BakeryPlan$Parser" "BakeryPlan$Parser" "token" "I") ∈ lw_all := lw_g (lw_at lw_m5 108 rfl) rfl
theorem q1191 : (Jvm.Cond.soleField "BakeryPlan$Parser" "token") ∈ lw_all := lw_g (lw_at lw_m5 109 rfl) rfl
theorem q1192 : (Jvm.Cond.lays "BakeryPlan$Parser" "BakeryPlan$Parser" "number" "I") ∈ lw_all := lw_g (lw_at lw_m5 110 rfl) rfl
theorem q1193 : (Jvm.Cond.soleField "BakeryPlan$Parser" "number") ∈ lw_all := lw_g (lw_at lw_m5 111 rfl) rfl
theorem q1194 : (Jvm.Cond.lays "BakeryPlan$Parser" "BakeryPlan$Parser" "word" "Ljava/lang/String;") ∈ lw_all := lw_g (lw_at lw_m5 112 rfl) rfl
theorem q1195 : (Jvm.Cond.soleField "BakeryPlan$Parser" "word") ∈ lw_all := lw_g (lw_at lw_m5 113 rfl) rfl
theorem q1196 : (Jvm.Cond.superclass "BakeryPlan$Parser" "java/lang/Object") ∈ lw_all := lw_g (lw_at lw_m5 114 rfl) rfl
theorem q1198 : (Jvm.Cond.instanceMethod ({ cls := "BakeryPlan$Parser", name := "parse", desc := "()LBakeryPlan$Plan;" } : Jvm.MethodName)) ∈ lw_all := lw_g (lw_at lw_m5 116 rfl) rfl
theorem q1199 : (Jvm.Cond.selects "BakeryPlan$Parser" ({ cls := "BakeryPlan$Parser", name := "parse", desc := "()LBakeryPlan$Plan;" } : Jvm.MethodName) ({ cls := "BakeryPlan$Parser", name := "parse", desc := "()LBakeryPlan$Plan;" } : Jvm.MethodName)) ∈ lw_all := lw_g (lw_at lw_m5 117 rfl) rfl
theorem q1200 : (Jvm.Cond.code ({ cls := "BakeryPlan$Parser", name := "parse", desc := "()LBakeryPlan$Plan;" } : Jvm.MethodName) prog_7_method_7_code (1 : Nat) (Option.some (Jvm.ClassFile.FieldType.object "BakeryPlan$Plan"))) ∈ lw_all := lw_g (lw_at lw_m5 118 rfl) rfl
theorem q1201 : (Jvm.Cond.methodLink "BakeryPlan$Parser" (90 : Nat) ({ cls := "BakeryPlan$Parser", name := "advance", desc := "()V" } : Jvm.MethodName)) ∈ lw_all := lw_g (lw_at lw_m5 119 rfl) rfl
theorem q1202 : (Jvm.Cond.privateMethod ({ cls := "BakeryPlan$Parser", name := "advance", desc := "()V" } : Jvm.MethodName)) ∈ lw_tbl := lw_at lw_m5 120 rfl
theorem q1203 : (Jvm.Cond.instanceMethod ({ cls := "BakeryPlan$Parser", name := "advance", desc := "()V" } : Jvm.MethodName)) ∈ lw_all := lw_g (lw_at lw_m5 121 rfl) rfl
theorem q1204 : (Jvm.Cond.code ({ cls := "BakeryPlan$Parser", name := "advance", desc := "()V" } : Jvm.MethodName) prog_7_method_3_code (1 : Nat) (Option.none : Option Jvm.ClassFile.FieldType)) ∈ lw_all := lw_g (lw_at lw_m5 122 rfl) rfl
theorem q1205 : (Jvm.Cond.methodLink "BakeryPlan$Parser" (43 : Nat) ({ cls := "BakeryPlan$Parser", name := "isNext", desc := "(II)Z" } : Jvm.MethodName)) ∈ lw_all := lw_g (lw_at lw_m5 123 rfl) rfl
theorem q1206 : (Jvm.Cond.privateMethod ({ cls := "BakeryPlan$Parser", name := "isNext", desc := "(II)Z" } : Jvm.MethodName)) ∈ lw_tbl := lw_at lw_m5 124 rfl
theorem q1207 : (Jvm.Cond.instanceMethod ({ cls := "BakeryPlan$Parser", name := "isNext", desc := "(II)Z" } : Jvm.MethodName)) ∈ lw_all := lw_g (lw_at lw_m5 125 rfl) rfl
theorem q1208 : (Jvm.Cond.code ({ cls := "BakeryPlan$Parser", name := "isNext", desc := "(II)Z" } : Jvm.MethodName) prog_7_method_2_code (3 : Nat) (Option.some Jvm.ClassFile.FieldType.boolean)) ∈ lw_all := lw_g (lw_at lw_m5 126 rfl) rfl
theorem q1209 : (Jvm.Cond.methodLinkNest "BakeryPlan$Parser" (39 : Nat) ({ cls := "BakeryPlan", name := "in", desc := "(JJJ)Z" } : Jvm.MethodName) "BakeryPlan") ∈ lw_tbl := lw_at lw_m5 127 rfl
theorem q1210 : (Jvm.Cond.methodLink "BakeryPlan$Parser" (53 : Nat) ({ cls := "java/lang/String", name := "length", desc := "()I" } : Jvm.MethodName)) ∈ lw_all := lw_g (lw_at lw_m5 128 rfl) rfl
theorem q1211 : (Jvm.Cond.classLink "BakeryPlan$Parser" (59 : Nat) "java/lang/StringBuilder") ∈ lw_all := lw_g (lw_at lw_m5 129 rfl) rfl
theorem q1212 : (Jvm.Cond.methodLink "BakeryPlan$Parser" (61 : Nat) ({ cls := "java/lang/StringBuilder", name := "<init>", desc := "()V" } : Jvm.MethodName)) ∈ lw_all := lw_g (lw_at lw_m5 130 rfl) rfl
theorem q1213 : (Jvm.Cond.methodLink "BakeryPlan$Parser" (62 : Nat) ({ cls := "java/lang/StringBuilder", name := "append", desc := "(Ljava/lang/String;)Ljava/lang/StringBuilder;" } : Jvm.MethodName)) ∈ lw_all := lw_g (lw_at lw_m5 131 rfl) rfl
theorem q1214 : (Jvm.Cond.methodLink "BakeryPlan$Parser" (66 : Nat) ({ cls := "java/lang/StringBuilder", name := "append", desc := "(C)Ljava/lang/StringBuilder;" } : Jvm.MethodName)) ∈ lw_all := lw_g (lw_at lw_m5 132 rfl) rfl
theorem q1234 : (Jvm.Cond.methodLink "BakeryPlan$Parser" (69 : Nat) ({ cls := "java/lang/StringBuilder", name := "toString", desc := "()Ljava/lang/String;" } : Jvm.MethodName)) ∈ lw_all := lw_g (lw_at lw_m5 152 rfl) rfl
theorem q1235 : (Jvm.Cond.constant "BakeryPlan$Parser" (76 : Nat) (99999 : Int32)) ∈ lw_all := lw_g (lw_at lw_m5 153 rfl) rfl
theorem q1236 : (Jvm.Cond.methodLink "BakeryPlan$Parser" (77 : Nat) ({ cls := "java/lang/Math", name := "min", desc := "(II)I" } : Jvm.MethodName)) ∈ lw_all := lw_g (lw_at lw_m5 154 rfl) rfl
theorem q1237 : (Jvm.Cond.methodLink "BakeryPlan$Parser" (86 : Nat) ({ cls := "BakeryPlan$Parser", name := "require", desc := "(Z)V" } : Jvm.MethodName)) ∈ lw_all := lw_g (lw_at lw_m5 155 rfl) rfl
theorem q1238 : (Jvm.Cond.privateMethod ({ cls := "BakeryPlan$Parser", name := "require", desc := "(Z)V" } : Jvm.MethodName)) ∈ lw_tbl := lw_at lw_m5 156 rfl
theorem q1239 : (Jvm.Cond.instanceMethod ({ cls := "BakeryPlan$Parser", name := "require", desc := "(Z)V" } : Jvm.MethodName)) ∈ lw_all := lw_g (lw_at lw_m5 157 rfl) rfl
theorem q1240 : (Jvm.Cond.code ({ cls := "BakeryPlan$Parser", name := "require", desc := "(Z)V" } : Jvm.MethodName) prog_7_method_4_code (2 : Nat) (Option.none : Option Jvm.ClassFile.FieldType)) ∈ lw_all := lw_g (lw_at lw_m5 158 rfl) rfl
theorem q1241 : (Jvm.Cond.classLink "BakeryPlan$Parser" (83 : Nat) "BakeryPlan$TextException") ∈ lw_all := lw_g (lw_at lw_m5 159 rfl) rfl
theorem q1250 : (Jvm.Cond.methodLink "BakeryPlan$Parser" (85 : Nat) ({ cls := "BakeryPlan$TextException", name := "<init>", desc := "(I)V" } : Jvm.MethodName)) ∈ lw_all := lw_g (lw_at lw_m5 168 rfl) rfl
theorem q1265 : (Jvm.Cond.methodLink "BakeryPlan$Parser" (113 : Nat) ({ cls := "BakeryPlan$Parser", name := "statement", desc := "()V" } : Jvm.MethodName)) ∈ lw_all := lw_g (lw_at lw_m5 183 rfl) rfl
theorem q1266 : (Jvm.Cond.privateMethod ({ cls := "BakeryPlan$Parser", name := "statement", desc := "()V" } : Jvm.MethodName)) ∈ lw_tbl := lw_at lw_m5 184 rfl
theorem q1267 : (Jvm.Cond.instanceMethod ({ cls := "BakeryPlan$Parser", name := "statement", desc := "()V" } : Jvm.MethodName)) ∈ lw_all := lw_g (lw_at lw_m5 185 rfl) rfl
theorem q1268 : (Jvm.Cond.code ({ cls := "BakeryPlan$Parser", name := "statement", desc := "()V" } : Jvm.MethodName) prog_7_method_9_code (5 : Nat) (Option.none : Option Jvm.ClassFile.FieldType)) ∈ lw_all := lw_g (lw_at lw_m5 186 rfl) rfl
theorem q1269 : (Jvm.Cond.methodLink "BakeryPlan$Parser" (116 : Nat) ({ cls := "java/lang/String", name := "hashCode", desc := "()I" } : Jvm.MethodName)) ∈ lw_all := lw_g (lw_at lw_m5 187 rfl) rfl
theorem q1330 : (Jvm.Cond.stringRef "BakeryPlan$Parser" (133 : Nat) "product") ∈ lw_tbl := lw_at lw_m6 8 rfl
theorem q1331 : (Jvm.Cond.methodLink "BakeryPlan$Parser" (109 : Nat) ({ cls := "java/lang/String", name := "equals", desc := "(Ljava/lang/Object;)Z" } : Jvm.MethodName)) ∈ lw_all := lw_g (lw_at lw_m6 9 rfl) rfl
theorem q1339 : (Jvm.Cond.stringRef "BakeryPlan$Parser" (135 : Nat) "wave") ∈ lw_tbl := lw_at lw_m6 17 rfl
theorem q1340 : (Jvm.Cond.stringRef "BakeryPlan$Parser" (137 : Nat) "batch") ∈ lw_tbl := lw_at lw_m6 18 rfl
theorem q1341 : (Jvm.Cond.stringRef "BakeryPlan$Parser" (139 : Nat) "policy") ∈ lw_tbl := lw_at lw_m6 19 rfl
theorem q1342 : (Jvm.Cond.methodLink "BakeryPlan$Parser" (141 : Nat) ({ cls := "BakeryPlan$Parser", name := "addProduct", desc := "()V" } : Jvm.MethodName)) ∈ lw_all := lw_g (lw_at lw_m6 20 rfl) rfl
theorem q1343 : (Jvm.Cond.privateMethod ({ cls := "BakeryPlan$Parser", name := "addProduct", desc := "()V" } : Jvm.MethodName)) ∈ lw_tbl := lw_at lw_m6 21 rfl
theorem q1344 : (Jvm.Cond.instanceMethod ({ cls := "BakeryPlan$Parser", name := "addProduct", desc := "()V" } : Jvm.MethodName)) ∈ lw_all := lw_g (lw_at lw_m6 22 rfl) rfl
theorem q1345 : (Jvm.Cond.code ({ cls := "BakeryPlan$Parser", name := "addProduct", desc := "()V" } : Jvm.MethodName) prog_7_method_10_code (7 : Nat) (Option.none : Option Jvm.ClassFile.FieldType)) ∈ lw_all := lw_g (lw_at lw_m6 23 rfl) rfl
theorem q1346 : (Jvm.Cond.methodLink "BakeryPlan$Parser" (97 : Nat) ({ cls := "java/util/ArrayList", name := "size", desc := "()I" } : Jvm.MethodName)) ∈ lw_all := lw_g (lw_at lw_m6 24 rfl) rfl
theorem q1347 : (Jvm.Cond.methodLink "BakeryPlan$Parser" (175 : Nat) ({ cls := "BakeryPlan$Parser", name := "productNamed", desc := "(Ljava/lang/String;)I" } : Jvm.MethodName)) ∈ lw_all := lw_g (lw_at lw_m6 25 rfl) rfl
theorem q1348 : (Jvm.Cond.privateMethod ({ cls := "BakeryPlan$Parser", name := "productNamed", desc := "(Ljava/lang/String;)I" } : Jvm.MethodName)) ∈ lw_tbl := lw_at lw_m6 26 rfl
theorem q1349 : (Jvm.Cond.instanceMethod ({ cls := "BakeryPlan$Parser", name := "productNamed", desc := "(Ljava/lang/String;)I" } : Jvm.MethodName)) ∈ lw_all := lw_g (lw_at lw_m6 27 rfl) rfl
theorem q1350 : (Jvm.Cond.code ({ cls := "BakeryPlan$Parser", name := "productNamed", desc := "(Ljava/lang/String;)I" } : Jvm.MethodName) prog_7_method_6_code (3 : Nat) (Option.some Jvm.ClassFile.FieldType.int)) ∈ lw_all := lw_g (lw_at lw_m6 28 rfl) rfl
theorem q1351 : (Jvm.Cond.methodLink "BakeryPlan$Parser" (100 : Nat) ({ cls := "java/util/ArrayList", name := "get", desc := "(I)Ljava/lang/Object;" } : Jvm.MethodName)) ∈ lw_all := lw_g (lw_at lw_m6 29 rfl) rfl
theorem q1352 : (Jvm.Cond.classLink "BakeryPlan$Parser" (104 : Nat) "BakeryPlan$Product") ∈ lw_all := lw_g (lw_at lw_m6 30 rfl) rfl
theorem q1353 : (Jvm.Cond.methodLink "BakeryPlan$Parser" (173 : Nat) ({ cls := "BakeryPlan$Parser", name := "number", desc := "(II)I" } : Jvm.MethodName)) ∈ lw_all := lw_g (lw_at lw_m6 31 rfl) rfl
theorem q1354 : (Jvm.Cond.privateMethod ({ cls := "BakeryPlan$Parser", name := "number", desc := "(II)I" } : Jvm.MethodName)) ∈ lw_tbl := lw_at lw_m6 32 rfl
theorem q1355 : (Jvm.Cond.instanceMethod ({ cls := "BakeryPlan$Parser", name := "number", desc := "(II)I" } : Jvm.MethodName)) ∈ lw_all := lw_g (lw_at lw_m6 33 rfl) rfl
theorem q1356 : (Jvm.Cond.code ({ cls := "BakeryPlan$Parser", name := "number", desc := "(II)I" } : Jvm.MethodName) prog_7_method_5_code (4 : Nat) (Option.some Jvm.ClassFile.FieldType.int)) ∈ lw_all := lw_g (lw_at lw_m6 34 rfl) rfl
theorem q1358 : (Jvm.Cond.methodLink "BakeryPlan$Parser" (178 : Nat) ({ cls := "BakeryPlan$Product", name := "<init>", desc := "(Ljava/lang/String;IIIIII)V" } : Jvm.MethodName)) ∈ lw_all := lw_g (lw_at lw_m6 36 rfl) rfl
theorem q1363 : (Jvm.Cond.fieldLinkNest "BakeryPlan$Parser" (106 : Nat) "BakeryPlan$Product" "name" "Ljava/lang/String;" "BakeryPlan") ∈ lw_tbl := lw_at lw_m6 41 rfl
theorem q1392 : (Jvm.Cond.methodLink "BakeryPlan$Parser" (181 : Nat) ({ cls := "java/util/ArrayList", name := "add", desc := "(Ljava/lang/Object;)Z" } : Jvm.MethodName)) ∈ lw_all := lw_g (lw_at lw_m6 70 rfl) rfl
theorem q1393 : (Jvm.Cond.methodLink "BakeryPlan$Parser" (144 : Nat) ({ cls := "BakeryPlan$Parser", name := "addWave", desc := "()V" } : Jvm.MethodName)) ∈ lw_all := lw_g (lw_at lw_m6 71 rfl) rfl
theorem q1394 : (Jvm.Cond.privateMethod ({ cls := "BakeryPlan$Parser", name := "addWave", desc := "()V" } : Jvm.MethodName)) ∈ lw_tbl := lw_at lw_m6 72 rfl
theorem q1395 : (Jvm.Cond.instanceMethod ({ cls := "BakeryPlan$Parser", name := "addWave", desc := "()V" } : Jvm.MethodName)) ∈ lw_all := lw_g (lw_at lw_m6 73 rfl) rfl
theorem q1396 : (Jvm.Cond.code ({ cls := "BakeryPlan$Parser", name := "addWave", desc := "()V" } : Jvm.MethodName) prog_7_method_11_code (2 : Nat) (Option.none : Option Jvm.ClassFile.FieldType)) ∈ lw_all := lw_g (lw_at lw_m6 74 rfl) rfl
theorem q1397 : (Jvm.Cond.methodLink "BakeryPlan$Parser" (147 : Nat) ({ cls := "BakeryPlan$Parser", name := "addBatch", desc := "()V" } : Jvm.MethodName)) ∈ lw_all := lw_g (lw_at lw_m6 75 rfl) rfl
theorem q1398 : (Jvm.Cond.privateMethod ({ cls := "BakeryPlan$Parser", name := "addBatch", desc := "()V" } : Jvm.MethodName)) ∈ lw_tbl := lw_at lw_m6 76 rfl
theorem q1399 : (Jvm.Cond.instanceMethod ({ cls := "BakeryPlan$Parser", name := "addBatch", desc := "()V" } : Jvm.MethodName)) ∈ lw_all := lw_g (lw_at lw_m6 77 rfl) rfl
theorem q1400 : (Jvm.Cond.code ({ cls := "BakeryPlan$Parser", name := "addBatch", desc := "()V" } : Jvm.MethodName) prog_7_method_12_code (3 : Nat) (Option.none : Option Jvm.ClassFile.FieldType)) ∈ lw_all := lw_g (lw_at lw_m6 78 rfl) rfl
theorem q1401 : (Jvm.Cond.classLink "BakeryPlan$Parser" (193 : Nat) "BakeryPlan$Batch") ∈ lw_all := lw_g (lw_at lw_m6 79 rfl) rfl
theorem q1402 : (Jvm.Cond.methodLink "BakeryPlan$Parser" (195 : Nat) ({ cls := "BakeryPlan$Batch", name := "<init>", desc := "(III)V" } : Jvm.MethodName)) ∈ lw_all := lw_g (lw_at lw_m6 80 rfl) rfl
theorem q1403 : (Jvm.Cond.methodLink "BakeryPlan$Parser" (150 : Nat) ({ cls := "BakeryPlan$Policy", name := "numberOf", desc := "(Ljava/lang/CharSequence;)I" } : Jvm.MethodName)) ∈ lw_all := lw_g (lw_at lw_m6 81 rfl) rfl
theorem q1478 : (Jvm.Cond.methodLink "BakeryPlan$Parser" (158 : Nat) ({ cls := "BakeryPlan$Parser", name := "settingNamed", desc := "(Ljava/lang/String;)I" } : Jvm.MethodName)) ∈ lw_all := lw_g (lw_at lw_m6 156 rfl) rfl
theorem q1479 : (Jvm.Cond.static ({ cls := "BakeryPlan$Parser", name := "settingNamed", desc := "(Ljava/lang/String;)I" } : Jvm.MethodName)) ∈ lw_all := lw_g (lw_at lw_m6 157 rfl) rfl
theorem q1480 : (Jvm.Cond.code ({ cls := "BakeryPlan$Parser", name := "settingNamed", desc := "(Ljava/lang/String;)I" } : Jvm.MethodName) prog_7_method_8_code (3 : Nat) (Option.some Jvm.ClassFile.FieldType.int)) ∈ lw_all := lw_g (lw_at lw_m6 158 rfl) rfl
theorem q1481 : (Jvm.Cond.stringRef "BakeryPlan$Parser" (119 : Nat) "mixers") ∈ lw_tbl := lw_at lw_m6 159 rfl
theorem q1482 : (Jvm.Cond.stringRef "BakeryPlan$Parser" (121 : Nat) "decks") ∈ lw_tbl := lw_at lw_m6 160 rfl
theorem q1483 : (Jvm.Cond.stringRef "BakeryPlan$Parser" (123 : Nat) "shelves") ∈ lw_tbl := lw_at lw_m6 161 rfl
theorem q1484 : (Jvm.Cond.stringRef "BakeryPlan$Parser" (125 : Nat) "clean") ∈ lw_tbl := lw_at lw_m6 162 rfl
theorem q1485 : (Jvm.Cond.stringRef "BakeryPlan$Parser" (127 : Nat) "slow") ∈ lw_tbl := lw_at lw_m6 163 rfl
theorem q1486 : (Jvm.Cond.stringRef "BakeryPlan$Parser" (129 : Nat) "rate") ∈ lw_tbl := lw_at lw_m6 164 rfl
theorem q1487 : (Jvm.Cond.stringRef "BakeryPlan$Parser" (131 : Nat) "cool") ∈ lw_tbl := lw_at lw_m6 165 rfl
theorem q1488 : (Jvm.Cond.methodLinkNest "BakeryPlan$Parser" (166 : Nat) ({ cls := "BakeryPlan", name := "least", desc := "(I)I" } : Jvm.MethodName) "BakeryPlan") ∈ lw_tbl := lw_at lw_m6 166 rfl
theorem q1491 : (Jvm.Cond.methodLinkNest "BakeryPlan$Parser" (170 : Nat) ({ cls := "BakeryPlan", name := "most", desc := "(I)I" } : Jvm.MethodName) "BakeryPlan") ∈ lw_tbl := lw_at lw_m6 169 rfl
theorem q2681 : (Jvm.Cond.castable "BakeryPlan$Parser" "java/lang/Object") ∈ lw_tbl := lw_at lw_m11 159 rfl
theorem in_X9 : ∀ w ∈ wsX90, w ∈ lw_all := lw_in wsX90 [1182, 1184, 1186, 1188, 1190, 1192, 1194] (by decide +kernel) (by decide +kernel)
/-! BakeryPlan$TextException -/
set_option maxRecDepth 100000
def RX10 : String := "BakeryPlan$TextException"
def TX10 : u_T := fun k => match k with
  | 0 => ("java/lang/Throwable", "cause", "Ljava/lang/Throwable;", false)
  | 1 => ("java/lang/Throwable", "stackTrace", "[Ljava/lang/StackTraceElement;", false)
  | 2 => ("java/lang/Throwable", "suppressedExceptions", "Ljava/util/List;", false)
  | 3 => ("java/lang/Throwable", "detailMessage", "Ljava/lang/String;", false)
  | 4 => ("java/lang/Throwable", "backtrace", "Ljava/lang/Object;", false)
  | 5 => ("java/lang/Throwable", "depth", "I", false)
  | _ => ("BakeryPlan$TextException", "offset", "I", true)
def tyX10 : Nat → FieldType := fun k => match k with
  | 0 => .object "java/lang/Throwable"
  | 1 => .array (.object "java/lang/StackTraceElement")
  | 2 => .object "java/util/List"
  | 3 => .object "java/lang/String"
  | 4 => .object "java/lang/Object"
  | 5 => .int
  | _ => .int
abbrev wsX100 : List Cond := u_ws RX10 TX10 7
theorem nmX10 : ∀ a, a < 7 → ∀ b, b < 7 → a ≠ b → (TX10 a).2.1 ≠ (TX10 b).2.1 := by decide +kernel
theorem tyX10_ok : ∀ k, k < 7 → parseFieldDescriptor (TX10 k).2.2.1 = some (tyX10 k) := by decide +kernel
abbrev cX10_init : ByteArray := prog_11_method_1_code
def yX10_init : MethodName := ⟨RX10, "<init>", "(I)V"⟩
def dkwX10_init_0 : List UInt8 := [42, 1, 1, 3, 3, 183, 0, 1, 42, 27, 181, 0, 7, 177]
abbrev dktX10_init_0 : List UInt8 := dkwX10_init_0 ++ []
theorem dksX10_init_0 : cX10_init.data.toList.drop 0 = dktX10_init_0 := by decide +kernel
theorem dX10_init_0 : decode cX10_init 0 = .ok (.aload_n 0, 1) := dk_42 (dk_at dksX10_init_0 0 rfl rfl)
theorem dX10_init_1 : decode cX10_init 1 = .ok (.aconst_null, 1) := dk_1 (dk_at dksX10_init_0 1 rfl rfl)
theorem dX10_init_2 : decode cX10_init 2 = .ok (.aconst_null, 1) := dk_1 (dk_at dksX10_init_0 2 rfl rfl)
theorem dX10_init_3 : decode cX10_init 3 = .ok (.iconst 0, 1) := dk_3 (dk_at dksX10_init_0 3 rfl rfl)
theorem dX10_init_4 : decode cX10_init 4 = .ok (.iconst 0, 1) := dk_3 (dk_at dksX10_init_0 4 rfl rfl)
theorem dX10_init_5 : decode cX10_init 5 = .ok (.invokespecial 1, 3) := dk_183 0 1 (dk_at dksX10_init_0 5 rfl rfl)
theorem dX10_init_8 : decode cX10_init 8 = .ok (.aload_n 0, 1) := dk_42 (dk_at dksX10_init_0 8 rfl rfl)
theorem dX10_init_9 : decode cX10_init 9 = .ok (.iload_n 1, 1) := dk_27 (dk_at dksX10_init_0 9 rfl rfl)
theorem dX10_init_10 : decode cX10_init 10 = .ok (.putfield 7, 3) := dk_181 0 7 (dk_at dksX10_init_0 10 rfl rfl)
theorem dX10_init_13 : decode cX10_init 13 = .ok (.return_, 1) := dk_177 (dk_at dksX10_init_0 13 rfl rfl)
theorem q153 : (Jvm.Cond.initialized "BakeryPlan$TextException") ∈ lw_all := lw_g (lw_at lw_m1 31 rfl) rfl
theorem q219 : (Jvm.Cond.selects "BakeryPlan$TextException" ({ cls := "java/lang/Throwable", name := "fillInStackTrace", desc := "()Ljava/lang/Throwable;" } : Jvm.MethodName) ({ cls := "java/lang/Throwable", name := "fillInStackTrace", desc := "()Ljava/lang/Throwable;" } : Jvm.MethodName)) ∈ lw_all := lw_g (lw_at lw_m1 97 rfl) rfl
theorem q1024 : (Jvm.Cond.selects "BakeryPlan$TextException" ({ cls := "java/lang/Object", name := "getClass", desc := "()Ljava/lang/Class;" } : Jvm.MethodName) ({ cls := "java/lang/Object", name := "getClass", desc := "()Ljava/lang/Class;" } : Jvm.MethodName)) ∈ lw_all := lw_g (lw_at lw_m4 182 rfl) rfl
theorem q1242 : (Jvm.Cond.instantiable "BakeryPlan$TextException" (7 : Nat)) ∈ lw_all := lw_g (lw_at lw_m5 160 rfl) rfl
theorem q1243 : (Jvm.Cond.castable "BakeryPlan$TextException" "BakeryPlan$TextException") ∈ lw_tbl := lw_at lw_m5 161 rfl
theorem q1244 : (Jvm.Cond.selects "BakeryPlan$TextException" ({ cls := "java/lang/Throwable", name := "fillInStackTrace", desc := "(I)Ljava/lang/Throwable;" } : Jvm.MethodName) ({ cls := "java/lang/Throwable", name := "fillInStackTrace", desc := "(I)Ljava/lang/Throwable;" } : Jvm.MethodName)) ∈ lw_all := lw_g (lw_at lw_m5 162 rfl) rfl
theorem q1245 : (Jvm.Cond.lays "BakeryPlan$TextException" "java/lang/Throwable" "cause" "Ljava/lang/Throwable;") ∈ lw_all := lw_g (lw_at lw_m5 163 rfl) rfl
theorem q1246 : (Jvm.Cond.lays "BakeryPlan$TextException" "java/lang/Throwable" "stackTrace" "[Ljava/lang/StackTraceElement;") ∈ lw_all := lw_g (lw_at lw_m5 164 rfl) rfl
theorem q1247 : (Jvm.Cond.lays "BakeryPlan$TextException" "java/lang/Throwable" "suppressedExceptions" "Ljava/util/List;") ∈ lw_all := lw_g (lw_at lw_m5 165 rfl) rfl
theorem q1248 : (Jvm.Cond.lays "BakeryPlan$TextException" "java/lang/Throwable" "detailMessage" "Ljava/lang/String;") ∈ lw_all := lw_g (lw_at lw_m5 166 rfl) rfl
theorem q1249 : (Jvm.Cond.lays "BakeryPlan$TextException" "java/lang/Throwable" "backtrace" "Ljava/lang/Object;") ∈ lw_all := lw_g (lw_at lw_m5 167 rfl) rfl
theorem q1251 : (Jvm.Cond.instanceMethod ({ cls := "BakeryPlan$TextException", name := "<init>", desc := "(I)V" } : Jvm.MethodName)) ∈ lw_all := lw_g (lw_at lw_m5 169 rfl) rfl
theorem q1252 : (Jvm.Cond.code ({ cls := "BakeryPlan$TextException", name := "<init>", desc := "(I)V" } : Jvm.MethodName) prog_11_method_1_code (2 : Nat) (Option.none : Option Jvm.ClassFile.FieldType)) ∈ lw_all := lw_g (lw_at lw_m5 170 rfl) rfl
theorem q1253 : (Jvm.Cond.methodLink "BakeryPlan$TextException" (1 : Nat) ({ cls := "java/lang/Exception", name := "<init>", desc := "(Ljava/lang/String;Ljava/lang/Throwable;ZZ)V" } : Jvm.MethodName)) ∈ lw_all := lw_g (lw_at lw_m5 171 rfl) rfl
theorem q1259 : (Jvm.Cond.fieldLink "BakeryPlan$TextException" (7 : Nat) "BakeryPlan$TextException" "offset" "I") ∈ lw_all := lw_g (lw_at lw_m5 177 rfl) rfl
theorem q1261 : (Jvm.Cond.laysFinal "BakeryPlan$TextException" "BakeryPlan$TextException" "offset" "I") ∈ lw_all := lw_g (lw_at lw_m5 179 rfl) rfl
theorem q1262 : (Jvm.Cond.soleField "BakeryPlan$TextException" "offset") ∈ lw_all := lw_g (lw_at lw_m5 180 rfl) rfl
theorem q1263 : (Jvm.Cond.lays "BakeryPlan$TextException" "java/lang/Throwable" "depth" "I") ∈ lw_all := lw_g (lw_at lw_m5 181 rfl) rfl
theorem q1264 : (Jvm.Cond.superclass "BakeryPlan$TextException" "java/lang/Exception") ∈ lw_all := lw_g (lw_at lw_m5 182 rfl) rfl
theorem q2682 : (Jvm.Cond.castable "BakeryPlan$TextException" "java/lang/Object") ∈ lw_tbl := lw_at lw_m11 160 rfl
theorem in_X10 : ∀ w ∈ wsX100, w ∈ lw_all := lw_in wsX100 [1245, 1246, 1247, 1248, 1249, 1263, 1261] (by decide +kernel) (by decide +kernel)
/-! BakeryPlan$Product -/
set_option maxRecDepth 100000
def RX11 : String := "BakeryPlan$Product"
def TX11 : u_T := fun k => match k with
  | 0 => ("BakeryPlan$Product", "name", "Ljava/lang/String;", true)
  | 1 => ("BakeryPlan$Product", "dough", "I", true)
  | 2 => ("BakeryPlan$Product", "mix", "I", true)
  | 3 => ("BakeryPlan$Product", "proof", "I", true)
  | 4 => ("BakeryPlan$Product", "window", "I", true)
  | 5 => ("BakeryPlan$Product", "bake", "I", true)
  | _ => ("BakeryPlan$Product", "heat", "I", true)
def tyX11 : Nat → FieldType := fun k => match k with
  | 0 => .object "java/lang/String"
  | 1 => .int
  | 2 => .int
  | 3 => .int
  | 4 => .int
  | 5 => .int
  | _ => .int
abbrev wsX110 : List Cond := u_ws RX11 TX11 7
theorem nmX11 : ∀ a, a < 7 → ∀ b, b < 7 → a ≠ b → (TX11 a).2.1 ≠ (TX11 b).2.1 := by decide +kernel
theorem tyX11_ok : ∀ k, k < 7 → parseFieldDescriptor (TX11 k).2.2.1 = some (tyX11 k) := by decide +kernel
abbrev cX11_init : ByteArray := prog_10_method_1_code
def yX11_init : MethodName := ⟨RX11, "<init>", "(Ljava/lang/String;IIIIII)V"⟩
def dkwX11_init_1 : List UInt8 := [181, 0, 20, 42, 21, 5, 181, 0, 23, 42, 21, 6, 181, 0, 26, 42, 21, 7, 181, 0, 29, 177]
abbrev dktX11_init_1 : List UInt8 := dkwX11_init_1 ++ []
def dkwX11_init_0 : List UInt8 := [42, 183, 0, 1, 42, 43, 181, 0, 7, 42, 28, 181, 0, 13, 42, 29, 181, 0, 17, 42, 21, 4]
abbrev dktX11_init_0 : List UInt8 := dkwX11_init_0 ++ dktX11_init_1
theorem dksX11_init_0 : cX11_init.data.toList.drop 0 = dktX11_init_0 := by decide +kernel
theorem dksX11_init_1 : cX11_init.data.toList.drop 22 = dktX11_init_1 := dk_seg dksX11_init_0 22 rfl rfl
theorem dX11_init_0 : decode cX11_init 0 = .ok (.aload_n 0, 1) := dk_42 (dk_at dksX11_init_0 0 rfl rfl)
theorem dX11_init_1 : decode cX11_init 1 = .ok (.invokespecial 1, 3) := dk_183 0 1 (dk_at dksX11_init_0 1 rfl rfl)
theorem dX11_init_4 : decode cX11_init 4 = .ok (.aload_n 0, 1) := dk_42 (dk_at dksX11_init_0 4 rfl rfl)
theorem dX11_init_5 : decode cX11_init 5 = .ok (.aload_n 1, 1) := dk_43 (dk_at dksX11_init_0 5 rfl rfl)
theorem dX11_init_6 : decode cX11_init 6 = .ok (.putfield 7, 3) := dk_181 0 7 (dk_at dksX11_init_0 6 rfl rfl)
theorem dX11_init_9 : decode cX11_init 9 = .ok (.aload_n 0, 1) := dk_42 (dk_at dksX11_init_0 9 rfl rfl)
theorem dX11_init_10 : decode cX11_init 10 = .ok (.iload_n 2, 1) := dk_28 (dk_at dksX11_init_0 10 rfl rfl)
theorem dX11_init_11 : decode cX11_init 11 = .ok (.putfield 13, 3) := dk_181 0 13 (dk_at dksX11_init_0 11 rfl rfl)
theorem dX11_init_14 : decode cX11_init 14 = .ok (.aload_n 0, 1) := dk_42 (dk_at dksX11_init_0 14 rfl rfl)
theorem dX11_init_15 : decode cX11_init 15 = .ok (.iload_n 3, 1) := dk_29 (dk_at dksX11_init_0 15 rfl rfl)
theorem dX11_init_16 : decode cX11_init 16 = .ok (.putfield 17, 3) := dk_181 0 17 (dk_at dksX11_init_0 16 rfl rfl)
theorem dX11_init_19 : decode cX11_init 19 = .ok (.aload_n 0, 1) := dk_42 (dk_at dksX11_init_0 19 rfl rfl)
theorem dX11_init_20 : decode cX11_init 20 = .ok (.iload 4, 2) := dk_21 4 (dk_at dksX11_init_0 20 rfl rfl)
theorem dX11_init_22 : decode cX11_init 22 = .ok (.putfield 20, 3) := dk_181 0 20 (dk_at dksX11_init_1 0 rfl rfl)
theorem dX11_init_25 : decode cX11_init 25 = .ok (.aload_n 0, 1) := dk_42 (dk_at dksX11_init_1 3 rfl rfl)
theorem dX11_init_26 : decode cX11_init 26 = .ok (.iload 5, 2) := dk_21 5 (dk_at dksX11_init_1 4 rfl rfl)
theorem dX11_init_28 : decode cX11_init 28 = .ok (.putfield 23, 3) := dk_181 0 23 (dk_at dksX11_init_1 6 rfl rfl)
theorem dX11_init_31 : decode cX11_init 31 = .ok (.aload_n 0, 1) := dk_42 (dk_at dksX11_init_1 9 rfl rfl)
theorem dX11_init_32 : decode cX11_init 32 = .ok (.iload 6, 2) := dk_21 6 (dk_at dksX11_init_1 10 rfl rfl)
theorem dX11_init_34 : decode cX11_init 34 = .ok (.putfield 26, 3) := dk_181 0 26 (dk_at dksX11_init_1 12 rfl rfl)
theorem dX11_init_37 : decode cX11_init 37 = .ok (.aload_n 0, 1) := dk_42 (dk_at dksX11_init_1 15 rfl rfl)
theorem dX11_init_38 : decode cX11_init 38 = .ok (.iload 7, 2) := dk_21 7 (dk_at dksX11_init_1 16 rfl rfl)
theorem dX11_init_40 : decode cX11_init 40 = .ok (.putfield 29, 3) := dk_181 0 29 (dk_at dksX11_init_1 18 rfl rfl)
theorem dX11_init_43 : decode cX11_init 43 = .ok (.return_, 1) := dk_177 (dk_at dksX11_init_1 21 rfl rfl)
theorem q155 : (Jvm.Cond.initialized "BakeryPlan$Product") ∈ lw_all := lw_g (lw_at lw_m1 33 rfl) rfl
theorem q1023 : (Jvm.Cond.selects "BakeryPlan$Product" ({ cls := "java/lang/Object", name := "getClass", desc := "()Ljava/lang/Class;" } : Jvm.MethodName) ({ cls := "java/lang/Object", name := "getClass", desc := "()Ljava/lang/Class;" } : Jvm.MethodName)) ∈ lw_all := lw_g (lw_at lw_m4 181 rfl) rfl
theorem q1357 : (Jvm.Cond.instantiable "BakeryPlan$Product" (7 : Nat)) ∈ lw_all := lw_g (lw_at lw_m6 35 rfl) rfl
theorem q1359 : (Jvm.Cond.instanceMethod ({ cls := "BakeryPlan$Product", name := "<init>", desc := "(Ljava/lang/String;IIIIII)V" } : Jvm.MethodName)) ∈ lw_all := lw_g (lw_at lw_m6 37 rfl) rfl
theorem q1360 : (Jvm.Cond.code ({ cls := "BakeryPlan$Product", name := "<init>", desc := "(Ljava/lang/String;IIIIII)V" } : Jvm.MethodName) prog_10_method_1_code (8 : Nat) (Option.none : Option Jvm.ClassFile.FieldType)) ∈ lw_all := lw_g (lw_at lw_m6 38 rfl) rfl
theorem q1361 : (Jvm.Cond.methodLink "BakeryPlan$Product" (1 : Nat) ({ cls := "java/lang/Object", name := "<init>", desc := "()V" } : Jvm.MethodName)) ∈ lw_all := lw_g (lw_at lw_m6 39 rfl) rfl
theorem q1362 : (Jvm.Cond.fieldLink "BakeryPlan$Product" (7 : Nat) "BakeryPlan$Product" "name" "Ljava/lang/String;") ∈ lw_all := lw_g (lw_at lw_m6 40 rfl) rfl
theorem q1365 : (Jvm.Cond.fieldLink "BakeryPlan$Product" (13 : Nat) "BakeryPlan$Product" "dough" "I") ∈ lw_all := lw_g (lw_at lw_m6 43 rfl) rfl
theorem q1367 : (Jvm.Cond.fieldLink "BakeryPlan$Product" (17 : Nat) "BakeryPlan$Product" "mix" "I") ∈ lw_all := lw_g (lw_at lw_m6 45 rfl) rfl
theorem q1369 : (Jvm.Cond.fieldLink "BakeryPlan$Product" (20 : Nat) "BakeryPlan$Product" "proof" "I") ∈ lw_all := lw_g (lw_at lw_m6 47 rfl) rfl
theorem q1371 : (Jvm.Cond.fieldLink "BakeryPlan$Product" (23 : Nat) "BakeryPlan$Product" "window" "I") ∈ lw_all := lw_g (lw_at lw_m6 49 rfl) rfl
theorem q1373 : (Jvm.Cond.fieldLink "BakeryPlan$Product" (26 : Nat) "BakeryPlan$Product" "bake" "I") ∈ lw_all := lw_g (lw_at lw_m6 51 rfl) rfl
theorem q1375 : (Jvm.Cond.fieldLink "BakeryPlan$Product" (29 : Nat) "BakeryPlan$Product" "heat" "I") ∈ lw_all := lw_g (lw_at lw_m6 53 rfl) rfl
theorem q1377 : (Jvm.Cond.laysFinal "BakeryPlan$Product" "BakeryPlan$Product" "name" "Ljava/lang/String;") ∈ lw_all := lw_g (lw_at lw_m6 55 rfl) rfl
theorem q1378 : (Jvm.Cond.soleField "BakeryPlan$Product" "name") ∈ lw_all := lw_g (lw_at lw_m6 56 rfl) rfl
theorem q1379 : (Jvm.Cond.laysFinal "BakeryPlan$Product" "BakeryPlan$Product" "dough" "I") ∈ lw_all := lw_g (lw_at lw_m6 57 rfl) rfl
theorem q1380 : (Jvm.Cond.soleField "BakeryPlan$Product" "dough") ∈ lw_all := lw_g (lw_at lw_m6 58 rfl) rfl
theorem q1381 : (Jvm.Cond.laysFinal "BakeryPlan$Product" "BakeryPlan$Product" "mix" "I") ∈ lw_all := lw_g (lw_at lw_m6 59 rfl) rfl
theorem q1382 : (Jvm.Cond.soleField "BakeryPlan$Product" "mix") ∈ lw_all := lw_g (lw_at lw_m6 60 rfl) rfl
theorem q1383 : (Jvm.Cond.laysFinal "BakeryPlan$Product" "BakeryPlan$Product" "proof" "I") ∈ lw_all := lw_g (lw_at lw_m6 61 rfl) rfl
theorem q1384 : (Jvm.Cond.soleField "BakeryPlan$Product" "proof") ∈ lw_all := lw_g (lw_at lw_m6 62 rfl) rfl
theorem q1385 : (Jvm.Cond.laysFinal "BakeryPlan$Product" "BakeryPlan$Product" "window" "I") ∈ lw_all := lw_g (lw_at lw_m6 63 rfl) rfl
theorem q1386 : (Jvm.Cond.soleField "BakeryPlan$Product" "window") ∈ lw_all := lw_g (lw_at lw_m6 64 rfl) rfl
theorem q1387 : (Jvm.Cond.laysFinal "BakeryPlan$Product" "BakeryPlan$Product" "bake" "I") ∈ lw_all := lw_g (lw_at lw_m6 65 rfl) rfl
theorem q1388 : (Jvm.Cond.soleField "BakeryPlan$Product" "bake") ∈ lw_all := lw_g (lw_at lw_m6 66 rfl) rfl
theorem q1389 : (Jvm.Cond.laysFinal "BakeryPlan$Product" "BakeryPlan$Product" "heat" "I") ∈ lw_all := lw_g (lw_at lw_m6 67 rfl) rfl
theorem q1390 : (Jvm.Cond.soleField "BakeryPlan$Product" "heat") ∈ lw_all := lw_g (lw_at lw_m6 68 rfl) rfl
theorem q1391 : (Jvm.Cond.superclass "BakeryPlan$Product" "java/lang/Object") ∈ lw_all := lw_g (lw_at lw_m6 69 rfl) rfl
theorem q2684 : (Jvm.Cond.castable "BakeryPlan$Product" "java/lang/Object") ∈ lw_tbl := lw_at lw_m11 162 rfl
theorem in_X11 : ∀ w ∈ wsX110, w ∈ lw_all := lw_in wsX110 [1377, 1379, 1381, 1383, 1385, 1387, 1389] (by decide +kernel) (by decide +kernel)
/-! BakeryPlan$Batch -/
set_option maxRecDepth 100000
def RX12 : String := "BakeryPlan$Batch"
def TX12 : u_T := fun k => match k with
  | 0 => ("BakeryPlan$Batch", "product", "I", true)
  | 1 => ("BakeryPlan$Batch", "start", "I", false)
  | _ => ("BakeryPlan$Batch", "wave", "I", false)
def tyX12 : Nat → FieldType := fun k => match k with
  | 0 => .int
  | 1 => .int
  | _ => .int
abbrev wsX120 : List Cond := u_ws RX12 TX12 3
theorem nmX12 : ∀ a, a < 3 → ∀ b, b < 3 → a ≠ b → (TX12 a).2.1 ≠ (TX12 b).2.1 := by decide +kernel
theorem tyX12_ok : ∀ k, k < 3 → parseFieldDescriptor (TX12 k).2.2.1 = some (tyX12 k) := by decide +kernel
abbrev cX12_copy : ByteArray := prog_2_method_2_code
def yX12_copy : MethodName := ⟨RX12, "copy", "()LBakeryPlan$Batch;"⟩
def dkwX12_copy_0 : List UInt8 := [187, 0, 8, 89, 42, 180, 0, 7, 42, 180, 0, 13, 42, 180, 0, 16, 183, 0, 19, 176]
abbrev dktX12_copy_0 : List UInt8 := dkwX12_copy_0 ++ []
theorem dksX12_copy_0 : cX12_copy.data.toList.drop 0 = dktX12_copy_0 := by decide +kernel
theorem dX12_copy_0 : decode cX12_copy 0 = .ok (.new 8, 3) := dk_187 0 8 (dk_at dksX12_copy_0 0 rfl rfl)
theorem dX12_copy_3 : decode cX12_copy 3 = .ok (.dup, 1) := dk_89 (dk_at dksX12_copy_0 3 rfl rfl)
theorem dX12_copy_4 : decode cX12_copy 4 = .ok (.aload_n 0, 1) := dk_42 (dk_at dksX12_copy_0 4 rfl rfl)
theorem dX12_copy_5 : decode cX12_copy 5 = .ok (.getfield 7, 3) := dk_180 0 7 (dk_at dksX12_copy_0 5 rfl rfl)
theorem dX12_copy_8 : decode cX12_copy 8 = .ok (.aload_n 0, 1) := dk_42 (dk_at dksX12_copy_0 8 rfl rfl)
theorem dX12_copy_9 : decode cX12_copy 9 = .ok (.getfield 13, 3) := dk_180 0 13 (dk_at dksX12_copy_0 9 rfl rfl)
theorem dX12_copy_12 : decode cX12_copy 12 = .ok (.aload_n 0, 1) := dk_42 (dk_at dksX12_copy_0 12 rfl rfl)
theorem dX12_copy_13 : decode cX12_copy 13 = .ok (.getfield 16, 3) := dk_180 0 16 (dk_at dksX12_copy_0 13 rfl rfl)
theorem dX12_copy_16 : decode cX12_copy 16 = .ok (.invokespecial 19, 3) := dk_183 0 19 (dk_at dksX12_copy_0 16 rfl rfl)
theorem dX12_copy_19 : decode cX12_copy 19 = .ok (.areturn, 1) := dk_176 (dk_at dksX12_copy_0 19 rfl rfl)
abbrev cX12_init : ByteArray := prog_2_method_1_code
def yX12_init : MethodName := ⟨RX12, "<init>", "(III)V"⟩
def dkwX12_init_0 : List UInt8 := [42, 183, 0, 1, 42, 27, 181, 0, 7, 42, 28, 181, 0, 13, 42, 29, 181, 0, 16, 177]
abbrev dktX12_init_0 : List UInt8 := dkwX12_init_0 ++ []
theorem dksX12_init_0 : cX12_init.data.toList.drop 0 = dktX12_init_0 := by decide +kernel
theorem dX12_init_0 : decode cX12_init 0 = .ok (.aload_n 0, 1) := dk_42 (dk_at dksX12_init_0 0 rfl rfl)
theorem dX12_init_1 : decode cX12_init 1 = .ok (.invokespecial 1, 3) := dk_183 0 1 (dk_at dksX12_init_0 1 rfl rfl)
theorem dX12_init_4 : decode cX12_init 4 = .ok (.aload_n 0, 1) := dk_42 (dk_at dksX12_init_0 4 rfl rfl)
theorem dX12_init_5 : decode cX12_init 5 = .ok (.iload_n 1, 1) := dk_27 (dk_at dksX12_init_0 5 rfl rfl)
theorem dX12_init_6 : decode cX12_init 6 = .ok (.putfield 7, 3) := dk_181 0 7 (dk_at dksX12_init_0 6 rfl rfl)
theorem dX12_init_9 : decode cX12_init 9 = .ok (.aload_n 0, 1) := dk_42 (dk_at dksX12_init_0 9 rfl rfl)
theorem dX12_init_10 : decode cX12_init 10 = .ok (.iload_n 2, 1) := dk_28 (dk_at dksX12_init_0 10 rfl rfl)
theorem dX12_init_11 : decode cX12_init 11 = .ok (.putfield 13, 3) := dk_181 0 13 (dk_at dksX12_init_0 11 rfl rfl)
theorem dX12_init_14 : decode cX12_init 14 = .ok (.aload_n 0, 1) := dk_42 (dk_at dksX12_init_0 14 rfl rfl)
theorem dX12_init_15 : decode cX12_init 15 = .ok (.iload_n 3, 1) := dk_29 (dk_at dksX12_init_0 15 rfl rfl)
theorem dX12_init_16 : decode cX12_init 16 = .ok (.putfield 16, 3) := dk_181 0 16 (dk_at dksX12_init_0 16 rfl rfl)
theorem dX12_init_19 : decode cX12_init 19 = .ok (.return_, 1) := dk_177 (dk_at dksX12_init_0 19 rfl rfl)
theorem q156 : (Jvm.Cond.initialized "BakeryPlan$Batch") ∈ lw_all := lw_g (lw_at lw_m1 34 rfl) rfl
theorem q964 : (Jvm.Cond.instanceMethod ({ cls := "BakeryPlan$Batch", name := "copy", desc := "()LBakeryPlan$Batch;" } : Jvm.MethodName)) ∈ lw_all := lw_g (lw_at lw_m4 122 rfl) rfl
theorem q965 : (Jvm.Cond.selects "BakeryPlan$Batch" ({ cls := "BakeryPlan$Batch", name := "copy", desc := "()LBakeryPlan$Batch;" } : Jvm.MethodName) ({ cls := "BakeryPlan$Batch", name := "copy", desc := "()LBakeryPlan$Batch;" } : Jvm.MethodName)) ∈ lw_all := lw_g (lw_at lw_m4 123 rfl) rfl
theorem q966 : (Jvm.Cond.code ({ cls := "BakeryPlan$Batch", name := "copy", desc := "()LBakeryPlan$Batch;" } : Jvm.MethodName) prog_2_method_2_code (1 : Nat) (Option.some (Jvm.ClassFile.FieldType.object "BakeryPlan$Batch"))) ∈ lw_all := lw_g (lw_at lw_m4 124 rfl) rfl
theorem q967 : (Jvm.Cond.classLink "BakeryPlan$Batch" (8 : Nat) "BakeryPlan$Batch") ∈ lw_all := lw_g (lw_at lw_m4 125 rfl) rfl
theorem q968 : (Jvm.Cond.instantiable "BakeryPlan$Batch" (3 : Nat)) ∈ lw_all := lw_g (lw_at lw_m4 126 rfl) rfl
theorem q969 : (Jvm.Cond.methodLink "BakeryPlan$Batch" (19 : Nat) ({ cls := "BakeryPlan$Batch", name := "<init>", desc := "(III)V" } : Jvm.MethodName)) ∈ lw_all := lw_g (lw_at lw_m4 127 rfl) rfl
theorem q970 : (Jvm.Cond.instanceMethod ({ cls := "BakeryPlan$Batch", name := "<init>", desc := "(III)V" } : Jvm.MethodName)) ∈ lw_all := lw_g (lw_at lw_m4 128 rfl) rfl
theorem q971 : (Jvm.Cond.code ({ cls := "BakeryPlan$Batch", name := "<init>", desc := "(III)V" } : Jvm.MethodName) prog_2_method_1_code (4 : Nat) (Option.none : Option Jvm.ClassFile.FieldType)) ∈ lw_all := lw_g (lw_at lw_m4 129 rfl) rfl
theorem q972 : (Jvm.Cond.methodLink "BakeryPlan$Batch" (1 : Nat) ({ cls := "java/lang/Object", name := "<init>", desc := "()V" } : Jvm.MethodName)) ∈ lw_all := lw_g (lw_at lw_m4 130 rfl) rfl
theorem q973 : (Jvm.Cond.fieldLink "BakeryPlan$Batch" (7 : Nat) "BakeryPlan$Batch" "product" "I") ∈ lw_all := lw_g (lw_at lw_m4 131 rfl) rfl
theorem q976 : (Jvm.Cond.fieldLink "BakeryPlan$Batch" (13 : Nat) "BakeryPlan$Batch" "start" "I") ∈ lw_all := lw_g (lw_at lw_m4 134 rfl) rfl
theorem q979 : (Jvm.Cond.fieldLink "BakeryPlan$Batch" (16 : Nat) "BakeryPlan$Batch" "wave" "I") ∈ lw_all := lw_g (lw_at lw_m4 137 rfl) rfl
theorem q983 : (Jvm.Cond.laysFinal "BakeryPlan$Batch" "BakeryPlan$Batch" "product" "I") ∈ lw_all := lw_g (lw_at lw_m4 141 rfl) rfl
theorem q984 : (Jvm.Cond.soleField "BakeryPlan$Batch" "product") ∈ lw_all := lw_g (lw_at lw_m4 142 rfl) rfl
theorem q985 : (Jvm.Cond.lays "BakeryPlan$Batch" "BakeryPlan$Batch" "start" "I") ∈ lw_all := lw_g (lw_at lw_m4 143 rfl) rfl
theorem q986 : (Jvm.Cond.soleField "BakeryPlan$Batch" "start") ∈ lw_all := lw_g (lw_at lw_m4 144 rfl) rfl
theorem q987 : (Jvm.Cond.lays "BakeryPlan$Batch" "BakeryPlan$Batch" "wave" "I") ∈ lw_all := lw_g (lw_at lw_m4 145 rfl) rfl
theorem q988 : (Jvm.Cond.soleField "BakeryPlan$Batch" "wave") ∈ lw_all := lw_g (lw_at lw_m4 146 rfl) rfl
theorem q989 : (Jvm.Cond.superclass "BakeryPlan$Batch" "java/lang/Object") ∈ lw_all := lw_g (lw_at lw_m4 147 rfl) rfl
theorem q1016 : (Jvm.Cond.selects "BakeryPlan$Batch" ({ cls := "java/lang/Object", name := "getClass", desc := "()Ljava/lang/Class;" } : Jvm.MethodName) ({ cls := "java/lang/Object", name := "getClass", desc := "()Ljava/lang/Class;" } : Jvm.MethodName)) ∈ lw_all := lw_g (lw_at lw_m4 174 rfl) rfl
theorem q2685 : (Jvm.Cond.castable "BakeryPlan$Batch" "java/lang/Object") ∈ lw_tbl := lw_at lw_m11 163 rfl
theorem in_X12 : ∀ w ∈ wsX120, w ∈ lw_all := lw_in wsX120 [983, 985, 987] (by decide +kernel) (by decide +kernel)
