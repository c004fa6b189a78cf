/-! BakeryPlan -/
set_option maxRecDepth 100000
def RX1 : String := "BakeryPlan"
def TX1 : u_T := fun k => match k with
  | 0 => ("BakeryPlan", "plan", "LBakeryPlan$Plan;", false)
  | 1 => ("BakeryPlan", "day", "LBakeryPlan$Day;", true)
  | 2 => ("BakeryPlan", "history", "Ljava/util/ArrayDeque;", true)
  | 3 => ("BakeryPlan", "buffer", "[B", true)
  | 4 => ("BakeryPlan", "length", "I", false)
  | 5 => ("BakeryPlan", "errorOffset", "I", false)
  | _ => ("BakeryPlan", "formatted", "Ljava/lang/String;", false)
def tyX1 : Nat → FieldType := fun k => match k with
  | 0 => .object "BakeryPlan$Plan"
  | 1 => .object "BakeryPlan$Day"
  | 2 => .object "java/util/ArrayDeque"
  | 3 => .array .byte
  | 4 => .int
  | 5 => .int
  | _ => .object "java/lang/String"
abbrev wsX10 : List Cond := u_ws RX1 TX1 7
theorem nmX1 : ∀ a, a < 7 → ∀ b, b < 7 → a ≠ b → (TX1 a).2.1 ≠ (TX1 b).2.1 := by decide +kernel
theorem tyX1_ok : ∀ k, k < 7 → parseFieldDescriptor (TX1 k).2.2.1 = some (tyX1 k) := by decide +kernel
abbrev cX1_init : ByteArray := prog_1_method_7_code
def yX1_init : MethodName := ⟨RX1, "<init>", "()V"⟩
def dkwX1_init_3 : List UInt8 := [42, 18, 60, 181, 0, 62, 177]
abbrev dktX1_init_3 : List UInt8 := dkwX1_init_3 ++ []
def dkwX1_init_2 : List UInt8 := [187, 0, 45, 89, 183, 0, 47, 181, 0, 48, 42, 17, 2, 188, 188, 8, 181, 0, 52, 42, 2, 181, 0, 56]
abbrev dktX1_init_2 : List UInt8 := dkwX1_init_2 ++ dktX1_init_3
def dkwX1_init_1 : List UInt8 := [183, 0, 29, 181, 0, 32, 42, 187, 0, 36, 89, 42, 180, 0, 32, 183, 0, 38, 181, 0, 41, 42]
abbrev dktX1_init_1 : List UInt8 := dkwX1_init_1 ++ dktX1_init_2
def dkwX1_init_0 : List UInt8 := [42, 183, 0, 19, 42, 187, 0, 22, 89, 187, 0, 24, 89, 16, 8, 183, 0, 26, 16, 6, 188, 10]
abbrev dktX1_init_0 : List UInt8 := dkwX1_init_0 ++ dktX1_init_1
theorem dksX1_init_0 : cX1_init.data.toList.drop 0 = dktX1_init_0 := by decide +kernel
theorem dksX1_init_1 : cX1_init.data.toList.drop 22 = dktX1_init_1 := dk_seg dksX1_init_0 22 rfl rfl
theorem dksX1_init_2 : cX1_init.data.toList.drop 44 = dktX1_init_2 := dk_seg dksX1_init_1 22 rfl rfl
theorem dksX1_init_3 : cX1_init.data.toList.drop 68 = dktX1_init_3 := dk_seg dksX1_init_2 24 rfl rfl
theorem dX1_init_0 : decode cX1_init 0 = .ok (.aload_n 0, 1) := dk_42 (dk_at dksX1_init_0 0 rfl rfl)
theorem dX1_init_1 : decode cX1_init 1 = .ok (.invokespecial 19, 3) := dk_183 0 19 (dk_at dksX1_init_0 1 rfl rfl)
theorem dX1_init_4 : decode cX1_init 4 = .ok (.aload_n 0, 1) := dk_42 (dk_at dksX1_init_0 4 rfl rfl)
theorem dX1_init_5 : decode cX1_init 5 = .ok (.new 22, 3) := dk_187 0 22 (dk_at dksX1_init_0 5 rfl rfl)
theorem dX1_init_8 : decode cX1_init 8 = .ok (.dup, 1) := dk_89 (dk_at dksX1_init_0 8 rfl rfl)
theorem dX1_init_9 : decode cX1_init 9 = .ok (.new 24, 3) := dk_187 0 24 (dk_at dksX1_init_0 9 rfl rfl)
theorem dX1_init_12 : decode cX1_init 12 = .ok (.dup, 1) := dk_89 (dk_at dksX1_init_0 12 rfl rfl)
theorem dX1_init_13 : decode cX1_init 13 = .ok (.bipush 8, 2) := dk_16 8 (dk_at dksX1_init_0 13 rfl rfl)
theorem dX1_init_15 : decode cX1_init 15 = .ok (.invokespecial 26, 3) := dk_183 0 26 (dk_at dksX1_init_0 15 rfl rfl)
theorem dX1_init_18 : decode cX1_init 18 = .ok (.bipush 6, 2) := dk_16 6 (dk_at dksX1_init_0 18 rfl rfl)
theorem dX1_init_20 : decode cX1_init 20 = .ok (.newarray .int, 2) := dk_188_10 (dk_at dksX1_init_0 20 rfl rfl)
theorem dX1_init_22 : decode cX1_init 22 = .ok (.invokespecial 29, 3) := dk_183 0 29 (dk_at dksX1_init_1 0 rfl rfl)
theorem dX1_init_25 : decode cX1_init 25 = .ok (.putfield 32, 3) := dk_181 0 32 (dk_at dksX1_init_1 3 rfl rfl)
theorem dX1_init_28 : decode cX1_init 28 = .ok (.aload_n 0, 1) := dk_42 (dk_at dksX1_init_1 6 rfl rfl)
theorem dX1_init_29 : decode cX1_init 29 = .ok (.new 36, 3) := dk_187 0 36 (dk_at dksX1_init_1 7 rfl rfl)
theorem dX1_init_32 : decode cX1_init 32 = .ok (.dup, 1) := dk_89 (dk_at dksX1_init_1 10 rfl rfl)
theorem dX1_init_33 : decode cX1_init 33 = .ok (.aload_n 0, 1) := dk_42 (dk_at dksX1_init_1 11 rfl rfl)
theorem dX1_init_34 : decode cX1_init 34 = .ok (.getfield 32, 3) := dk_180 0 32 (dk_at dksX1_init_1 12 rfl rfl)
theorem dX1_init_37 : decode cX1_init 37 = .ok (.invokespecial 38, 3) := dk_183 0 38 (dk_at dksX1_init_1 15 rfl rfl)
theorem dX1_init_40 : decode cX1_init 40 = .ok (.putfield 41, 3) := dk_181 0 41 (dk_at dksX1_init_1 18 rfl rfl)
theorem dX1_init_43 : decode cX1_init 43 = .ok (.aload_n 0, 1) := dk_42 (dk_at dksX1_init_1 21 rfl rfl)
theorem dX1_init_44 : decode cX1_init 44 = .ok (.new 45, 3) := dk_187 0 45 (dk_at dksX1_init_2 0 rfl rfl)
theorem dX1_init_47 : decode cX1_init 47 = .ok (.dup, 1) := dk_89 (dk_at dksX1_init_2 3 rfl rfl)
theorem dX1_init_48 : decode cX1_init 48 = .ok (.invokespecial 47, 3) := dk_183 0 47 (dk_at dksX1_init_2 4 rfl rfl)
theorem dX1_init_51 : decode cX1_init 51 = .ok (.putfield 48, 3) := dk_181 0 48 (dk_at dksX1_init_2 7 rfl rfl)
theorem dX1_init_54 : decode cX1_init 54 = .ok (.aload_n 0, 1) := dk_42 (dk_at dksX1_init_2 10 rfl rfl)
theorem dX1_init_55 : decode cX1_init 55 = .ok (.sipush 700, 3) := dk_17 2 188 (dk_at dksX1_init_2 11 rfl rfl)
theorem dX1_init_58 : decode cX1_init 58 = .ok (.newarray .byte, 2) := dk_188_8 (dk_at dksX1_init_2 14 rfl rfl)
theorem dX1_init_60 : decode cX1_init 60 = .ok (.putfield 52, 3) := dk_181 0 52 (dk_at dksX1_init_2 16 rfl rfl)
theorem dX1_init_63 : decode cX1_init 63 = .ok (.aload_n 0, 1) := dk_42 (dk_at dksX1_init_2 19 rfl rfl)
theorem dX1_init_64 : decode cX1_init 64 = .ok (.iconst (-1), 1) := dk_2 (dk_at dksX1_init_2 20 rfl rfl)
theorem dX1_init_65 : decode cX1_init 65 = .ok (.putfield 56, 3) := dk_181 0 56 (dk_at dksX1_init_2 21 rfl rfl)
theorem dX1_init_68 : decode cX1_init 68 = .ok (.aload_n 0, 1) := dk_42 (dk_at dksX1_init_3 0 rfl rfl)
theorem dX1_init_69 : decode cX1_init 69 = .ok (.ldc 60, 2) := dk_18 60 (dk_at dksX1_init_3 1 rfl rfl)
theorem dX1_init_71 : decode cX1_init 71 = .ok (.putfield 62, 3) := dk_181 0 62 (dk_at dksX1_init_3 3 rfl rfl)
theorem dX1_init_74 : decode cX1_init 74 = .ok (.return_, 1) := dk_177 (dk_at dksX1_init_3 6 rfl rfl)
abbrev cX1_errorOffset : ByteArray := prog_1_method_12_code
def yX1_errorOffset : MethodName := ⟨RX1, "errorOffset", "()I"⟩
theorem dX1_errorOffset_0 : decode cX1_errorOffset 0 = .ok (.aload_n 0, 1) := by decide +kernel
theorem dX1_errorOffset_1 : decode cX1_errorOffset 1 = .ok (.getfield 56, 3) := by decide +kernel
theorem dX1_errorOffset_4 : decode cX1_errorOffset 4 = .ok (.ireturn, 1) := by decide +kernel
abbrev cX1_products : ByteArray := prog_1_method_14_code
def yX1_products : MethodName := ⟨RX1, "products", "()I"⟩
def dkwX1_products_0 : List UInt8 := [42, 180, 0, 32, 180, 0, 129, 182, 0, 118, 172]
abbrev dktX1_products_0 : List UInt8 := dkwX1_products_0 ++ []
theorem dksX1_products_0 : cX1_products.data.toList.drop 0 = dktX1_products_0 := by decide +kernel
theorem dX1_products_0 : decode cX1_products 0 = .ok (.aload_n 0, 1) := dk_42 (dk_at dksX1_products_0 0 rfl rfl)
theorem dX1_products_1 : decode cX1_products 1 = .ok (.getfield 32, 3) := dk_180 0 32 (dk_at dksX1_products_0 1 rfl rfl)
theorem dX1_products_4 : decode cX1_products 4 = .ok (.getfield 129, 3) := dk_180 0 129 (dk_at dksX1_products_0 4 rfl rfl)
theorem dX1_products_7 : decode cX1_products 7 = .ok (.invokevirtual 118, 3) := dk_182 0 118 (dk_at dksX1_products_0 7 rfl rfl)
theorem dX1_products_10 : decode cX1_products 10 = .ok (.ireturn, 1) := dk_172 (dk_at dksX1_products_0 10 rfl rfl)
abbrev cX1_waves : ByteArray := prog_1_method_15_code
def yX1_waves : MethodName := ⟨RX1, "waves", "()I"⟩
def dkwX1_waves_0 : List UInt8 := [42, 180, 0, 32, 180, 0, 132, 172]
abbrev dktX1_waves_0 : List UInt8 := dkwX1_waves_0 ++ []
theorem dksX1_waves_0 : cX1_waves.data.toList.drop 0 = dktX1_waves_0 := by decide +kernel
theorem dX1_waves_0 : decode cX1_waves 0 = .ok (.aload_n 0, 1) := dk_42 (dk_at dksX1_waves_0 0 rfl rfl)
theorem dX1_waves_1 : decode cX1_waves 1 = .ok (.getfield 32, 3) := dk_180 0 32 (dk_at dksX1_waves_0 1 rfl rfl)
theorem dX1_waves_4 : decode cX1_waves 4 = .ok (.getfield 132, 3) := dk_180 0 132 (dk_at dksX1_waves_0 4 rfl rfl)
theorem dX1_waves_7 : decode cX1_waves 7 = .ok (.ireturn, 1) := dk_172 (dk_at dksX1_waves_0 7 rfl rfl)
abbrev cX1_batches : ByteArray := prog_1_method_16_code
def yX1_batches : MethodName := ⟨RX1, "batches", "()I"⟩
def dkwX1_batches_0 : List UInt8 := [42, 180, 0, 32, 180, 0, 114, 182, 0, 118, 172]
abbrev dktX1_batches_0 : List UInt8 := dkwX1_batches_0 ++ []
theorem dksX1_batches_0 : cX1_batches.data.toList.drop 0 = dktX1_batches_0 := by decide +kernel
theorem dX1_batches_0 : decode cX1_batches 0 = .ok (.aload_n 0, 1) := dk_42 (dk_at dksX1_batches_0 0 rfl rfl)
theorem dX1_batches_1 : decode cX1_batches 1 = .ok (.getfield 32, 3) := dk_180 0 32 (dk_at dksX1_batches_0 1 rfl rfl)
theorem dX1_batches_4 : decode cX1_batches 4 = .ok (.getfield 114, 3) := dk_180 0 114 (dk_at dksX1_batches_0 4 rfl rfl)
theorem dX1_batches_7 : decode cX1_batches 7 = .ok (.invokevirtual 118, 3) := dk_182 0 118 (dk_at dksX1_batches_0 7 rfl rfl)
theorem dX1_batches_10 : decode cX1_batches 10 = .ok (.ireturn, 1) := dk_172 (dk_at dksX1_batches_0 10 rfl rfl)
abbrev cX1_policy : ByteArray := prog_1_method_22_code
def yX1_policy : MethodName := ⟨RX1, "policy", "()I"⟩
def dkwX1_policy_0 : List UInt8 := [42, 180, 0, 32, 180, 0, 157, 172]
abbrev dktX1_policy_0 : List UInt8 := dkwX1_policy_0 ++ []
theorem dksX1_policy_0 : cX1_policy.data.toList.drop 0 = dktX1_policy_0 := by decide +kernel
theorem dX1_policy_0 : decode cX1_policy 0 = .ok (.aload_n 0, 1) := dk_42 (dk_at dksX1_policy_0 0 rfl rfl)
theorem dX1_policy_1 : decode cX1_policy 1 = .ok (.getfield 32, 3) := dk_180 0 32 (dk_at dksX1_policy_0 1 rfl rfl)
theorem dX1_policy_4 : decode cX1_policy 4 = .ok (.getfield 157, 3) := dk_180 0 157 (dk_at dksX1_policy_0 4 rfl rfl)
theorem dX1_policy_7 : decode cX1_policy 7 = .ok (.ireturn, 1) := dk_172 (dk_at dksX1_policy_0 7 rfl rfl)
abbrev cX1_lastEnd : ByteArray := prog_1_method_36_code
def yX1_lastEnd : MethodName := ⟨RX1, "lastEnd", "()I"⟩
def dkwX1_lastEnd_0 : List UInt8 := [42, 182, 0, 164, 182, 0, 209, 172]
abbrev dktX1_lastEnd_0 : List UInt8 := dkwX1_lastEnd_0 ++ []
theorem dksX1_lastEnd_0 : cX1_lastEnd.data.toList.drop 0 = dktX1_lastEnd_0 := by decide +kernel
theorem dX1_lastEnd_0 : decode cX1_lastEnd 0 = .ok (.aload_n 0, 1) := dk_42 (dk_at dksX1_lastEnd_0 0 rfl rfl)
theorem dX1_lastEnd_1 : decode cX1_lastEnd 1 = .ok (.invokevirtual 164, 3) := dk_182 0 164 (dk_at dksX1_lastEnd_0 1 rfl rfl)
theorem dX1_lastEnd_4 : decode cX1_lastEnd 4 = .ok (.invokevirtual 209, 3) := dk_182 0 209 (dk_at dksX1_lastEnd_0 4 rfl rfl)
theorem dX1_lastEnd_7 : decode cX1_lastEnd 7 = .ok (.ireturn, 1) := dk_172 (dk_at dksX1_lastEnd_0 7 rfl rfl)
abbrev cX1_whole : ByteArray := prog_1_method_23_code
def yX1_whole : MethodName := ⟨RX1, "whole", "()LBakeryPlan$Day;"⟩
def dkwX1_whole_0 : List UInt8 := [42, 180, 0, 41, 42, 180, 0, 32, 17, 5, 160, 182, 0, 160, 176]
abbrev dktX1_whole_0 : List UInt8 := dkwX1_whole_0 ++ []
theorem dksX1_whole_0 : cX1_whole.data.toList.drop 0 = dktX1_whole_0 := by decide +kernel
theorem dX1_whole_0 : decode cX1_whole 0 = .ok (.aload_n 0, 1) := dk_42 (dk_at dksX1_whole_0 0 rfl rfl)
theorem dX1_whole_1 : decode cX1_whole 1 = .ok (.getfield 41, 3) := dk_180 0 41 (dk_at dksX1_whole_0 1 rfl rfl)
theorem dX1_whole_4 : decode cX1_whole 4 = .ok (.aload_n 0, 1) := dk_42 (dk_at dksX1_whole_0 4 rfl rfl)
theorem dX1_whole_5 : decode cX1_whole 5 = .ok (.getfield 32, 3) := dk_180 0 32 (dk_at dksX1_whole_0 5 rfl rfl)
theorem dX1_whole_8 : decode cX1_whole 8 = .ok (.sipush 1440, 3) := dk_17 5 160 (dk_at dksX1_whole_0 8 rfl rfl)
theorem dX1_whole_11 : decode cX1_whole 11 = .ok (.invokevirtual 160, 3) := dk_182 0 160 (dk_at dksX1_whole_0 11 rfl rfl)
theorem dX1_whole_14 : decode cX1_whole 14 = .ok (.areturn, 1) := dk_176 (dk_at dksX1_whole_0 14 rfl rfl)
abbrev cX1_cleanings : ByteArray := prog_1_method_37_code
def yX1_cleanings : MethodName := ⟨RX1, "cleanings", "()I"⟩
def dkwX1_cleanings_0 : List UInt8 := [42, 182, 0, 164, 180, 0, 212, 172]
abbrev dktX1_cleanings_0 : List UInt8 := dkwX1_cleanings_0 ++ []
theorem dksX1_cleanings_0 : cX1_cleanings.data.toList.drop 0 = dktX1_cleanings_0 := by decide +kernel
theorem dX1_cleanings_0 : decode cX1_cleanings 0 = .ok (.aload_n 0, 1) := dk_42 (dk_at dksX1_cleanings_0 0 rfl rfl)
theorem dX1_cleanings_1 : decode cX1_cleanings 1 = .ok (.invokevirtual 164, 3) := dk_182 0 164 (dk_at dksX1_cleanings_0 1 rfl rfl)
theorem dX1_cleanings_4 : decode cX1_cleanings 4 = .ok (.getfield 212, 3) := dk_180 0 212 (dk_at dksX1_cleanings_0 4 rfl rfl)
theorem dX1_cleanings_7 : decode cX1_cleanings 7 = .ok (.ireturn, 1) := dk_172 (dk_at dksX1_cleanings_0 7 rfl rfl)
abbrev cX1_degrees : ByteArray := prog_1_method_38_code
def yX1_degrees : MethodName := ⟨RX1, "degrees", "()I"⟩
def dkwX1_degrees_0 : List UInt8 := [42, 182, 0, 164, 180, 0, 215, 172]
abbrev dktX1_degrees_0 : List UInt8 := dkwX1_degrees_0 ++ []
theorem dksX1_degrees_0 : cX1_degrees.data.toList.drop 0 = dktX1_degrees_0 := by decide +kernel
theorem dX1_degrees_0 : decode cX1_degrees 0 = .ok (.aload_n 0, 1) := dk_42 (dk_at dksX1_degrees_0 0 rfl rfl)
theorem dX1_degrees_1 : decode cX1_degrees 1 = .ok (.invokevirtual 164, 3) := dk_182 0 164 (dk_at dksX1_degrees_0 1 rfl rfl)
theorem dX1_degrees_4 : decode cX1_degrees 4 = .ok (.getfield 215, 3) := dk_180 0 215 (dk_at dksX1_degrees_0 4 rfl rfl)
theorem dX1_degrees_7 : decode cX1_degrees 7 = .ok (.ireturn, 1) := dk_172 (dk_at dksX1_degrees_0 7 rfl rfl)
abbrev cX1_bestSwap : ByteArray := prog_1_method_47_code
def yX1_bestSwap : MethodName := ⟨RX1, "bestSwap", "()I"⟩
def dkwX1_bestSwap_3 : List UInt8 := [21, 4, 61, 21, 5, 62, 132, 4, 1, 167, 255, 199, 28, 172]
abbrev dktX1_bestSwap_3 : List UInt8 := dkwX1_bestSwap_3 ++ []
def dkwX1_bestSwap_2 : List UInt8 := [17, 5, 160, 182, 0, 160, 182, 0, 248, 54, 5, 43, 21, 4, 182, 0, 251, 21, 5, 29, 164, 0, 9]
abbrev dktX1_bestSwap_2 : List UInt8 := dkwX1_bestSwap_2 ++ dktX1_bestSwap_3
def dkwX1_bestSwap_1 : List UInt8 := [96, 43, 180, 0, 114, 182, 0, 118, 162, 0, 49, 43, 21, 4, 182, 0, 251, 42, 180, 0, 41, 43]
abbrev dktX1_bestSwap_1 : List UInt8 := dkwX1_bestSwap_1 ++ dktX1_bestSwap_2
def dkwX1_bestSwap_0 : List UInt8 := [42, 180, 0, 32, 182, 0, 74, 76, 2, 61, 42, 182, 0, 164, 182, 0, 248, 62, 3, 54, 4, 21, 4, 4]
abbrev dktX1_bestSwap_0 : List UInt8 := dkwX1_bestSwap_0 ++ dktX1_bestSwap_1
theorem dksX1_bestSwap_0 : cX1_bestSwap.data.toList.drop 0 = dktX1_bestSwap_0 := by decide +kernel
theorem dksX1_bestSwap_1 : cX1_bestSwap.data.toList.drop 24 = dktX1_bestSwap_1 := dk_seg dksX1_bestSwap_0 24 rfl rfl
theorem dksX1_bestSwap_2 : cX1_bestSwap.data.toList.drop 46 = dktX1_bestSwap_2 := dk_seg dksX1_bestSwap_1 22 rfl rfl
theorem dksX1_bestSwap_3 : cX1_bestSwap.data.toList.drop 69 = dktX1_bestSwap_3 := dk_seg dksX1_bestSwap_2 23 rfl rfl
theorem dX1_bestSwap_0 : decode cX1_bestSwap 0 = .ok (.aload_n 0, 1) := dk_42 (dk_at dksX1_bestSwap_0 0 rfl rfl)
theorem dX1_bestSwap_1 : decode cX1_bestSwap 1 = .ok (.getfield 32, 3) := dk_180 0 32 (dk_at dksX1_bestSwap_0 1 rfl rfl)
theorem dX1_bestSwap_4 : decode cX1_bestSwap 4 = .ok (.invokevirtual 74, 3) := dk_182 0 74 (dk_at dksX1_bestSwap_0 4 rfl rfl)
theorem dX1_bestSwap_7 : decode cX1_bestSwap 7 = .ok (.astore_n 1, 1) := dk_76 (dk_at dksX1_bestSwap_0 7 rfl rfl)
theorem dX1_bestSwap_8 : decode cX1_bestSwap 8 = .ok (.iconst (-1), 1) := dk_2 (dk_at dksX1_bestSwap_0 8 rfl rfl)
theorem dX1_bestSwap_9 : decode cX1_bestSwap 9 = .ok (.istore_n 2, 1) := dk_61 (dk_at dksX1_bestSwap_0 9 rfl rfl)
theorem dX1_bestSwap_10 : decode cX1_bestSwap 10 = .ok (.aload_n 0, 1) := dk_42 (dk_at dksX1_bestSwap_0 10 rfl rfl)
theorem dX1_bestSwap_11 : decode cX1_bestSwap 11 = .ok (.invokevirtual 164, 3) := dk_182 0 164 (dk_at dksX1_bestSwap_0 11 rfl rfl)
theorem dX1_bestSwap_14 : decode cX1_bestSwap 14 = .ok (.invokevirtual 248, 3) := dk_182 0 248 (dk_at dksX1_bestSwap_0 14 rfl rfl)
theorem dX1_bestSwap_17 : decode cX1_bestSwap 17 = .ok (.istore_n 3, 1) := dk_62 (dk_at dksX1_bestSwap_0 17 rfl rfl)
theorem dX1_bestSwap_18 : decode cX1_bestSwap 18 = .ok (.iconst 0, 1) := dk_3 (dk_at dksX1_bestSwap_0 18 rfl rfl)
theorem dX1_bestSwap_19 : decode cX1_bestSwap 19 = .ok (.istore 4, 2) := dk_54 4 (dk_at dksX1_bestSwap_0 19 rfl rfl)
theorem dX1_bestSwap_21 : decode cX1_bestSwap 21 = .ok (.iload 4, 2) := dk_21 4 (dk_at dksX1_bestSwap_0 21 rfl rfl)
theorem dX1_bestSwap_23 : decode cX1_bestSwap 23 = .ok (.iconst 1, 1) := dk_4 (dk_at dksX1_bestSwap_0 23 rfl rfl)
theorem dX1_bestSwap_24 : decode cX1_bestSwap 24 = .ok (.iadd, 1) := dk_96 (dk_at dksX1_bestSwap_1 0 rfl rfl)
theorem dX1_bestSwap_25 : decode cX1_bestSwap 25 = .ok (.aload_n 1, 1) := dk_43 (dk_at dksX1_bestSwap_1 1 rfl rfl)
theorem dX1_bestSwap_26 : decode cX1_bestSwap 26 = .ok (.getfield 114, 3) := dk_180 0 114 (dk_at dksX1_bestSwap_1 2 rfl rfl)
theorem dX1_bestSwap_29 : decode cX1_bestSwap 29 = .ok (.invokevirtual 118, 3) := dk_182 0 118 (dk_at dksX1_bestSwap_1 5 rfl rfl)
theorem dX1_bestSwap_32 : decode cX1_bestSwap 32 = .ok (.if_icmp .ge 49, 3) := dk_162 0 49 (dk_at dksX1_bestSwap_1 8 rfl rfl)
theorem dX1_bestSwap_35 : decode cX1_bestSwap 35 = .ok (.aload_n 1, 1) := dk_43 (dk_at dksX1_bestSwap_1 11 rfl rfl)
theorem dX1_bestSwap_36 : decode cX1_bestSwap 36 = .ok (.iload 4, 2) := dk_21 4 (dk_at dksX1_bestSwap_1 12 rfl rfl)
theorem dX1_bestSwap_38 : decode cX1_bestSwap 38 = .ok (.invokevirtual 251, 3) := dk_182 0 251 (dk_at dksX1_bestSwap_1 14 rfl rfl)
theorem dX1_bestSwap_41 : decode cX1_bestSwap 41 = .ok (.aload_n 0, 1) := dk_42 (dk_at dksX1_bestSwap_1 17 rfl rfl)
theorem dX1_bestSwap_42 : decode cX1_bestSwap 42 = .ok (.getfield 41, 3) := dk_180 0 41 (dk_at dksX1_bestSwap_1 18 rfl rfl)
theorem dX1_bestSwap_45 : decode cX1_bestSwap 45 = .ok (.aload_n 1, 1) := dk_43 (dk_at dksX1_bestSwap_1 21 rfl rfl)
theorem dX1_bestSwap_46 : decode cX1_bestSwap 46 = .ok (.sipush 1440, 3) := dk_17 5 160 (dk_at dksX1_bestSwap_2 0 rfl rfl)
theorem dX1_bestSwap_49 : decode cX1_bestSwap 49 = .ok (.invokevirtual 160, 3) := dk_182 0 160 (dk_at dksX1_bestSwap_2 3 rfl rfl)
theorem dX1_bestSwap_52 : decode cX1_bestSwap 52 = .ok (.invokevirtual 248, 3) := dk_182 0 248 (dk_at dksX1_bestSwap_2 6 rfl rfl)
theorem dX1_bestSwap_55 : decode cX1_bestSwap 55 = .ok (.istore 5, 2) := dk_54 5 (dk_at dksX1_bestSwap_2 9 rfl rfl)
theorem dX1_bestSwap_57 : decode cX1_bestSwap 57 = .ok (.aload_n 1, 1) := dk_43 (dk_at dksX1_bestSwap_2 11 rfl rfl)
theorem dX1_bestSwap_58 : decode cX1_bestSwap 58 = .ok (.iload 4, 2) := dk_21 4 (dk_at dksX1_bestSwap_2 12 rfl rfl)
theorem dX1_bestSwap_60 : decode cX1_bestSwap 60 = .ok (.invokevirtual 251, 3) := dk_182 0 251 (dk_at dksX1_bestSwap_2 14 rfl rfl)
theorem dX1_bestSwap_63 : decode cX1_bestSwap 63 = .ok (.iload 5, 2) := dk_21 5 (dk_at dksX1_bestSwap_2 17 rfl rfl)
theorem dX1_bestSwap_65 : decode cX1_bestSwap 65 = .ok (.iload_n 3, 1) := dk_29 (dk_at dksX1_bestSwap_2 19 rfl rfl)
theorem dX1_bestSwap_66 : decode cX1_bestSwap 66 = .ok (.if_icmp .le 9, 3) := dk_164 0 9 (dk_at dksX1_bestSwap_2 20 rfl rfl)
theorem dX1_bestSwap_69 : decode cX1_bestSwap 69 = .ok (.iload 4, 2) := dk_21 4 (dk_at dksX1_bestSwap_3 0 rfl rfl)
theorem dX1_bestSwap_71 : decode cX1_bestSwap 71 = .ok (.istore_n 2, 1) := dk_61 (dk_at dksX1_bestSwap_3 2 rfl rfl)
theorem dX1_bestSwap_72 : decode cX1_bestSwap 72 = .ok (.iload 5, 2) := dk_21 5 (dk_at dksX1_bestSwap_3 3 rfl rfl)
theorem dX1_bestSwap_74 : decode cX1_bestSwap 74 = .ok (.istore_n 3, 1) := dk_62 (dk_at dksX1_bestSwap_3 5 rfl rfl)
theorem dX1_bestSwap_75 : decode cX1_bestSwap 75 = .ok (.iinc 4 1, 3) := dk_132 4 1 (dk_at dksX1_bestSwap_3 6 rfl rfl)
theorem dX1_bestSwap_78 : decode cX1_bestSwap 78 = .ok (.goto (-57), 3) := dk_167 255 199 (dk_at dksX1_bestSwap_3 9 rfl rfl)
theorem dX1_bestSwap_81 : decode cX1_bestSwap 81 = .ok (.iload_n 2, 1) := dk_28 (dk_at dksX1_bestSwap_3 12 rfl rfl)
theorem dX1_bestSwap_82 : decode cX1_bestSwap 82 = .ok (.ireturn, 1) := dk_172 (dk_at dksX1_bestSwap_3 13 rfl rfl)
abbrev cX1_bestPolicy : ByteArray := prog_1_method_50_code
def yX1_bestPolicy : MethodName := ⟨RX1, "bestPolicy", "()I"⟩
def dkwX1_bestPolicy_2 : List UInt8 := [21, 5, 29, 164, 0, 9, 21, 4, 61, 21, 5, 62, 132, 4, 1, 167, 255, 208, 28, 172]
abbrev dktX1_bestPolicy_2 : List UInt8 := dkwX1_bestPolicy_2 ++ []
def dkwX1_bestPolicy_1 : List UInt8 := [181, 0, 157, 42, 180, 0, 41, 43, 17, 5, 160, 182, 0, 160, 182, 0, 248, 54, 5, 28, 2, 159, 0, 9]
abbrev dktX1_bestPolicy_1 : List UInt8 := dkwX1_bestPolicy_1 ++ dktX1_bestPolicy_2
def dkwX1_bestPolicy_0 : List UInt8 := [42, 180, 0, 32, 182, 0, 74, 76, 2, 61, 3, 62, 3, 54, 4, 21, 4, 6, 162, 0, 48, 43, 21, 4]
abbrev dktX1_bestPolicy_0 : List UInt8 := dkwX1_bestPolicy_0 ++ dktX1_bestPolicy_1
theorem dksX1_bestPolicy_0 : cX1_bestPolicy.data.toList.drop 0 = dktX1_bestPolicy_0 := by decide +kernel
theorem dksX1_bestPolicy_1 : cX1_bestPolicy.data.toList.drop 24 = dktX1_bestPolicy_1 := dk_seg dksX1_bestPolicy_0 24 rfl rfl
theorem dksX1_bestPolicy_2 : cX1_bestPolicy.data.toList.drop 48 = dktX1_bestPolicy_2 := dk_seg dksX1_bestPolicy_1 24 rfl rfl
theorem dX1_bestPolicy_0 : decode cX1_bestPolicy 0 = .ok (.aload_n 0, 1) := dk_42 (dk_at dksX1_bestPolicy_0 0 rfl rfl)
theorem dX1_bestPolicy_1 : decode cX1_bestPolicy 1 = .ok (.getfield 32, 3) := dk_180 0 32 (dk_at dksX1_bestPolicy_0 1 rfl rfl)
theorem dX1_bestPolicy_4 : decode cX1_bestPolicy 4 = .ok (.invokevirtual 74, 3) := dk_182 0 74 (dk_at dksX1_bestPolicy_0 4 rfl rfl)
theorem dX1_bestPolicy_7 : decode cX1_bestPolicy 7 = .ok (.astore_n 1, 1) := dk_76 (dk_at dksX1_bestPolicy_0 7 rfl rfl)
theorem dX1_bestPolicy_8 : decode cX1_bestPolicy 8 = .ok (.iconst (-1), 1) := dk_2 (dk_at dksX1_bestPolicy_0 8 rfl rfl)
theorem dX1_bestPolicy_9 : decode cX1_bestPolicy 9 = .ok (.istore_n 2, 1) := dk_61 (dk_at dksX1_bestPolicy_0 9 rfl rfl)
theorem dX1_bestPolicy_10 : decode cX1_bestPolicy 10 = .ok (.iconst 0, 1) := dk_3 (dk_at dksX1_bestPolicy_0 10 rfl rfl)
theorem dX1_bestPolicy_11 : decode cX1_bestPolicy 11 = .ok (.istore_n 3, 1) := dk_62 (dk_at dksX1_bestPolicy_0 11 rfl rfl)
theorem dX1_bestPolicy_12 : decode cX1_bestPolicy 12 = .ok (.iconst 0, 1) := dk_3 (dk_at dksX1_bestPolicy_0 12 rfl rfl)
theorem dX1_bestPolicy_13 : decode cX1_bestPolicy 13 = .ok (.istore 4, 2) := dk_54 4 (dk_at dksX1_bestPolicy_0 13 rfl rfl)
theorem dX1_bestPolicy_15 : decode cX1_bestPolicy 15 = .ok (.iload 4, 2) := dk_21 4 (dk_at dksX1_bestPolicy_0 15 rfl rfl)
theorem dX1_bestPolicy_17 : decode cX1_bestPolicy 17 = .ok (.iconst 3, 1) := dk_6 (dk_at dksX1_bestPolicy_0 17 rfl rfl)
theorem dX1_bestPolicy_18 : decode cX1_bestPolicy 18 = .ok (.if_icmp .ge 48, 3) := dk_162 0 48 (dk_at dksX1_bestPolicy_0 18 rfl rfl)
theorem dX1_bestPolicy_21 : decode cX1_bestPolicy 21 = .ok (.aload_n 1, 1) := dk_43 (dk_at dksX1_bestPolicy_0 21 rfl rfl)
theorem dX1_bestPolicy_22 : decode cX1_bestPolicy 22 = .ok (.iload 4, 2) := dk_21 4 (dk_at dksX1_bestPolicy_0 22 rfl rfl)
theorem dX1_bestPolicy_24 : decode cX1_bestPolicy 24 = .ok (.putfield 157, 3) := dk_181 0 157 (dk_at dksX1_bestPolicy_1 0 rfl rfl)
theorem dX1_bestPolicy_27 : decode cX1_bestPolicy 27 = .ok (.aload_n 0, 1) := dk_42 (dk_at dksX1_bestPolicy_1 3 rfl rfl)
theorem dX1_bestPolicy_28 : decode cX1_bestPolicy 28 = .ok (.getfield 41, 3) := dk_180 0 41 (dk_at dksX1_bestPolicy_1 4 rfl rfl)
theorem dX1_bestPolicy_31 : decode cX1_bestPolicy 31 = .ok (.aload_n 1, 1) := dk_43 (dk_at dksX1_bestPolicy_1 7 rfl rfl)
theorem dX1_bestPolicy_32 : decode cX1_bestPolicy 32 = .ok (.sipush 1440, 3) := dk_17 5 160 (dk_at dksX1_bestPolicy_1 8 rfl rfl)
theorem dX1_bestPolicy_35 : decode cX1_bestPolicy 35 = .ok (.invokevirtual 160, 3) := dk_182 0 160 (dk_at dksX1_bestPolicy_1 11 rfl rfl)
theorem dX1_bestPolicy_38 : decode cX1_bestPolicy 38 = .ok (.invokevirtual 248, 3) := dk_182 0 248 (dk_at dksX1_bestPolicy_1 14 rfl rfl)
theorem dX1_bestPolicy_41 : decode cX1_bestPolicy 41 = .ok (.istore 5, 2) := dk_54 5 (dk_at dksX1_bestPolicy_1 17 rfl rfl)
theorem dX1_bestPolicy_43 : decode cX1_bestPolicy 43 = .ok (.iload_n 2, 1) := dk_28 (dk_at dksX1_bestPolicy_1 19 rfl rfl)
theorem dX1_bestPolicy_44 : decode cX1_bestPolicy 44 = .ok (.iconst (-1), 1) := dk_2 (dk_at dksX1_bestPolicy_1 20 rfl rfl)
theorem dX1_bestPolicy_45 : decode cX1_bestPolicy 45 = .ok (.if_icmp .eq 9, 3) := dk_159 0 9 (dk_at dksX1_bestPolicy_1 21 rfl rfl)
theorem dX1_bestPolicy_48 : decode cX1_bestPolicy 48 = .ok (.iload 5, 2) := dk_21 5 (dk_at dksX1_bestPolicy_2 0 rfl rfl)
theorem dX1_bestPolicy_50 : decode cX1_bestPolicy 50 = .ok (.iload_n 3, 1) := dk_29 (dk_at dksX1_bestPolicy_2 2 rfl rfl)
theorem dX1_bestPolicy_51 : decode cX1_bestPolicy 51 = .ok (.if_icmp .le 9, 3) := dk_164 0 9 (dk_at dksX1_bestPolicy_2 3 rfl rfl)
theorem dX1_bestPolicy_54 : decode cX1_bestPolicy 54 = .ok (.iload 4, 2) := dk_21 4 (dk_at dksX1_bestPolicy_2 6 rfl rfl)
theorem dX1_bestPolicy_56 : decode cX1_bestPolicy 56 = .ok (.istore_n 2, 1) := dk_61 (dk_at dksX1_bestPolicy_2 8 rfl rfl)
theorem dX1_bestPolicy_57 : decode cX1_bestPolicy 57 = .ok (.iload 5, 2) := dk_21 5 (dk_at dksX1_bestPolicy_2 9 rfl rfl)
theorem dX1_bestPolicy_59 : decode cX1_bestPolicy 59 = .ok (.istore_n 3, 1) := dk_62 (dk_at dksX1_bestPolicy_2 11 rfl rfl)
theorem dX1_bestPolicy_60 : decode cX1_bestPolicy 60 = .ok (.iinc 4 1, 3) := dk_132 4 1 (dk_at dksX1_bestPolicy_2 12 rfl rfl)
theorem dX1_bestPolicy_63 : decode cX1_bestPolicy 63 = .ok (.goto (-48), 3) := dk_167 255 208 (dk_at dksX1_bestPolicy_2 15 rfl rfl)
theorem dX1_bestPolicy_66 : decode cX1_bestPolicy 66 = .ok (.iload_n 2, 1) := dk_28 (dk_at dksX1_bestPolicy_2 18 rfl rfl)
theorem dX1_bestPolicy_67 : decode cX1_bestPolicy 67 = .ok (.ireturn, 1) := dk_172 (dk_at dksX1_bestPolicy_2 19 rfl rfl)
abbrev cX1_append : ByteArray := prog_1_method_9_code
def yX1_append : MethodName := ⟨RX1, "append", "(IIIII)I"⟩
def dkwX1_append_5 : List UInt8 := [42, 180, 0, 82, 172]
abbrev dktX1_append_5 : List UInt8 := dkwX1_append_5 ++ []
def dkwX1_append_4 : List UInt8 := [145, 84, 42, 89, 180, 0, 82, 4, 96, 181, 0, 82, 132, 11, 248, 167, 255, 223, 132, 9, 1, 167, 255, 199]
abbrev dktX1_append_4 : List UInt8 := dkwX1_append_4 ++ dktX1_append_5
def dkwX1_append_3 : List UInt8 := [54, 10, 16, 24, 54, 11, 21, 11, 155, 0, 34, 42, 180, 0, 52, 42, 180, 0, 82, 21, 10, 21, 11, 122]
abbrev dktX1_append_3 : List UInt8 := dkwX1_append_3 ++ dktX1_append_4
def dkwX1_append_2 : List UInt8 := [25, 6, 58, 7, 25, 7, 190, 54, 8, 3, 54, 9, 21, 9, 21, 8, 162, 0, 56, 25, 7, 21, 9, 46]
abbrev dktX1_append_2 : List UInt8 := dkwX1_append_2 ++ dktX1_append_3
def dkwX1_append_1 : List UInt8 := [89, 3, 27, 79, 89, 4, 28, 79, 89, 5, 29, 79, 89, 6, 21, 4, 79, 89, 7, 21, 5, 79, 58, 6]
abbrev dktX1_append_1 : List UInt8 := dkwX1_append_1 ++ dktX1_append_2
def dkwX1_append_0 : List UInt8 := [42, 180, 0, 82, 16, 20, 96, 17, 2, 188, 163, 0, 7, 4, 167, 0, 4, 3, 184, 0, 85, 8, 188, 10]
abbrev dktX1_append_0 : List UInt8 := dkwX1_append_0 ++ dktX1_append_1
theorem dksX1_append_0 : cX1_append.data.toList.drop 0 = dktX1_append_0 := by decide +kernel
theorem dksX1_append_1 : cX1_append.data.toList.drop 24 = dktX1_append_1 := dk_seg dksX1_append_0 24 rfl rfl
theorem dksX1_append_2 : cX1_append.data.toList.drop 48 = dktX1_append_2 := dk_seg dksX1_append_1 24 rfl rfl
theorem dksX1_append_3 : cX1_append.data.toList.drop 72 = dktX1_append_3 := dk_seg dksX1_append_2 24 rfl rfl
theorem dksX1_append_4 : cX1_append.data.toList.drop 96 = dktX1_append_4 := dk_seg dksX1_append_3 24 rfl rfl
theorem dksX1_append_5 : cX1_append.data.toList.drop 120 = dktX1_append_5 := dk_seg dksX1_append_4 24 rfl rfl
theorem dX1_append_0 : decode cX1_append 0 = .ok (.aload_n 0, 1) := dk_42 (dk_at dksX1_append_0 0 rfl rfl)
theorem dX1_append_1 : decode cX1_append 1 = .ok (.getfield 82, 3) := dk_180 0 82 (dk_at dksX1_append_0 1 rfl rfl)
theorem dX1_append_4 : decode cX1_append 4 = .ok (.bipush 20, 2) := dk_16 20 (dk_at dksX1_append_0 4 rfl rfl)
theorem dX1_append_6 : decode cX1_append 6 = .ok (.iadd, 1) := dk_96 (dk_at dksX1_append_0 6 rfl rfl)
theorem dX1_append_7 : decode cX1_append 7 = .ok (.sipush 700, 3) := dk_17 2 188 (dk_at dksX1_append_0 7 rfl rfl)
theorem dX1_append_10 : decode cX1_append 10 = .ok (.if_icmp .gt 7, 3) := dk_163 0 7 (dk_at dksX1_append_0 10 rfl rfl)
theorem dX1_append_13 : decode cX1_append 13 = .ok (.iconst 1, 1) := dk_4 (dk_at dksX1_append_0 13 rfl rfl)
theorem dX1_append_14 : decode cX1_append 14 = .ok (.goto 4, 3) := dk_167 0 4 (dk_at dksX1_append_0 14 rfl rfl)
theorem dX1_append_17 : decode cX1_append 17 = .ok (.iconst 0, 1) := dk_3 (dk_at dksX1_append_0 17 rfl rfl)
theorem dX1_append_18 : decode cX1_append 18 = .ok (.invokestatic 85, 3) := dk_184 0 85 (dk_at dksX1_append_0 18 rfl rfl)
theorem dX1_append_21 : decode cX1_append 21 = .ok (.iconst 5, 1) := dk_8 (dk_at dksX1_append_0 21 rfl rfl)
theorem dX1_append_22 : decode cX1_append 22 = .ok (.newarray .int, 2) := dk_188_10 (dk_at dksX1_append_0 22 rfl rfl)
theorem dX1_append_24 : decode cX1_append 24 = .ok (.dup, 1) := dk_89 (dk_at dksX1_append_1 0 rfl rfl)
theorem dX1_append_25 : decode cX1_append 25 = .ok (.iconst 0, 1) := dk_3 (dk_at dksX1_append_1 1 rfl rfl)
theorem dX1_append_26 : decode cX1_append 26 = .ok (.iload_n 1, 1) := dk_27 (dk_at dksX1_append_1 2 rfl rfl)
theorem dX1_append_27 : decode cX1_append 27 = .ok (.iastore, 1) := dk_79 (dk_at dksX1_append_1 3 rfl rfl)
theorem dX1_append_28 : decode cX1_append 28 = .ok (.dup, 1) := dk_89 (dk_at dksX1_append_1 4 rfl rfl)
theorem dX1_append_29 : decode cX1_append 29 = .ok (.iconst 1, 1) := dk_4 (dk_at dksX1_append_1 5 rfl rfl)
theorem dX1_append_30 : decode cX1_append 30 = .ok (.iload_n 2, 1) := dk_28 (dk_at dksX1_append_1 6 rfl rfl)
theorem dX1_append_31 : decode cX1_append 31 = .ok (.iastore, 1) := dk_79 (dk_at dksX1_append_1 7 rfl rfl)
theorem dX1_append_32 : decode cX1_append 32 = .ok (.dup, 1) := dk_89 (dk_at dksX1_append_1 8 rfl rfl)
theorem dX1_append_33 : decode cX1_append 33 = .ok (.iconst 2, 1) := dk_5 (dk_at dksX1_append_1 9 rfl rfl)
theorem dX1_append_34 : decode cX1_append 34 = .ok (.iload_n 3, 1) := dk_29 (dk_at dksX1_append_1 10 rfl rfl)
theorem dX1_append_35 : decode cX1_append 35 = .ok (.iastore, 1) := dk_79 (dk_at dksX1_append_1 11 rfl rfl)
theorem dX1_append_36 : decode cX1_append 36 = .ok (.dup, 1) := dk_89 (dk_at dksX1_append_1 12 rfl rfl)
theorem dX1_append_37 : decode cX1_append 37 = .ok (.iconst 3, 1) := dk_6 (dk_at dksX1_append_1 13 rfl rfl)
theorem dX1_append_38 : decode cX1_append 38 = .ok (.iload 4, 2) := dk_21 4 (dk_at dksX1_append_1 14 rfl rfl)
theorem dX1_append_40 : decode cX1_append 40 = .ok (.iastore, 1) := dk_79 (dk_at dksX1_append_1 16 rfl rfl)
theorem dX1_append_41 : decode cX1_append 41 = .ok (.dup, 1) := dk_89 (dk_at dksX1_append_1 17 rfl rfl)
theorem dX1_append_42 : decode cX1_append 42 = .ok (.iconst 4, 1) := dk_7 (dk_at dksX1_append_1 18 rfl rfl)
theorem dX1_append_43 : decode cX1_append 43 = .ok (.iload 5, 2) := dk_21 5 (dk_at dksX1_append_1 19 rfl rfl)
theorem dX1_append_45 : decode cX1_append 45 = .ok (.iastore, 1) := dk_79 (dk_at dksX1_append_1 21 rfl rfl)
theorem dX1_append_46 : decode cX1_append 46 = .ok (.astore 6, 2) := dk_58 6 (dk_at dksX1_append_1 22 rfl rfl)
theorem dX1_append_48 : decode cX1_append 48 = .ok (.aload 6, 2) := dk_25 6 (dk_at dksX1_append_2 0 rfl rfl)
theorem dX1_append_50 : decode cX1_append 50 = .ok (.astore 7, 2) := dk_58 7 (dk_at dksX1_append_2 2 rfl rfl)
theorem dX1_append_52 : decode cX1_append 52 = .ok (.aload 7, 2) := dk_25 7 (dk_at dksX1_append_2 4 rfl rfl)
theorem dX1_append_54 : decode cX1_append 54 = .ok (.arraylength, 1) := dk_190 (dk_at dksX1_append_2 6 rfl rfl)
theorem dX1_append_55 : decode cX1_append 55 = .ok (.istore 8, 2) := dk_54 8 (dk_at dksX1_append_2 7 rfl rfl)
theorem dX1_append_57 : decode cX1_append 57 = .ok (.iconst 0, 1) := dk_3 (dk_at dksX1_append_2 9 rfl rfl)
theorem dX1_append_58 : decode cX1_append 58 = .ok (.istore 9, 2) := dk_54 9 (dk_at dksX1_append_2 10 rfl rfl)
theorem dX1_append_60 : decode cX1_append 60 = .ok (.iload 9, 2) := dk_21 9 (dk_at dksX1_append_2 12 rfl rfl)
theorem dX1_append_62 : decode cX1_append 62 = .ok (.iload 8, 2) := dk_21 8 (dk_at dksX1_append_2 14 rfl rfl)
theorem dX1_append_64 : decode cX1_append 64 = .ok (.if_icmp .ge 56, 3) := dk_162 0 56 (dk_at dksX1_append_2 16 rfl rfl)
theorem dX1_append_67 : decode cX1_append 67 = .ok (.aload 7, 2) := dk_25 7 (dk_at dksX1_append_2 19 rfl rfl)
theorem dX1_append_69 : decode cX1_append 69 = .ok (.iload 9, 2) := dk_21 9 (dk_at dksX1_append_2 21 rfl rfl)
theorem dX1_append_71 : decode cX1_append 71 = .ok (.iaload, 1) := dk_46 (dk_at dksX1_append_2 23 rfl rfl)
theorem dX1_append_72 : decode cX1_append 72 = .ok (.istore 10, 2) := dk_54 10 (dk_at dksX1_append_3 0 rfl rfl)
theorem dX1_append_74 : decode cX1_append 74 = .ok (.bipush 24, 2) := dk_16 24 (dk_at dksX1_append_3 2 rfl rfl)
theorem dX1_append_76 : decode cX1_append 76 = .ok (.istore 11, 2) := dk_54 11 (dk_at dksX1_append_3 4 rfl rfl)
theorem dX1_append_78 : decode cX1_append 78 = .ok (.iload 11, 2) := dk_21 11 (dk_at dksX1_append_3 6 rfl rfl)
theorem dX1_append_80 : decode cX1_append 80 = .ok (.ifCond .lt 34, 3) := dk_155 0 34 (dk_at dksX1_append_3 8 rfl rfl)
theorem dX1_append_83 : decode cX1_append 83 = .ok (.aload_n 0, 1) := dk_42 (dk_at dksX1_append_3 11 rfl rfl)
theorem dX1_append_84 : decode cX1_append 84 = .ok (.getfield 52, 3) := dk_180 0 52 (dk_at dksX1_append_3 12 rfl rfl)
theorem dX1_append_87 : decode cX1_append 87 = .ok (.aload_n 0, 1) := dk_42 (dk_at dksX1_append_3 15 rfl rfl)
theorem dX1_append_88 : decode cX1_append 88 = .ok (.getfield 82, 3) := dk_180 0 82 (dk_at dksX1_append_3 16 rfl rfl)
theorem dX1_append_91 : decode cX1_append 91 = .ok (.iload 10, 2) := dk_21 10 (dk_at dksX1_append_3 19 rfl rfl)
theorem dX1_append_93 : decode cX1_append 93 = .ok (.iload 11, 2) := dk_21 11 (dk_at dksX1_append_3 21 rfl rfl)
theorem dX1_append_95 : decode cX1_append 95 = .ok (.ishr, 1) := dk_122 (dk_at dksX1_append_3 23 rfl rfl)
theorem dX1_append_96 : decode cX1_append 96 = .ok (.i2b, 1) := dk_145 (dk_at dksX1_append_4 0 rfl rfl)
theorem dX1_append_97 : decode cX1_append 97 = .ok (.bastore, 1) := dk_84 (dk_at dksX1_append_4 1 rfl rfl)
theorem dX1_append_98 : decode cX1_append 98 = .ok (.aload_n 0, 1) := dk_42 (dk_at dksX1_append_4 2 rfl rfl)
theorem dX1_append_99 : decode cX1_append 99 = .ok (.dup, 1) := dk_89 (dk_at dksX1_append_4 3 rfl rfl)
theorem dX1_append_100 : decode cX1_append 100 = .ok (.getfield 82, 3) := dk_180 0 82 (dk_at dksX1_append_4 4 rfl rfl)
theorem dX1_append_103 : decode cX1_append 103 = .ok (.iconst 1, 1) := dk_4 (dk_at dksX1_append_4 7 rfl rfl)
theorem dX1_append_104 : decode cX1_append 104 = .ok (.iadd, 1) := dk_96 (dk_at dksX1_append_4 8 rfl rfl)
theorem dX1_append_105 : decode cX1_append 105 = .ok (.putfield 82, 3) := dk_181 0 82 (dk_at dksX1_append_4 9 rfl rfl)
theorem dX1_append_108 : decode cX1_append 108 = .ok (.iinc 11 (-8), 3) := dk_132 11 248 (dk_at dksX1_append_4 12 rfl rfl)
theorem dX1_append_111 : decode cX1_append 111 = .ok (.goto (-33), 3) := dk_167 255 223 (dk_at dksX1_append_4 15 rfl rfl)
theorem dX1_append_114 : decode cX1_append 114 = .ok (.iinc 9 1, 3) := dk_132 9 1 (dk_at dksX1_append_4 18 rfl rfl)
theorem dX1_append_117 : decode cX1_append 117 = .ok (.goto (-57), 3) := dk_167 255 199 (dk_at dksX1_append_4 21 rfl rfl)
theorem dX1_append_120 : decode cX1_append 120 = .ok (.aload_n 0, 1) := dk_42 (dk_at dksX1_append_5 0 rfl rfl)
theorem dX1_append_121 : decode cX1_append 121 = .ok (.getfield 82, 3) := dk_180 0 82 (dk_at dksX1_append_5 1 rfl rfl)
theorem dX1_append_124 : decode cX1_append 124 = .ok (.ireturn, 1) := dk_172 (dk_at dksX1_append_5 4 rfl rfl)
abbrev cX1_requireState : ByteArray := prog_1_method_3_code
def yX1_requireState : MethodName := ⟨RX1, "requireState", "(Z)V"⟩
def dkwX1_requireState_0 : List UInt8 := [26, 154, 0, 11, 187, 0, 7, 89, 183, 0, 9, 191, 177]
abbrev dktX1_requireState_0 : List UInt8 := dkwX1_requireState_0 ++ []
theorem dksX1_requireState_0 : cX1_requireState.data.toList.drop 0 = dktX1_requireState_0 := by decide +kernel
theorem dX1_requireState_0 : decode cX1_requireState 0 = .ok (.iload_n 0, 1) := dk_26 (dk_at dksX1_requireState_0 0 rfl rfl)
theorem dX1_requireState_1 : decode cX1_requireState 1 = .ok (.ifCond .ne 11, 3) := dk_154 0 11 (dk_at dksX1_requireState_0 1 rfl rfl)
theorem dX1_requireState_4 : decode cX1_requireState 4 = .ok (.new 7, 3) := dk_187 0 7 (dk_at dksX1_requireState_0 4 rfl rfl)
theorem dX1_requireState_7 : decode cX1_requireState 7 = .ok (.dup, 1) := dk_89 (dk_at dksX1_requireState_0 7 rfl rfl)
theorem dX1_requireState_8 : decode cX1_requireState 8 = .ok (.invokespecial 9, 3) := dk_183 0 9 (dk_at dksX1_requireState_0 8 rfl rfl)
theorem dX1_requireState_11 : decode cX1_requireState 11 = .ok (.athrow, 1) := dk_191 (dk_at dksX1_requireState_0 11 rfl rfl)
theorem dX1_requireState_12 : decode cX1_requireState 12 = .ok (.return_, 1) := dk_177 (dk_at dksX1_requireState_0 12 rfl rfl)
abbrev cX1_truncate : ByteArray := prog_1_method_10_code
def yX1_truncate : MethodName := ⟨RX1, "truncate", "(I)V"⟩
def dkwX1_truncate_0 : List UInt8 := [27, 133, 9, 42, 180, 0, 82, 133, 184, 0, 10, 184, 0, 89, 42, 27, 181, 0, 82, 177]
abbrev dktX1_truncate_0 : List UInt8 := dkwX1_truncate_0 ++ []
theorem dksX1_truncate_0 : cX1_truncate.data.toList.drop 0 = dktX1_truncate_0 := by decide +kernel
theorem dX1_truncate_0 : decode cX1_truncate 0 = .ok (.iload_n 1, 1) := dk_27 (dk_at dksX1_truncate_0 0 rfl rfl)
theorem dX1_truncate_1 : decode cX1_truncate 1 = .ok (.i2l, 1) := dk_133 (dk_at dksX1_truncate_0 1 rfl rfl)
theorem dX1_truncate_2 : decode cX1_truncate 2 = .ok (.lconst 0, 1) := dk_9 (dk_at dksX1_truncate_0 2 rfl rfl)
theorem dX1_truncate_3 : decode cX1_truncate 3 = .ok (.aload_n 0, 1) := dk_42 (dk_at dksX1_truncate_0 3 rfl rfl)
theorem dX1_truncate_4 : decode cX1_truncate 4 = .ok (.getfield 82, 3) := dk_180 0 82 (dk_at dksX1_truncate_0 4 rfl rfl)
theorem dX1_truncate_7 : decode cX1_truncate 7 = .ok (.i2l, 1) := dk_133 (dk_at dksX1_truncate_0 7 rfl rfl)
theorem dX1_truncate_8 : decode cX1_truncate 8 = .ok (.invokestatic 10, 3) := dk_184 0 10 (dk_at dksX1_truncate_0 8 rfl rfl)
theorem dX1_truncate_11 : decode cX1_truncate 11 = .ok (.invokestatic 89, 3) := dk_184 0 89 (dk_at dksX1_truncate_0 11 rfl rfl)
theorem dX1_truncate_14 : decode cX1_truncate 14 = .ok (.aload_n 0, 1) := dk_42 (dk_at dksX1_truncate_0 14 rfl rfl)
theorem dX1_truncate_15 : decode cX1_truncate 15 = .ok (.iload_n 1, 1) := dk_27 (dk_at dksX1_truncate_0 15 rfl rfl)
theorem dX1_truncate_16 : decode cX1_truncate 16 = .ok (.putfield 82, 3) := dk_181 0 82 (dk_at dksX1_truncate_0 16 rfl rfl)
theorem dX1_truncate_19 : decode cX1_truncate 19 = .ok (.return_, 1) := dk_177 (dk_at dksX1_truncate_0 19 rfl rfl)
abbrev cX1_in : ByteArray := prog_1_method_1_code
def yX1_in : MethodName := ⟨RX1, "in", "(JJJ)Z"⟩
def dkwX1_in_0 : List UInt8 := [30, 32, 148, 155, 0, 14, 30, 22, 4, 148, 157, 0, 7, 4, 167, 0, 4, 3, 172]
abbrev dktX1_in_0 : List UInt8 := dkwX1_in_0 ++ []
theorem dksX1_in_0 : cX1_in.data.toList.drop 0 = dktX1_in_0 := by decide +kernel
theorem dX1_in_0 : decode cX1_in 0 = .ok (.lload_n 0, 1) := dk_30 (dk_at dksX1_in_0 0 rfl rfl)
theorem dX1_in_1 : decode cX1_in 1 = .ok (.lload_n 2, 1) := dk_32 (dk_at dksX1_in_0 1 rfl rfl)
theorem dX1_in_2 : decode cX1_in 2 = .ok (.lcmp, 1) := dk_148 (dk_at dksX1_in_0 2 rfl rfl)
theorem dX1_in_3 : decode cX1_in 3 = .ok (.ifCond .lt 14, 3) := dk_155 0 14 (dk_at dksX1_in_0 3 rfl rfl)
theorem dX1_in_6 : decode cX1_in 6 = .ok (.lload_n 0, 1) := dk_30 (dk_at dksX1_in_0 6 rfl rfl)
theorem dX1_in_7 : decode cX1_in 7 = .ok (.lload 4, 2) := dk_22 4 (dk_at dksX1_in_0 7 rfl rfl)
theorem dX1_in_9 : decode cX1_in 9 = .ok (.lcmp, 1) := dk_148 (dk_at dksX1_in_0 9 rfl rfl)
theorem dX1_in_10 : decode cX1_in 10 = .ok (.ifCond .gt 7, 3) := dk_157 0 7 (dk_at dksX1_in_0 10 rfl rfl)
theorem dX1_in_13 : decode cX1_in 13 = .ok (.iconst 1, 1) := dk_4 (dk_at dksX1_in_0 13 rfl rfl)
theorem dX1_in_14 : decode cX1_in 14 = .ok (.goto 4, 3) := dk_167 0 4 (dk_at dksX1_in_0 14 rfl rfl)
theorem dX1_in_17 : decode cX1_in 17 = .ok (.iconst 0, 1) := dk_3 (dk_at dksX1_in_0 17 rfl rfl)
theorem dX1_in_18 : decode cX1_in 18 = .ok (.ireturn, 1) := dk_172 (dk_at dksX1_in_0 18 rfl rfl)
abbrev cX1_requireArgument : ByteArray := prog_1_method_2_code
def yX1_requireArgument : MethodName := ⟨RX1, "requireArgument", "(Z)V"⟩
def dkwX1_requireArgument_0 : List UInt8 := [26, 154, 0, 11, 187, 0, 1, 89, 183, 0, 3, 191, 177]
abbrev dktX1_requireArgument_0 : List UInt8 := dkwX1_requireArgument_0 ++ []
theorem dksX1_requireArgument_0 : cX1_requireArgument.data.toList.drop 0 = dktX1_requireArgument_0 := by decide +kernel
theorem dX1_requireArgument_0 : decode cX1_requireArgument 0 = .ok (.iload_n 0, 1) := dk_26 (dk_at dksX1_requireArgument_0 0 rfl rfl)
theorem dX1_requireArgument_1 : decode cX1_requireArgument 1 = .ok (.ifCond .ne 11, 3) := dk_154 0 11 (dk_at dksX1_requireArgument_0 1 rfl rfl)
theorem dX1_requireArgument_4 : decode cX1_requireArgument 4 = .ok (.new 1, 3) := dk_187 0 1 (dk_at dksX1_requireArgument_0 4 rfl rfl)
theorem dX1_requireArgument_7 : decode cX1_requireArgument 7 = .ok (.dup, 1) := dk_89 (dk_at dksX1_requireArgument_0 7 rfl rfl)
theorem dX1_requireArgument_8 : decode cX1_requireArgument 8 = .ok (.invokespecial 3, 3) := dk_183 0 3 (dk_at dksX1_requireArgument_0 8 rfl rfl)
theorem dX1_requireArgument_11 : decode cX1_requireArgument 11 = .ok (.athrow, 1) := dk_191 (dk_at dksX1_requireArgument_0 11 rfl rfl)
theorem dX1_requireArgument_12 : decode cX1_requireArgument 12 = .ok (.return_, 1) := dk_177 (dk_at dksX1_requireArgument_0 12 rfl rfl)
abbrev cX1_load : ByteArray := prog_1_method_11_code
def yX1_load : MethodName := ⟨RX1, "load", "()I"⟩
def dkwX1_load_3 : List UInt8 := [182, 0, 111, 42, 180, 0, 32, 180, 0, 114, 182, 0, 118, 172]
abbrev dktX1_load_3 : List UInt8 := dkwX1_load_3 ++ []
def dkwX1_load_2 : List UInt8 := [167, 0, 20, 77, 42, 44, 180, 0, 108, 181, 0, 56, 187, 0, 1, 89, 183, 0, 3, 191, 42, 180, 0, 48]
abbrev dktX1_load_2 : List UInt8 := dkwX1_load_2 ++ dktX1_load_3
def dkwX1_load_1 : List UInt8 := [181, 0, 82, 42, 2, 181, 0, 56, 42, 187, 0, 98, 89, 43, 183, 0, 100, 182, 0, 103, 181, 0, 32]
abbrev dktX1_load_1 : List UInt8 := dkwX1_load_1 ++ dktX1_load_2
def dkwX1_load_0 : List UInt8 := [42, 180, 0, 82, 188, 8, 76, 42, 180, 0, 52, 3, 43, 3, 42, 180, 0, 82, 184, 0, 92, 42, 3]
abbrev dktX1_load_0 : List UInt8 := dkwX1_load_0 ++ dktX1_load_1
theorem dksX1_load_0 : cX1_load.data.toList.drop 0 = dktX1_load_0 := by decide +kernel
theorem dksX1_load_1 : cX1_load.data.toList.drop 23 = dktX1_load_1 := dk_seg dksX1_load_0 23 rfl rfl
theorem dksX1_load_2 : cX1_load.data.toList.drop 46 = dktX1_load_2 := dk_seg dksX1_load_1 23 rfl rfl
theorem dksX1_load_3 : cX1_load.data.toList.drop 70 = dktX1_load_3 := dk_seg dksX1_load_2 24 rfl rfl
theorem dX1_load_0 : decode cX1_load 0 = .ok (.aload_n 0, 1) := dk_42 (dk_at dksX1_load_0 0 rfl rfl)
theorem dX1_load_1 : decode cX1_load 1 = .ok (.getfield 82, 3) := dk_180 0 82 (dk_at dksX1_load_0 1 rfl rfl)
theorem dX1_load_4 : decode cX1_load 4 = .ok (.newarray .byte, 2) := dk_188_8 (dk_at dksX1_load_0 4 rfl rfl)
theorem dX1_load_6 : decode cX1_load 6 = .ok (.astore_n 1, 1) := dk_76 (dk_at dksX1_load_0 6 rfl rfl)
theorem dX1_load_7 : decode cX1_load 7 = .ok (.aload_n 0, 1) := dk_42 (dk_at dksX1_load_0 7 rfl rfl)
theorem dX1_load_8 : decode cX1_load 8 = .ok (.getfield 52, 3) := dk_180 0 52 (dk_at dksX1_load_0 8 rfl rfl)
theorem dX1_load_11 : decode cX1_load 11 = .ok (.iconst 0, 1) := dk_3 (dk_at dksX1_load_0 11 rfl rfl)
theorem dX1_load_12 : decode cX1_load 12 = .ok (.aload_n 1, 1) := dk_43 (dk_at dksX1_load_0 12 rfl rfl)
theorem dX1_load_13 : decode cX1_load 13 = .ok (.iconst 0, 1) := dk_3 (dk_at dksX1_load_0 13 rfl rfl)
theorem dX1_load_14 : decode cX1_load 14 = .ok (.aload_n 0, 1) := dk_42 (dk_at dksX1_load_0 14 rfl rfl)
theorem dX1_load_15 : decode cX1_load 15 = .ok (.getfield 82, 3) := dk_180 0 82 (dk_at dksX1_load_0 15 rfl rfl)
theorem dX1_load_18 : decode cX1_load 18 = .ok (.invokestatic 92, 3) := dk_184 0 92 (dk_at dksX1_load_0 18 rfl rfl)
theorem dX1_load_21 : decode cX1_load 21 = .ok (.aload_n 0, 1) := dk_42 (dk_at dksX1_load_0 21 rfl rfl)
theorem dX1_load_22 : decode cX1_load 22 = .ok (.iconst 0, 1) := dk_3 (dk_at dksX1_load_0 22 rfl rfl)
theorem dX1_load_23 : decode cX1_load 23 = .ok (.putfield 82, 3) := dk_181 0 82 (dk_at dksX1_load_1 0 rfl rfl)
theorem dX1_load_26 : decode cX1_load 26 = .ok (.aload_n 0, 1) := dk_42 (dk_at dksX1_load_1 3 rfl rfl)
theorem dX1_load_27 : decode cX1_load 27 = .ok (.iconst (-1), 1) := dk_2 (dk_at dksX1_load_1 4 rfl rfl)
theorem dX1_load_28 : decode cX1_load 28 = .ok (.putfield 56, 3) := dk_181 0 56 (dk_at dksX1_load_1 5 rfl rfl)
theorem dX1_load_31 : decode cX1_load 31 = .ok (.aload_n 0, 1) := dk_42 (dk_at dksX1_load_1 8 rfl rfl)
theorem dX1_load_32 : decode cX1_load 32 = .ok (.new 98, 3) := dk_187 0 98 (dk_at dksX1_load_1 9 rfl rfl)
theorem dX1_load_35 : decode cX1_load 35 = .ok (.dup, 1) := dk_89 (dk_at dksX1_load_1 12 rfl rfl)
theorem dX1_load_36 : decode cX1_load 36 = .ok (.aload_n 1, 1) := dk_43 (dk_at dksX1_load_1 13 rfl rfl)
theorem dX1_load_37 : decode cX1_load 37 = .ok (.invokespecial 100, 3) := dk_183 0 100 (dk_at dksX1_load_1 14 rfl rfl)
theorem dX1_load_40 : decode cX1_load 40 = .ok (.invokevirtual 103, 3) := dk_182 0 103 (dk_at dksX1_load_1 17 rfl rfl)
theorem dX1_load_43 : decode cX1_load 43 = .ok (.putfield 32, 3) := dk_181 0 32 (dk_at dksX1_load_1 20 rfl rfl)
theorem dX1_load_46 : decode cX1_load 46 = .ok (.goto 20, 3) := dk_167 0 20 (dk_at dksX1_load_2 0 rfl rfl)
theorem dX1_load_49 : decode cX1_load 49 = .ok (.astore_n 2, 1) := dk_77 (dk_at dksX1_load_2 3 rfl rfl)
theorem dX1_load_50 : decode cX1_load 50 = .ok (.aload_n 0, 1) := dk_42 (dk_at dksX1_load_2 4 rfl rfl)
theorem dX1_load_51 : decode cX1_load 51 = .ok (.aload_n 2, 1) := dk_44 (dk_at dksX1_load_2 5 rfl rfl)
theorem dX1_load_52 : decode cX1_load 52 = .ok (.getfield 108, 3) := dk_180 0 108 (dk_at dksX1_load_2 6 rfl rfl)
theorem dX1_load_55 : decode cX1_load 55 = .ok (.putfield 56, 3) := dk_181 0 56 (dk_at dksX1_load_2 9 rfl rfl)
theorem dX1_load_58 : decode cX1_load 58 = .ok (.new 1, 3) := dk_187 0 1 (dk_at dksX1_load_2 12 rfl rfl)
theorem dX1_load_61 : decode cX1_load 61 = .ok (.dup, 1) := dk_89 (dk_at dksX1_load_2 15 rfl rfl)
theorem dX1_load_62 : decode cX1_load 62 = .ok (.invokespecial 3, 3) := dk_183 0 3 (dk_at dksX1_load_2 16 rfl rfl)
theorem dX1_load_65 : decode cX1_load 65 = .ok (.athrow, 1) := dk_191 (dk_at dksX1_load_2 19 rfl rfl)
theorem dX1_load_66 : decode cX1_load 66 = .ok (.aload_n 0, 1) := dk_42 (dk_at dksX1_load_2 20 rfl rfl)
theorem dX1_load_67 : decode cX1_load 67 = .ok (.getfield 48, 3) := dk_180 0 48 (dk_at dksX1_load_2 21 rfl rfl)
theorem dX1_load_70 : decode cX1_load 70 = .ok (.invokevirtual 111, 3) := dk_182 0 111 (dk_at dksX1_load_3 0 rfl rfl)
theorem dX1_load_73 : decode cX1_load 73 = .ok (.aload_n 0, 1) := dk_42 (dk_at dksX1_load_3 3 rfl rfl)
theorem dX1_load_74 : decode cX1_load 74 = .ok (.getfield 32, 3) := dk_180 0 32 (dk_at dksX1_load_3 4 rfl rfl)
theorem dX1_load_77 : decode cX1_load 77 = .ok (.getfield 114, 3) := dk_180 0 114 (dk_at dksX1_load_3 7 rfl rfl)
theorem dX1_load_80 : decode cX1_load 80 = .ok (.invokevirtual 118, 3) := dk_182 0 118 (dk_at dksX1_load_3 10 rfl rfl)
theorem dX1_load_83 : decode cX1_load 83 = .ok (.ireturn, 1) := dk_172 (dk_at dksX1_load_3 13 rfl rfl)
abbrev cX1_least : ByteArray := prog_1_method_5_code
def yX1_least : MethodName := ⟨RX1, "least", "(I)I"⟩
def dkwX1_least_2 : List UInt8 := [4, 167, 0, 8, 5, 167, 0, 4, 3, 172]
abbrev dktX1_least_2 : List UInt8 := dkwX1_least_2 ++ []
def dkwX1_least_1 : List UInt8 := [170, 0, 0, 0, 0, 0, 47, 0, 0, 0, 0, 0, 0, 0, 5, 0, 0, 0, 39, 0, 0, 0, 39, 0, 0, 0, 47, 0, 0, 0, 47, 0, 0, 0, 43, 0, 0, 0, 39]
abbrev dktX1_least_1 : List UInt8 := dkwX1_least_1 ++ dktX1_least_2
def dkwX1_least_0 : List UInt8 := [26]
abbrev dktX1_least_0 : List UInt8 := dkwX1_least_0 ++ dktX1_least_1
theorem dksX1_least_0 : cX1_least.data.toList.drop 0 = dktX1_least_0 := by decide +kernel
theorem dksX1_least_1 : cX1_least.data.toList.drop 1 = dktX1_least_1 := dk_seg dksX1_least_0 1 rfl rfl
theorem dksX1_least_2 : cX1_least.data.toList.drop 40 = dktX1_least_2 := dk_seg dksX1_least_1 39 rfl rfl
theorem dX1_least_0 : decode cX1_least 0 = .ok (.iload_n 0, 1) := dk_26 (dk_at dksX1_least_0 0 rfl rfl)
theorem dX1_least_1 : decode cX1_least 1 = .ok (.tableswitch 47 0 5 #[39, 39, 47, 47, 43, 39], 39) := by decide +kernel
theorem dX1_least_40 : decode cX1_least 40 = .ok (.iconst 1, 1) := dk_4 (dk_at dksX1_least_2 0 rfl rfl)
theorem dX1_least_41 : decode cX1_least 41 = .ok (.goto 8, 3) := dk_167 0 8 (dk_at dksX1_least_2 1 rfl rfl)
theorem dX1_least_44 : decode cX1_least 44 = .ok (.iconst 2, 1) := dk_5 (dk_at dksX1_least_2 4 rfl rfl)
theorem dX1_least_45 : decode cX1_least 45 = .ok (.goto 4, 3) := dk_167 0 4 (dk_at dksX1_least_2 5 rfl rfl)
theorem dX1_least_48 : decode cX1_least 48 = .ok (.iconst 0, 1) := dk_3 (dk_at dksX1_least_2 8 rfl rfl)
theorem dX1_least_49 : decode cX1_least 49 = .ok (.ireturn, 1) := dk_172 (dk_at dksX1_least_2 9 rfl rfl)
abbrev cX1_most : ByteArray := prog_1_method_6_code
def yX1_most : MethodName := ⟨RX1, "most", "(I)I"⟩
def dkwX1_most_3 : List UInt8 := [16, 90, 172]
abbrev dktX1_most_3 : List UInt8 := dkwX1_most_3 ++ []
def dkwX1_most_2 : List UInt8 := [6, 167, 0, 24, 7, 167, 0, 20, 16, 8, 167, 0, 15, 16, 30, 167, 0, 10, 16, 20, 167, 0, 5]
abbrev dktX1_most_2 : List UInt8 := dkwX1_most_2 ++ dktX1_most_3
def dkwX1_most_1 : List UInt8 := [170, 0, 0, 0, 0, 0, 62, 0, 0, 0, 0, 0, 0, 0, 5, 0, 0, 0, 39, 0, 0, 0, 43, 0, 0, 0, 47, 0, 0, 0, 52, 0, 0, 0, 47, 0, 0, 0, 57]
abbrev dktX1_most_1 : List UInt8 := dkwX1_most_1 ++ dktX1_most_2
def dkwX1_most_0 : List UInt8 := [26]
abbrev dktX1_most_0 : List UInt8 := dkwX1_most_0 ++ dktX1_most_1
theorem dksX1_most_0 : cX1_most.data.toList.drop 0 = dktX1_most_0 := by decide +kernel
theorem dksX1_most_1 : cX1_most.data.toList.drop 1 = dktX1_most_1 := dk_seg dksX1_most_0 1 rfl rfl
theorem dksX1_most_2 : cX1_most.data.toList.drop 40 = dktX1_most_2 := dk_seg dksX1_most_1 39 rfl rfl
theorem dksX1_most_3 : cX1_most.data.toList.drop 63 = dktX1_most_3 := dk_seg dksX1_most_2 23 rfl rfl
theorem dX1_most_0 : decode cX1_most 0 = .ok (.iload_n 0, 1) := dk_26 (dk_at dksX1_most_0 0 rfl rfl)
theorem dX1_most_1 : decode cX1_most 1 = .ok (.tableswitch 62 0 5 #[39, 43, 47, 52, 47, 57], 39) := by decide +kernel
theorem dX1_most_40 : decode cX1_most 40 = .ok (.iconst 3, 1) := dk_6 (dk_at dksX1_most_2 0 rfl rfl)
theorem dX1_most_41 : decode cX1_most 41 = .ok (.goto 24, 3) := dk_167 0 24 (dk_at dksX1_most_2 1 rfl rfl)
theorem dX1_most_44 : decode cX1_most 44 = .ok (.iconst 4, 1) := dk_7 (dk_at dksX1_most_2 4 rfl rfl)
theorem dX1_most_45 : decode cX1_most 45 = .ok (.goto 20, 3) := dk_167 0 20 (dk_at dksX1_most_2 5 rfl rfl)
theorem dX1_most_48 : decode cX1_most 48 = .ok (.bipush 8, 2) := dk_16 8 (dk_at dksX1_most_2 8 rfl rfl)
theorem dX1_most_50 : decode cX1_most 50 = .ok (.goto 15, 3) := dk_167 0 15 (dk_at dksX1_most_2 10 rfl rfl)
theorem dX1_most_53 : decode cX1_most 53 = .ok (.bipush 30, 2) := dk_16 30 (dk_at dksX1_most_2 13 rfl rfl)
theorem dX1_most_55 : decode cX1_most 55 = .ok (.goto 10, 3) := dk_167 0 10 (dk_at dksX1_most_2 15 rfl rfl)
theorem dX1_most_58 : decode cX1_most 58 = .ok (.bipush 20, 2) := dk_16 20 (dk_at dksX1_most_2 18 rfl rfl)
theorem dX1_most_60 : decode cX1_most 60 = .ok (.goto 5, 3) := dk_167 0 5 (dk_at dksX1_most_2 20 rfl rfl)
theorem dX1_most_63 : decode cX1_most 63 = .ok (.bipush 90, 2) := dk_16 90 (dk_at dksX1_most_3 0 rfl rfl)
theorem dX1_most_65 : decode cX1_most 65 = .ok (.ireturn, 1) := dk_172 (dk_at dksX1_most_3 2 rfl rfl)
abbrev cX1_waveMinute : ByteArray := prog_1_method_17_code
def yX1_waveMinute : MethodName := ⟨RX1, "waveMinute", "(I)I"⟩
def dkwX1_waveMinute_0 : List UInt8 := [27, 42, 180, 0, 32, 180, 0, 132, 184, 0, 119, 42, 180, 0, 32, 180, 0, 135, 27, 46, 172]
abbrev dktX1_waveMinute_0 : List UInt8 := dkwX1_waveMinute_0 ++ []
theorem dksX1_waveMinute_0 : cX1_waveMinute.data.toList.drop 0 = dktX1_waveMinute_0 := by decide +kernel
theorem dX1_waveMinute_0 : decode cX1_waveMinute 0 = .ok (.iload_n 1, 1) := dk_27 (dk_at dksX1_waveMinute_0 0 rfl rfl)
theorem dX1_waveMinute_1 : decode cX1_waveMinute 1 = .ok (.aload_n 0, 1) := dk_42 (dk_at dksX1_waveMinute_0 1 rfl rfl)
theorem dX1_waveMinute_2 : decode cX1_waveMinute 2 = .ok (.getfield 32, 3) := dk_180 0 32 (dk_at dksX1_waveMinute_0 2 rfl rfl)
theorem dX1_waveMinute_5 : decode cX1_waveMinute 5 = .ok (.getfield 132, 3) := dk_180 0 132 (dk_at dksX1_waveMinute_0 5 rfl rfl)
theorem dX1_waveMinute_8 : decode cX1_waveMinute 8 = .ok (.invokestatic 119, 3) := dk_184 0 119 (dk_at dksX1_waveMinute_0 8 rfl rfl)
theorem dX1_waveMinute_11 : decode cX1_waveMinute 11 = .ok (.aload_n 0, 1) := dk_42 (dk_at dksX1_waveMinute_0 11 rfl rfl)
theorem dX1_waveMinute_12 : decode cX1_waveMinute 12 = .ok (.getfield 32, 3) := dk_180 0 32 (dk_at dksX1_waveMinute_0 12 rfl rfl)
theorem dX1_waveMinute_15 : decode cX1_waveMinute 15 = .ok (.getfield 135, 3) := dk_180 0 135 (dk_at dksX1_waveMinute_0 15 rfl rfl)
theorem dX1_waveMinute_18 : decode cX1_waveMinute 18 = .ok (.iload_n 1, 1) := dk_27 (dk_at dksX1_waveMinute_0 18 rfl rfl)
theorem dX1_waveMinute_19 : decode cX1_waveMinute 19 = .ok (.iaload, 1) := dk_46 (dk_at dksX1_waveMinute_0 19 rfl rfl)
theorem dX1_waveMinute_20 : decode cX1_waveMinute 20 = .ok (.ireturn, 1) := dk_172 (dk_at dksX1_waveMinute_0 20 rfl rfl)
abbrev cX1_requireIndex : ByteArray := prog_1_method_4_code
def yX1_requireIndex : MethodName := ⟨RX1, "requireIndex", "(II)V"⟩
def dkwX1_requireIndex_0 : List UInt8 := [26, 133, 9, 27, 4, 100, 133, 184, 0, 10, 154, 0, 11, 187, 0, 16, 89, 183, 0, 18, 191, 177]
abbrev dktX1_requireIndex_0 : List UInt8 := dkwX1_requireIndex_0 ++ []
theorem dksX1_requireIndex_0 : cX1_requireIndex.data.toList.drop 0 = dktX1_requireIndex_0 := by decide +kernel
theorem dX1_requireIndex_0 : decode cX1_requireIndex 0 = .ok (.iload_n 0, 1) := dk_26 (dk_at dksX1_requireIndex_0 0 rfl rfl)
theorem dX1_requireIndex_1 : decode cX1_requireIndex 1 = .ok (.i2l, 1) := dk_133 (dk_at dksX1_requireIndex_0 1 rfl rfl)
theorem dX1_requireIndex_2 : decode cX1_requireIndex 2 = .ok (.lconst 0, 1) := dk_9 (dk_at dksX1_requireIndex_0 2 rfl rfl)
theorem dX1_requireIndex_3 : decode cX1_requireIndex 3 = .ok (.iload_n 1, 1) := dk_27 (dk_at dksX1_requireIndex_0 3 rfl rfl)
theorem dX1_requireIndex_4 : decode cX1_requireIndex 4 = .ok (.iconst 1, 1) := dk_4 (dk_at dksX1_requireIndex_0 4 rfl rfl)
theorem dX1_requireIndex_5 : decode cX1_requireIndex 5 = .ok (.isub, 1) := dk_100 (dk_at dksX1_requireIndex_0 5 rfl rfl)
theorem dX1_requireIndex_6 : decode cX1_requireIndex 6 = .ok (.i2l, 1) := dk_133 (dk_at dksX1_requireIndex_0 6 rfl rfl)
theorem dX1_requireIndex_7 : decode cX1_requireIndex 7 = .ok (.invokestatic 10, 3) := dk_184 0 10 (dk_at dksX1_requireIndex_0 7 rfl rfl)
theorem dX1_requireIndex_10 : decode cX1_requireIndex 10 = .ok (.ifCond .ne 11, 3) := dk_154 0 11 (dk_at dksX1_requireIndex_0 10 rfl rfl)
theorem dX1_requireIndex_13 : decode cX1_requireIndex 13 = .ok (.new 16, 3) := dk_187 0 16 (dk_at dksX1_requireIndex_0 13 rfl rfl)
theorem dX1_requireIndex_16 : decode cX1_requireIndex 16 = .ok (.dup, 1) := dk_89 (dk_at dksX1_requireIndex_0 16 rfl rfl)
theorem dX1_requireIndex_17 : decode cX1_requireIndex 17 = .ok (.invokespecial 18, 3) := dk_183 0 18 (dk_at dksX1_requireIndex_0 17 rfl rfl)
theorem dX1_requireIndex_20 : decode cX1_requireIndex 20 = .ok (.athrow, 1) := dk_191 (dk_at dksX1_requireIndex_0 20 rfl rfl)
theorem dX1_requireIndex_21 : decode cX1_requireIndex 21 = .ok (.return_, 1) := dk_177 (dk_at dksX1_requireIndex_0 21 rfl rfl)
abbrev cX1_productOf : ByteArray := prog_1_method_18_code
def yX1_productOf : MethodName := ⟨RX1, "productOf", "(I)I"⟩
def dkwX1_productOf_0 : List UInt8 := [42, 27, 182, 0, 139, 180, 0, 143, 172]
abbrev dktX1_productOf_0 : List UInt8 := dkwX1_productOf_0 ++ []
theorem dksX1_productOf_0 : cX1_productOf.data.toList.drop 0 = dktX1_productOf_0 := by decide +kernel
theorem dX1_productOf_0 : decode cX1_productOf 0 = .ok (.aload_n 0, 1) := dk_42 (dk_at dksX1_productOf_0 0 rfl rfl)
theorem dX1_productOf_1 : decode cX1_productOf 1 = .ok (.iload_n 1, 1) := dk_27 (dk_at dksX1_productOf_0 1 rfl rfl)
theorem dX1_productOf_2 : decode cX1_productOf 2 = .ok (.invokevirtual 139, 3) := dk_182 0 139 (dk_at dksX1_productOf_0 2 rfl rfl)
theorem dX1_productOf_5 : decode cX1_productOf 5 = .ok (.getfield 143, 3) := dk_180 0 143 (dk_at dksX1_productOf_0 5 rfl rfl)
theorem dX1_productOf_8 : decode cX1_productOf 8 = .ok (.ireturn, 1) := dk_172 (dk_at dksX1_productOf_0 8 rfl rfl)
abbrev cX1_batch : ByteArray := prog_1_method_13_code
def yX1_batch : MethodName := ⟨RX1, "batch", "(I)LBakeryPlan$Batch;"⟩
def dkwX1_batch_1 : List UInt8 := [182, 0, 123, 192, 0, 127, 176]
abbrev dktX1_batch_1 : List UInt8 := dkwX1_batch_1 ++ []
def dkwX1_batch_0 : List UInt8 := [27, 42, 180, 0, 32, 180, 0, 114, 182, 0, 118, 184, 0, 119, 42, 180, 0, 32, 180, 0, 114, 27]
abbrev dktX1_batch_0 : List UInt8 := dkwX1_batch_0 ++ dktX1_batch_1
theorem dksX1_batch_0 : cX1_batch.data.toList.drop 0 = dktX1_batch_0 := by decide +kernel
theorem dksX1_batch_1 : cX1_batch.data.toList.drop 22 = dktX1_batch_1 := dk_seg dksX1_batch_0 22 rfl rfl
theorem dX1_batch_0 : decode cX1_batch 0 = .ok (.iload_n 1, 1) := dk_27 (dk_at dksX1_batch_0 0 rfl rfl)
theorem dX1_batch_1 : decode cX1_batch 1 = .ok (.aload_n 0, 1) := dk_42 (dk_at dksX1_batch_0 1 rfl rfl)
theorem dX1_batch_2 : decode cX1_batch 2 = .ok (.getfield 32, 3) := dk_180 0 32 (dk_at dksX1_batch_0 2 rfl rfl)
theorem dX1_batch_5 : decode cX1_batch 5 = .ok (.getfield 114, 3) := dk_180 0 114 (dk_at dksX1_batch_0 5 rfl rfl)
theorem dX1_batch_8 : decode cX1_batch 8 = .ok (.invokevirtual 118, 3) := dk_182 0 118 (dk_at dksX1_batch_0 8 rfl rfl)
theorem dX1_batch_11 : decode cX1_batch 11 = .ok (.invokestatic 119, 3) := dk_184 0 119 (dk_at dksX1_batch_0 11 rfl rfl)
theorem dX1_batch_14 : decode cX1_batch 14 = .ok (.aload_n 0, 1) := dk_42 (dk_at dksX1_batch_0 14 rfl rfl)
theorem dX1_batch_15 : decode cX1_batch 15 = .ok (.getfield 32, 3) := dk_180 0 32 (dk_at dksX1_batch_0 15 rfl rfl)
theorem dX1_batch_18 : decode cX1_batch 18 = .ok (.getfield 114, 3) := dk_180 0 114 (dk_at dksX1_batch_0 18 rfl rfl)
theorem dX1_batch_21 : decode cX1_batch 21 = .ok (.iload_n 1, 1) := dk_27 (dk_at dksX1_batch_0 21 rfl rfl)
theorem dX1_batch_22 : decode cX1_batch 22 = .ok (.invokevirtual 123, 3) := dk_182 0 123 (dk_at dksX1_batch_1 0 rfl rfl)
theorem dX1_batch_25 : decode cX1_batch 25 = .ok (.checkcast 127, 3) := dk_192 0 127 (dk_at dksX1_batch_1 3 rfl rfl)
theorem dX1_batch_28 : decode cX1_batch 28 = .ok (.areturn, 1) := dk_176 (dk_at dksX1_batch_1 6 rfl rfl)
abbrev cX1_startOf : ByteArray := prog_1_method_19_code
def yX1_startOf : MethodName := ⟨RX1, "startOf", "(I)I"⟩
def dkwX1_startOf_0 : List UInt8 := [42, 27, 182, 0, 139, 180, 0, 146, 172]
abbrev dktX1_startOf_0 : List UInt8 := dkwX1_startOf_0 ++ []
theorem dksX1_startOf_0 : cX1_startOf.data.toList.drop 0 = dktX1_startOf_0 := by decide +kernel
theorem dX1_startOf_0 : decode cX1_startOf 0 = .ok (.aload_n 0, 1) := dk_42 (dk_at dksX1_startOf_0 0 rfl rfl)
theorem dX1_startOf_1 : decode cX1_startOf 1 = .ok (.iload_n 1, 1) := dk_27 (dk_at dksX1_startOf_0 1 rfl rfl)
theorem dX1_startOf_2 : decode cX1_startOf 2 = .ok (.invokevirtual 139, 3) := dk_182 0 139 (dk_at dksX1_startOf_0 2 rfl rfl)
theorem dX1_startOf_5 : decode cX1_startOf 5 = .ok (.getfield 146, 3) := dk_180 0 146 (dk_at dksX1_startOf_0 5 rfl rfl)
theorem dX1_startOf_8 : decode cX1_startOf 8 = .ok (.ireturn, 1) := dk_172 (dk_at dksX1_startOf_0 8 rfl rfl)
abbrev cX1_waveOf : ByteArray := prog_1_method_20_code
def yX1_waveOf : MethodName := ⟨RX1, "waveOf", "(I)I"⟩
def dkwX1_waveOf_0 : List UInt8 := [42, 27, 182, 0, 139, 180, 0, 149, 172]
abbrev dktX1_waveOf_0 : List UInt8 := dkwX1_waveOf_0 ++ []
theorem dksX1_waveOf_0 : cX1_waveOf.data.toList.drop 0 = dktX1_waveOf_0 := by decide +kernel
theorem dX1_waveOf_0 : decode cX1_waveOf 0 = .ok (.aload_n 0, 1) := dk_42 (dk_at dksX1_waveOf_0 0 rfl rfl)
theorem dX1_waveOf_1 : decode cX1_waveOf 1 = .ok (.iload_n 1, 1) := dk_27 (dk_at dksX1_waveOf_0 1 rfl rfl)
theorem dX1_waveOf_2 : decode cX1_waveOf 2 = .ok (.invokevirtual 139, 3) := dk_182 0 139 (dk_at dksX1_waveOf_0 2 rfl rfl)
theorem dX1_waveOf_5 : decode cX1_waveOf 5 = .ok (.getfield 149, 3) := dk_180 0 149 (dk_at dksX1_waveOf_0 5 rfl rfl)
theorem dX1_waveOf_8 : decode cX1_waveOf 8 = .ok (.ireturn, 1) := dk_172 (dk_at dksX1_waveOf_0 8 rfl rfl)
abbrev cX1_setting : ByteArray := prog_1_method_21_code
def yX1_setting : MethodName := ⟨RX1, "setting", "(I)I"⟩
def dkwX1_setting_0 : List UInt8 := [27, 133, 9, 20, 0, 152, 184, 0, 10, 184, 0, 89, 42, 180, 0, 32, 180, 0, 154, 27, 46, 172]
abbrev dktX1_setting_0 : List UInt8 := dkwX1_setting_0 ++ []
theorem dksX1_setting_0 : cX1_setting.data.toList.drop 0 = dktX1_setting_0 := by decide +kernel
theorem dX1_setting_0 : decode cX1_setting 0 = .ok (.iload_n 1, 1) := dk_27 (dk_at dksX1_setting_0 0 rfl rfl)
theorem dX1_setting_1 : decode cX1_setting 1 = .ok (.i2l, 1) := dk_133 (dk_at dksX1_setting_0 1 rfl rfl)
theorem dX1_setting_2 : decode cX1_setting 2 = .ok (.lconst 0, 1) := dk_9 (dk_at dksX1_setting_0 2 rfl rfl)
theorem dX1_setting_3 : decode cX1_setting 3 = .ok (.ldc2_w 152, 3) := dk_20 0 152 (dk_at dksX1_setting_0 3 rfl rfl)
theorem dX1_setting_6 : decode cX1_setting 6 = .ok (.invokestatic 10, 3) := dk_184 0 10 (dk_at dksX1_setting_0 6 rfl rfl)
theorem dX1_setting_9 : decode cX1_setting 9 = .ok (.invokestatic 89, 3) := dk_184 0 89 (dk_at dksX1_setting_0 9 rfl rfl)
theorem dX1_setting_12 : decode cX1_setting 12 = .ok (.aload_n 0, 1) := dk_42 (dk_at dksX1_setting_0 12 rfl rfl)
theorem dX1_setting_13 : decode cX1_setting 13 = .ok (.getfield 32, 3) := dk_180 0 32 (dk_at dksX1_setting_0 13 rfl rfl)
theorem dX1_setting_16 : decode cX1_setting 16 = .ok (.getfield 154, 3) := dk_180 0 154 (dk_at dksX1_setting_0 16 rfl rfl)
theorem dX1_setting_19 : decode cX1_setting 19 = .ok (.iload_n 1, 1) := dk_27 (dk_at dksX1_setting_0 19 rfl rfl)
theorem dX1_setting_20 : decode cX1_setting 20 = .ok (.iaload, 1) := dk_46 (dk_at dksX1_setting_0 20 rfl rfl)
theorem dX1_setting_21 : decode cX1_setting 21 = .ok (.ireturn, 1) := dk_172 (dk_at dksX1_setting_0 21 rfl rfl)
abbrev cX1_state : ByteArray := prog_1_method_25_code
def yX1_state : MethodName := ⟨RX1, "state", "(I)I"⟩
def dkwX1_state_0 : List UInt8 := [42, 27, 182, 0, 168, 27, 182, 0, 171, 172]
abbrev dktX1_state_0 : List UInt8 := dkwX1_state_0 ++ []
theorem dksX1_state_0 : cX1_state.data.toList.drop 0 = dktX1_state_0 := by decide +kernel
theorem dX1_state_0 : decode cX1_state 0 = .ok (.aload_n 0, 1) := dk_42 (dk_at dksX1_state_0 0 rfl rfl)
theorem dX1_state_1 : decode cX1_state 1 = .ok (.iload_n 1, 1) := dk_27 (dk_at dksX1_state_0 1 rfl rfl)
theorem dX1_state_2 : decode cX1_state 2 = .ok (.invokevirtual 168, 3) := dk_182 0 168 (dk_at dksX1_state_0 2 rfl rfl)
theorem dX1_state_5 : decode cX1_state 5 = .ok (.iload_n 1, 1) := dk_27 (dk_at dksX1_state_0 5 rfl rfl)
theorem dX1_state_6 : decode cX1_state 6 = .ok (.invokevirtual 171, 3) := dk_182 0 171 (dk_at dksX1_state_0 6 rfl rfl)
theorem dX1_state_9 : decode cX1_state 9 = .ok (.ireturn, 1) := dk_172 (dk_at dksX1_state_0 9 rfl rfl)
abbrev cX1_whole_2 : ByteArray := prog_1_method_24_code
def yX1_whole_2 : MethodName := ⟨RX1, "whole", "(I)LBakeryPlan$Day;"⟩
def dkwX1_whole_2_0 : List UInt8 := [27, 42, 180, 0, 32, 180, 0, 114, 182, 0, 118, 184, 0, 119, 42, 182, 0, 164, 176]
abbrev dktX1_whole_2_0 : List UInt8 := dkwX1_whole_2_0 ++ []
theorem dksX1_whole_2_0 : cX1_whole_2.data.toList.drop 0 = dktX1_whole_2_0 := by decide +kernel
theorem dX1_whole_2_0 : decode cX1_whole_2 0 = .ok (.iload_n 1, 1) := dk_27 (dk_at dksX1_whole_2_0 0 rfl rfl)
theorem dX1_whole_2_1 : decode cX1_whole_2 1 = .ok (.aload_n 0, 1) := dk_42 (dk_at dksX1_whole_2_0 1 rfl rfl)
theorem dX1_whole_2_2 : decode cX1_whole_2 2 = .ok (.getfield 32, 3) := dk_180 0 32 (dk_at dksX1_whole_2_0 2 rfl rfl)
theorem dX1_whole_2_5 : decode cX1_whole_2 5 = .ok (.getfield 114, 3) := dk_180 0 114 (dk_at dksX1_whole_2_0 5 rfl rfl)
theorem dX1_whole_2_8 : decode cX1_whole_2 8 = .ok (.invokevirtual 118, 3) := dk_182 0 118 (dk_at dksX1_whole_2_0 8 rfl rfl)
theorem dX1_whole_2_11 : decode cX1_whole_2 11 = .ok (.invokestatic 119, 3) := dk_184 0 119 (dk_at dksX1_whole_2_0 11 rfl rfl)
theorem dX1_whole_2_14 : decode cX1_whole_2 14 = .ok (.aload_n 0, 1) := dk_42 (dk_at dksX1_whole_2_0 14 rfl rfl)
theorem dX1_whole_2_15 : decode cX1_whole_2 15 = .ok (.invokevirtual 164, 3) := dk_182 0 164 (dk_at dksX1_whole_2_0 15 rfl rfl)
theorem dX1_whole_2_18 : decode cX1_whole_2 18 = .ok (.areturn, 1) := dk_176 (dk_at dksX1_whole_2_0 18 rfl rfl)
abbrev cX1_mixerOf : ByteArray := prog_1_method_26_code
def yX1_mixerOf : MethodName := ⟨RX1, "mixerOf", "(I)I"⟩
def dkwX1_mixerOf_0 : List UInt8 := [42, 27, 182, 0, 168, 180, 0, 175, 27, 46, 172]
abbrev dktX1_mixerOf_0 : List UInt8 := dkwX1_mixerOf_0 ++ []
theorem dksX1_mixerOf_0 : cX1_mixerOf.data.toList.drop 0 = dktX1_mixerOf_0 := by decide +kernel
theorem dX1_mixerOf_0 : decode cX1_mixerOf 0 = .ok (.aload_n 0, 1) := dk_42 (dk_at dksX1_mixerOf_0 0 rfl rfl)
theorem dX1_mixerOf_1 : decode cX1_mixerOf 1 = .ok (.iload_n 1, 1) := dk_27 (dk_at dksX1_mixerOf_0 1 rfl rfl)
theorem dX1_mixerOf_2 : decode cX1_mixerOf 2 = .ok (.invokevirtual 168, 3) := dk_182 0 168 (dk_at dksX1_mixerOf_0 2 rfl rfl)
theorem dX1_mixerOf_5 : decode cX1_mixerOf 5 = .ok (.getfield 175, 3) := dk_180 0 175 (dk_at dksX1_mixerOf_0 5 rfl rfl)
theorem dX1_mixerOf_8 : decode cX1_mixerOf 8 = .ok (.iload_n 1, 1) := dk_27 (dk_at dksX1_mixerOf_0 8 rfl rfl)
theorem dX1_mixerOf_9 : decode cX1_mixerOf 9 = .ok (.iaload, 1) := dk_46 (dk_at dksX1_mixerOf_0 9 rfl rfl)
theorem dX1_mixerOf_10 : decode cX1_mixerOf 10 = .ok (.ireturn, 1) := dk_172 (dk_at dksX1_mixerOf_0 10 rfl rfl)
abbrev cX1_mixStart : ByteArray := prog_1_method_27_code
def yX1_mixStart : MethodName := ⟨RX1, "mixStart", "(I)I"⟩
def dkwX1_mixStart_0 : List UInt8 := [42, 27, 182, 0, 168, 180, 0, 178, 27, 46, 172]
abbrev dktX1_mixStart_0 : List UInt8 := dkwX1_mixStart_0 ++ []
theorem dksX1_mixStart_0 : cX1_mixStart.data.toList.drop 0 = dktX1_mixStart_0 := by decide +kernel
theorem dX1_mixStart_0 : decode cX1_mixStart 0 = .ok (.aload_n 0, 1) := dk_42 (dk_at dksX1_mixStart_0 0 rfl rfl)
theorem dX1_mixStart_1 : decode cX1_mixStart 1 = .ok (.iload_n 1, 1) := dk_27 (dk_at dksX1_mixStart_0 1 rfl rfl)
theorem dX1_mixStart_2 : decode cX1_mixStart 2 = .ok (.invokevirtual 168, 3) := dk_182 0 168 (dk_at dksX1_mixStart_0 2 rfl rfl)
theorem dX1_mixStart_5 : decode cX1_mixStart 5 = .ok (.getfield 178, 3) := dk_180 0 178 (dk_at dksX1_mixStart_0 5 rfl rfl)
theorem dX1_mixStart_8 : decode cX1_mixStart 8 = .ok (.iload_n 1, 1) := dk_27 (dk_at dksX1_mixStart_0 8 rfl rfl)
theorem dX1_mixStart_9 : decode cX1_mixStart 9 = .ok (.iaload, 1) := dk_46 (dk_at dksX1_mixStart_0 9 rfl rfl)
theorem dX1_mixStart_10 : decode cX1_mixStart 10 = .ok (.ireturn, 1) := dk_172 (dk_at dksX1_mixStart_0 10 rfl rfl)
abbrev cX1_proofStart : ByteArray := prog_1_method_28_code
def yX1_proofStart : MethodName := ⟨RX1, "proofStart", "(I)I"⟩
def dkwX1_proofStart_0 : List UInt8 := [42, 27, 182, 0, 168, 180, 0, 181, 27, 46, 172]
abbrev dktX1_proofStart_0 : List UInt8 := dkwX1_proofStart_0 ++ []
theorem dksX1_proofStart_0 : cX1_proofStart.data.toList.drop 0 = dktX1_proofStart_0 := by decide +kernel
theorem dX1_proofStart_0 : decode cX1_proofStart 0 = .ok (.aload_n 0, 1) := dk_42 (dk_at dksX1_proofStart_0 0 rfl rfl)
theorem dX1_proofStart_1 : decode cX1_proofStart 1 = .ok (.iload_n 1, 1) := dk_27 (dk_at dksX1_proofStart_0 1 rfl rfl)
theorem dX1_proofStart_2 : decode cX1_proofStart 2 = .ok (.invokevirtual 168, 3) := dk_182 0 168 (dk_at dksX1_proofStart_0 2 rfl rfl)
theorem dX1_proofStart_5 : decode cX1_proofStart 5 = .ok (.getfield 181, 3) := dk_180 0 181 (dk_at dksX1_proofStart_0 5 rfl rfl)
theorem dX1_proofStart_8 : decode cX1_proofStart 8 = .ok (.iload_n 1, 1) := dk_27 (dk_at dksX1_proofStart_0 8 rfl rfl)
theorem dX1_proofStart_9 : decode cX1_proofStart 9 = .ok (.iaload, 1) := dk_46 (dk_at dksX1_proofStart_0 9 rfl rfl)
theorem dX1_proofStart_10 : decode cX1_proofStart 10 = .ok (.ireturn, 1) := dk_172 (dk_at dksX1_proofStart_0 10 rfl rfl)
abbrev cX1_deckOf : ByteArray := prog_1_method_29_code
def yX1_deckOf : MethodName := ⟨RX1, "deckOf", "(I)I"⟩
def dkwX1_deckOf_0 : List UInt8 := [42, 27, 182, 0, 168, 180, 0, 184, 27, 46, 172]
abbrev dktX1_deckOf_0 : List UInt8 := dkwX1_deckOf_0 ++ []
theorem dksX1_deckOf_0 : cX1_deckOf.data.toList.drop 0 = dktX1_deckOf_0 := by decide +kernel
theorem dX1_deckOf_0 : decode cX1_deckOf 0 = .ok (.aload_n 0, 1) := dk_42 (dk_at dksX1_deckOf_0 0 rfl rfl)
theorem dX1_deckOf_1 : decode cX1_deckOf 1 = .ok (.iload_n 1, 1) := dk_27 (dk_at dksX1_deckOf_0 1 rfl rfl)
theorem dX1_deckOf_2 : decode cX1_deckOf 2 = .ok (.invokevirtual 168, 3) := dk_182 0 168 (dk_at dksX1_deckOf_0 2 rfl rfl)
theorem dX1_deckOf_5 : decode cX1_deckOf 5 = .ok (.getfield 184, 3) := dk_180 0 184 (dk_at dksX1_deckOf_0 5 rfl rfl)
theorem dX1_deckOf_8 : decode cX1_deckOf 8 = .ok (.iload_n 1, 1) := dk_27 (dk_at dksX1_deckOf_0 8 rfl rfl)
theorem dX1_deckOf_9 : decode cX1_deckOf 9 = .ok (.iaload, 1) := dk_46 (dk_at dksX1_deckOf_0 9 rfl rfl)
theorem dX1_deckOf_10 : decode cX1_deckOf 10 = .ok (.ireturn, 1) := dk_172 (dk_at dksX1_deckOf_0 10 rfl rfl)
abbrev cX1_bakeStart : ByteArray := prog_1_method_30_code
def yX1_bakeStart : MethodName := ⟨RX1, "bakeStart", "(I)I"⟩
def dkwX1_bakeStart_0 : List UInt8 := [42, 27, 182, 0, 168, 180, 0, 187, 27, 46, 172]
abbrev dktX1_bakeStart_0 : List UInt8 := dkwX1_bakeStart_0 ++ []
theorem dksX1_bakeStart_0 : cX1_bakeStart.data.toList.drop 0 = dktX1_bakeStart_0 := by decide +kernel
theorem dX1_bakeStart_0 : decode cX1_bakeStart 0 = .ok (.aload_n 0, 1) := dk_42 (dk_at dksX1_bakeStart_0 0 rfl rfl)
theorem dX1_bakeStart_1 : decode cX1_bakeStart 1 = .ok (.iload_n 1, 1) := dk_27 (dk_at dksX1_bakeStart_0 1 rfl rfl)
theorem dX1_bakeStart_2 : decode cX1_bakeStart 2 = .ok (.invokevirtual 168, 3) := dk_182 0 168 (dk_at dksX1_bakeStart_0 2 rfl rfl)
theorem dX1_bakeStart_5 : decode cX1_bakeStart 5 = .ok (.getfield 187, 3) := dk_180 0 187 (dk_at dksX1_bakeStart_0 5 rfl rfl)
theorem dX1_bakeStart_8 : decode cX1_bakeStart 8 = .ok (.iload_n 1, 1) := dk_27 (dk_at dksX1_bakeStart_0 8 rfl rfl)
theorem dX1_bakeStart_9 : decode cX1_bakeStart 9 = .ok (.iaload, 1) := dk_46 (dk_at dksX1_bakeStart_0 9 rfl rfl)
theorem dX1_bakeStart_10 : decode cX1_bakeStart 10 = .ok (.ireturn, 1) := dk_172 (dk_at dksX1_bakeStart_0 10 rfl rfl)
abbrev cX1_bakeEnd : ByteArray := prog_1_method_31_code
def yX1_bakeEnd : MethodName := ⟨RX1, "bakeEnd", "(I)I"⟩
def dkwX1_bakeEnd_0 : List UInt8 := [42, 27, 182, 0, 168, 180, 0, 190, 27, 46, 172]
abbrev dktX1_bakeEnd_0 : List UInt8 := dkwX1_bakeEnd_0 ++ []
theorem dksX1_bakeEnd_0 : cX1_bakeEnd.data.toList.drop 0 = dktX1_bakeEnd_0 := by decide +kernel
theorem dX1_bakeEnd_0 : decode cX1_bakeEnd 0 = .ok (.aload_n 0, 1) := dk_42 (dk_at dksX1_bakeEnd_0 0 rfl rfl)
theorem dX1_bakeEnd_1 : decode cX1_bakeEnd 1 = .ok (.iload_n 1, 1) := dk_27 (dk_at dksX1_bakeEnd_0 1 rfl rfl)
theorem dX1_bakeEnd_2 : decode cX1_bakeEnd 2 = .ok (.invokevirtual 168, 3) := dk_182 0 168 (dk_at dksX1_bakeEnd_0 2 rfl rfl)
theorem dX1_bakeEnd_5 : decode cX1_bakeEnd 5 = .ok (.getfield 190, 3) := dk_180 0 190 (dk_at dksX1_bakeEnd_0 5 rfl rfl)
theorem dX1_bakeEnd_8 : decode cX1_bakeEnd 8 = .ok (.iload_n 1, 1) := dk_27 (dk_at dksX1_bakeEnd_0 8 rfl rfl)
theorem dX1_bakeEnd_9 : decode cX1_bakeEnd 9 = .ok (.iaload, 1) := dk_46 (dk_at dksX1_bakeEnd_0 9 rfl rfl)
theorem dX1_bakeEnd_10 : decode cX1_bakeEnd 10 = .ok (.ireturn, 1) := dk_172 (dk_at dksX1_bakeEnd_0 10 rfl rfl)
abbrev cX1_lostAt : ByteArray := prog_1_method_32_code
def yX1_lostAt : MethodName := ⟨RX1, "lostAt", "(I)I"⟩
def dkwX1_lostAt_0 : List UInt8 := [42, 27, 182, 0, 168, 180, 0, 193, 27, 46, 172]
abbrev dktX1_lostAt_0 : List UInt8 := dkwX1_lostAt_0 ++ []
theorem dksX1_lostAt_0 : cX1_lostAt.data.toList.drop 0 = dktX1_lostAt_0 := by decide +kernel
theorem dX1_lostAt_0 : decode cX1_lostAt 0 = .ok (.aload_n 0, 1) := dk_42 (dk_at dksX1_lostAt_0 0 rfl rfl)
theorem dX1_lostAt_1 : decode cX1_lostAt 1 = .ok (.iload_n 1, 1) := dk_27 (dk_at dksX1_lostAt_0 1 rfl rfl)
theorem dX1_lostAt_2 : decode cX1_lostAt 2 = .ok (.invokevirtual 168, 3) := dk_182 0 168 (dk_at dksX1_lostAt_0 2 rfl rfl)
theorem dX1_lostAt_5 : decode cX1_lostAt 5 = .ok (.getfield 193, 3) := dk_180 0 193 (dk_at dksX1_lostAt_0 5 rfl rfl)
theorem dX1_lostAt_8 : decode cX1_lostAt 8 = .ok (.iload_n 1, 1) := dk_27 (dk_at dksX1_lostAt_0 8 rfl rfl)
theorem dX1_lostAt_9 : decode cX1_lostAt 9 = .ok (.iaload, 1) := dk_46 (dk_at dksX1_lostAt_0 9 rfl rfl)
theorem dX1_lostAt_10 : decode cX1_lostAt 10 = .ok (.ireturn, 1) := dk_172 (dk_at dksX1_lostAt_0 10 rfl rfl)
abbrev cX1_shelfMinutes : ByteArray := prog_1_method_33_code
def yX1_shelfMinutes : MethodName := ⟨RX1, "shelfMinutes", "(I)I"⟩
def dkwX1_shelfMinutes_0 : List UInt8 := [42, 27, 182, 0, 168, 180, 0, 196, 27, 46, 172]
abbrev dktX1_shelfMinutes_0 : List UInt8 := dkwX1_shelfMinutes_0 ++ []
theorem dksX1_shelfMinutes_0 : cX1_shelfMinutes.data.toList.drop 0 = dktX1_shelfMinutes_0 := by decide +kernel
theorem dX1_shelfMinutes_0 : decode cX1_shelfMinutes 0 = .ok (.aload_n 0, 1) := dk_42 (dk_at dksX1_shelfMinutes_0 0 rfl rfl)
theorem dX1_shelfMinutes_1 : decode cX1_shelfMinutes 1 = .ok (.iload_n 1, 1) := dk_27 (dk_at dksX1_shelfMinutes_0 1 rfl rfl)
theorem dX1_shelfMinutes_2 : decode cX1_shelfMinutes 2 = .ok (.invokevirtual 168, 3) := dk_182 0 168 (dk_at dksX1_shelfMinutes_0 2 rfl rfl)
theorem dX1_shelfMinutes_5 : decode cX1_shelfMinutes 5 = .ok (.getfield 196, 3) := dk_180 0 196 (dk_at dksX1_shelfMinutes_0 5 rfl rfl)
theorem dX1_shelfMinutes_8 : decode cX1_shelfMinutes 8 = .ok (.iload_n 1, 1) := dk_27 (dk_at dksX1_shelfMinutes_0 8 rfl rfl)
theorem dX1_shelfMinutes_9 : decode cX1_shelfMinutes 9 = .ok (.iaload, 1) := dk_46 (dk_at dksX1_shelfMinutes_0 9 rfl rfl)
theorem dX1_shelfMinutes_10 : decode cX1_shelfMinutes 10 = .ok (.ireturn, 1) := dk_172 (dk_at dksX1_shelfMinutes_0 10 rfl rfl)
abbrev cX1_age : ByteArray := prog_1_method_34_code
def yX1_age : MethodName := ⟨RX1, "age", "(I)D"⟩
def dkwX1_age_1 : List UInt8 := [42, 180, 0, 32, 180, 0, 154, 7, 46, 135, 111, 175]
abbrev dktX1_age_1 : List UInt8 := dkwX1_age_1 ++ []
def dkwX1_age_0 : List UInt8 := [42, 27, 182, 0, 168, 180, 0, 199, 27, 46, 61, 28, 2, 160, 0, 9, 20, 0, 202, 167, 0, 16, 28, 135]
abbrev dktX1_age_0 : List UInt8 := dkwX1_age_0 ++ dktX1_age_1
theorem dksX1_age_0 : cX1_age.data.toList.drop 0 = dktX1_age_0 := by decide +kernel
theorem dksX1_age_1 : cX1_age.data.toList.drop 24 = dktX1_age_1 := dk_seg dksX1_age_0 24 rfl rfl
theorem dX1_age_0 : decode cX1_age 0 = .ok (.aload_n 0, 1) := dk_42 (dk_at dksX1_age_0 0 rfl rfl)
theorem dX1_age_1 : decode cX1_age 1 = .ok (.iload_n 1, 1) := dk_27 (dk_at dksX1_age_0 1 rfl rfl)
theorem dX1_age_2 : decode cX1_age 2 = .ok (.invokevirtual 168, 3) := dk_182 0 168 (dk_at dksX1_age_0 2 rfl rfl)
theorem dX1_age_5 : decode cX1_age 5 = .ok (.getfield 199, 3) := dk_180 0 199 (dk_at dksX1_age_0 5 rfl rfl)
theorem dX1_age_8 : decode cX1_age 8 = .ok (.iload_n 1, 1) := dk_27 (dk_at dksX1_age_0 8 rfl rfl)
theorem dX1_age_9 : decode cX1_age 9 = .ok (.iaload, 1) := dk_46 (dk_at dksX1_age_0 9 rfl rfl)
theorem dX1_age_10 : decode cX1_age 10 = .ok (.istore_n 2, 1) := dk_61 (dk_at dksX1_age_0 10 rfl rfl)
theorem dX1_age_11 : decode cX1_age 11 = .ok (.iload_n 2, 1) := dk_28 (dk_at dksX1_age_0 11 rfl rfl)
theorem dX1_age_12 : decode cX1_age 12 = .ok (.iconst (-1), 1) := dk_2 (dk_at dksX1_age_0 12 rfl rfl)
theorem dX1_age_13 : decode cX1_age 13 = .ok (.if_icmp .ne 9, 3) := dk_160 0 9 (dk_at dksX1_age_0 13 rfl rfl)
theorem dX1_age_16 : decode cX1_age 16 = .ok (.ldc2_w 202, 3) := dk_20 0 202 (dk_at dksX1_age_0 16 rfl rfl)
theorem dX1_age_19 : decode cX1_age 19 = .ok (.goto 16, 3) := dk_167 0 16 (dk_at dksX1_age_0 19 rfl rfl)
theorem dX1_age_22 : decode cX1_age 22 = .ok (.iload_n 2, 1) := dk_28 (dk_at dksX1_age_0 22 rfl rfl)
theorem dX1_age_23 : decode cX1_age 23 = .ok (.i2d, 1) := dk_135 (dk_at dksX1_age_0 23 rfl rfl)
theorem dX1_age_24 : decode cX1_age 24 = .ok (.aload_n 0, 1) := dk_42 (dk_at dksX1_age_1 0 rfl rfl)
theorem dX1_age_25 : decode cX1_age 25 = .ok (.getfield 32, 3) := dk_180 0 32 (dk_at dksX1_age_1 1 rfl rfl)
theorem dX1_age_28 : decode cX1_age 28 = .ok (.getfield 154, 3) := dk_180 0 154 (dk_at dksX1_age_1 4 rfl rfl)
theorem dX1_age_31 : decode cX1_age 31 = .ok (.iconst 4, 1) := dk_7 (dk_at dksX1_age_1 7 rfl rfl)
theorem dX1_age_32 : decode cX1_age 32 = .ok (.iaload, 1) := dk_46 (dk_at dksX1_age_1 8 rfl rfl)
theorem dX1_age_33 : decode cX1_age 33 = .ok (.i2d, 1) := dk_135 (dk_at dksX1_age_1 9 rfl rfl)
theorem dX1_age_34 : decode cX1_age 34 = .ok (.ddiv, 1) := dk_111 (dk_at dksX1_age_1 10 rfl rfl)
theorem dX1_age_35 : decode cX1_age 35 = .ok (.dreturn, 1) := dk_175 (dk_at dksX1_age_1 11 rfl rfl)
abbrev cX1_count : ByteArray := prog_1_method_35_code
def yX1_count : MethodName := ⟨RX1, "count", "(I)I"⟩
def dkwX1_count_0 : List UInt8 := [27, 133, 9, 20, 0, 204, 184, 0, 10, 184, 0, 89, 42, 182, 0, 164, 27, 182, 0, 206, 172]
abbrev dktX1_count_0 : List UInt8 := dkwX1_count_0 ++ []
theorem dksX1_count_0 : cX1_count.data.toList.drop 0 = dktX1_count_0 := by decide +kernel
theorem dX1_count_0 : decode cX1_count 0 = .ok (.iload_n 1, 1) := dk_27 (dk_at dksX1_count_0 0 rfl rfl)
theorem dX1_count_1 : decode cX1_count 1 = .ok (.i2l, 1) := dk_133 (dk_at dksX1_count_0 1 rfl rfl)
theorem dX1_count_2 : decode cX1_count 2 = .ok (.lconst 0, 1) := dk_9 (dk_at dksX1_count_0 2 rfl rfl)
theorem dX1_count_3 : decode cX1_count 3 = .ok (.ldc2_w 204, 3) := dk_20 0 204 (dk_at dksX1_count_0 3 rfl rfl)
theorem dX1_count_6 : decode cX1_count 6 = .ok (.invokestatic 10, 3) := dk_184 0 10 (dk_at dksX1_count_0 6 rfl rfl)
theorem dX1_count_9 : decode cX1_count 9 = .ok (.invokestatic 89, 3) := dk_184 0 89 (dk_at dksX1_count_0 9 rfl rfl)
theorem dX1_count_12 : decode cX1_count 12 = .ok (.aload_n 0, 1) := dk_42 (dk_at dksX1_count_0 12 rfl rfl)
theorem dX1_count_13 : decode cX1_count 13 = .ok (.invokevirtual 164, 3) := dk_182 0 164 (dk_at dksX1_count_0 13 rfl rfl)
theorem dX1_count_16 : decode cX1_count 16 = .ok (.iload_n 1, 1) := dk_27 (dk_at dksX1_count_0 16 rfl rfl)
theorem dX1_count_17 : decode cX1_count 17 = .ok (.invokevirtual 206, 3) := dk_182 0 206 (dk_at dksX1_count_0 17 rfl rfl)
theorem dX1_count_20 : decode cX1_count 20 = .ok (.ireturn, 1) := dk_172 (dk_at dksX1_count_0 20 rfl rfl)
abbrev cX1_utilization : ByteArray := prog_1_method_41_code
def yX1_utilization : MethodName := ⟨RX1, "utilization", "(I)D"⟩
def dkwX1_utilization_0 : List UInt8 := [42, 27, 182, 0, 218, 42, 182, 0, 164, 180, 0, 221, 27, 46, 135, 20, 0, 224, 111, 175]
abbrev dktX1_utilization_0 : List UInt8 := dkwX1_utilization_0 ++ []
theorem dksX1_utilization_0 : cX1_utilization.data.toList.drop 0 = dktX1_utilization_0 := by decide +kernel
theorem dX1_utilization_0 : decode cX1_utilization 0 = .ok (.aload_n 0, 1) := dk_42 (dk_at dksX1_utilization_0 0 rfl rfl)
theorem dX1_utilization_1 : decode cX1_utilization 1 = .ok (.iload_n 1, 1) := dk_27 (dk_at dksX1_utilization_0 1 rfl rfl)
theorem dX1_utilization_2 : decode cX1_utilization 2 = .ok (.invokevirtual 218, 3) := dk_182 0 218 (dk_at dksX1_utilization_0 2 rfl rfl)
theorem dX1_utilization_5 : decode cX1_utilization 5 = .ok (.aload_n 0, 1) := dk_42 (dk_at dksX1_utilization_0 5 rfl rfl)
theorem dX1_utilization_6 : decode cX1_utilization 6 = .ok (.invokevirtual 164, 3) := dk_182 0 164 (dk_at dksX1_utilization_0 6 rfl rfl)
theorem dX1_utilization_9 : decode cX1_utilization 9 = .ok (.getfield 221, 3) := dk_180 0 221 (dk_at dksX1_utilization_0 9 rfl rfl)
theorem dX1_utilization_12 : decode cX1_utilization 12 = .ok (.iload_n 1, 1) := dk_27 (dk_at dksX1_utilization_0 12 rfl rfl)
theorem dX1_utilization_13 : decode cX1_utilization 13 = .ok (.iaload, 1) := dk_46 (dk_at dksX1_utilization_0 13 rfl rfl)
theorem dX1_utilization_14 : decode cX1_utilization 14 = .ok (.i2d, 1) := dk_135 (dk_at dksX1_utilization_0 14 rfl rfl)
theorem dX1_utilization_15 : decode cX1_utilization 15 = .ok (.ldc2_w 224, 3) := dk_20 0 224 (dk_at dksX1_utilization_0 15 rfl rfl)
theorem dX1_utilization_18 : decode cX1_utilization 18 = .ok (.ddiv, 1) := dk_111 (dk_at dksX1_utilization_0 18 rfl rfl)
theorem dX1_utilization_19 : decode cX1_utilization 19 = .ok (.dreturn, 1) := dk_175 (dk_at dksX1_utilization_0 19 rfl rfl)
abbrev cX1_requireDeck : ByteArray := prog_1_method_39_code
def yX1_requireDeck : MethodName := ⟨RX1, "requireDeck", "(I)V"⟩
def dkwX1_requireDeck_0 : List UInt8 := [27, 42, 180, 0, 32, 180, 0, 154, 4, 46, 184, 0, 119, 177]
abbrev dktX1_requireDeck_0 : List UInt8 := dkwX1_requireDeck_0 ++ []
theorem dksX1_requireDeck_0 : cX1_requireDeck.data.toList.drop 0 = dktX1_requireDeck_0 := by decide +kernel
theorem dX1_requireDeck_0 : decode cX1_requireDeck 0 = .ok (.iload_n 1, 1) := dk_27 (dk_at dksX1_requireDeck_0 0 rfl rfl)
theorem dX1_requireDeck_1 : decode cX1_requireDeck 1 = .ok (.aload_n 0, 1) := dk_42 (dk_at dksX1_requireDeck_0 1 rfl rfl)
theorem dX1_requireDeck_2 : decode cX1_requireDeck 2 = .ok (.getfield 32, 3) := dk_180 0 32 (dk_at dksX1_requireDeck_0 2 rfl rfl)
theorem dX1_requireDeck_5 : decode cX1_requireDeck 5 = .ok (.getfield 154, 3) := dk_180 0 154 (dk_at dksX1_requireDeck_0 5 rfl rfl)
theorem dX1_requireDeck_8 : decode cX1_requireDeck 8 = .ok (.iconst 1, 1) := dk_4 (dk_at dksX1_requireDeck_0 8 rfl rfl)
theorem dX1_requireDeck_9 : decode cX1_requireDeck 9 = .ok (.iaload, 1) := dk_46 (dk_at dksX1_requireDeck_0 9 rfl rfl)
theorem dX1_requireDeck_10 : decode cX1_requireDeck 10 = .ok (.invokestatic 119, 3) := dk_184 0 119 (dk_at dksX1_requireDeck_0 10 rfl rfl)
theorem dX1_requireDeck_13 : decode cX1_requireDeck 13 = .ok (.return_, 1) := dk_177 (dk_at dksX1_requireDeck_0 13 rfl rfl)
abbrev cX1_begunBy : ByteArray := prog_1_method_42_code
def yX1_begunBy : MethodName := ⟨RX1, "begunBy", "(I)I"⟩
def dkwX1_begunBy_0 : List UInt8 := [27, 42, 180, 0, 32, 180, 0, 154, 3, 46, 184, 0, 119, 42, 182, 0, 164, 180, 0, 226, 27, 46, 172]
abbrev dktX1_begunBy_0 : List UInt8 := dkwX1_begunBy_0 ++ []
theorem dksX1_begunBy_0 : cX1_begunBy.data.toList.drop 0 = dktX1_begunBy_0 := by decide +kernel
theorem dX1_begunBy_0 : decode cX1_begunBy 0 = .ok (.iload_n 1, 1) := dk_27 (dk_at dksX1_begunBy_0 0 rfl rfl)
theorem dX1_begunBy_1 : decode cX1_begunBy 1 = .ok (.aload_n 0, 1) := dk_42 (dk_at dksX1_begunBy_0 1 rfl rfl)
theorem dX1_begunBy_2 : decode cX1_begunBy 2 = .ok (.getfield 32, 3) := dk_180 0 32 (dk_at dksX1_begunBy_0 2 rfl rfl)
theorem dX1_begunBy_5 : decode cX1_begunBy 5 = .ok (.getfield 154, 3) := dk_180 0 154 (dk_at dksX1_begunBy_0 5 rfl rfl)
theorem dX1_begunBy_8 : decode cX1_begunBy 8 = .ok (.iconst 0, 1) := dk_3 (dk_at dksX1_begunBy_0 8 rfl rfl)
theorem dX1_begunBy_9 : decode cX1_begunBy 9 = .ok (.iaload, 1) := dk_46 (dk_at dksX1_begunBy_0 9 rfl rfl)
theorem dX1_begunBy_10 : decode cX1_begunBy 10 = .ok (.invokestatic 119, 3) := dk_184 0 119 (dk_at dksX1_begunBy_0 10 rfl rfl)
theorem dX1_begunBy_13 : decode cX1_begunBy 13 = .ok (.aload_n 0, 1) := dk_42 (dk_at dksX1_begunBy_0 13 rfl rfl)
theorem dX1_begunBy_14 : decode cX1_begunBy 14 = .ok (.invokevirtual 164, 3) := dk_182 0 164 (dk_at dksX1_begunBy_0 14 rfl rfl)
theorem dX1_begunBy_17 : decode cX1_begunBy 17 = .ok (.getfield 226, 3) := dk_180 0 226 (dk_at dksX1_begunBy_0 17 rfl rfl)
theorem dX1_begunBy_20 : decode cX1_begunBy 20 = .ok (.iload_n 1, 1) := dk_27 (dk_at dksX1_begunBy_0 20 rfl rfl)
theorem dX1_begunBy_21 : decode cX1_begunBy 21 = .ok (.iaload, 1) := dk_46 (dk_at dksX1_begunBy_0 21 rfl rfl)
theorem dX1_begunBy_22 : decode cX1_begunBy 22 = .ok (.ireturn, 1) := dk_172 (dk_at dksX1_begunBy_0 22 rfl rfl)
abbrev cX1_temperature : ByteArray := prog_1_method_43_code
def yX1_temperature : MethodName := ⟨RX1, "temperature", "(II)I"⟩
def dkwX1_temperature_1 : List UInt8 := [27, 46, 172]
abbrev dktX1_temperature_1 : List UInt8 := dkwX1_temperature_1 ++ []
def dkwX1_temperature_0 : List UInt8 := [42, 27, 182, 0, 218, 28, 184, 0, 229, 42, 180, 0, 41, 42, 180, 0, 32, 28, 182, 0, 160, 180, 0, 232]
abbrev dktX1_temperature_0 : List UInt8 := dkwX1_temperature_0 ++ dktX1_temperature_1
theorem dksX1_temperature_0 : cX1_temperature.data.toList.drop 0 = dktX1_temperature_0 := by decide +kernel
theorem dksX1_temperature_1 : cX1_temperature.data.toList.drop 24 = dktX1_temperature_1 := dk_seg dksX1_temperature_0 24 rfl rfl
theorem dX1_temperature_0 : decode cX1_temperature 0 = .ok (.aload_n 0, 1) := dk_42 (dk_at dksX1_temperature_0 0 rfl rfl)
theorem dX1_temperature_1 : decode cX1_temperature 1 = .ok (.iload_n 1, 1) := dk_27 (dk_at dksX1_temperature_0 1 rfl rfl)
theorem dX1_temperature_2 : decode cX1_temperature 2 = .ok (.invokevirtual 218, 3) := dk_182 0 218 (dk_at dksX1_temperature_0 2 rfl rfl)
theorem dX1_temperature_5 : decode cX1_temperature 5 = .ok (.iload_n 2, 1) := dk_28 (dk_at dksX1_temperature_0 5 rfl rfl)
theorem dX1_temperature_6 : decode cX1_temperature 6 = .ok (.invokestatic 229, 3) := dk_184 0 229 (dk_at dksX1_temperature_0 6 rfl rfl)
theorem dX1_temperature_9 : decode cX1_temperature 9 = .ok (.aload_n 0, 1) := dk_42 (dk_at dksX1_temperature_0 9 rfl rfl)
theorem dX1_temperature_10 : decode cX1_temperature 10 = .ok (.getfield 41, 3) := dk_180 0 41 (dk_at dksX1_temperature_0 10 rfl rfl)
theorem dX1_temperature_13 : decode cX1_temperature 13 = .ok (.aload_n 0, 1) := dk_42 (dk_at dksX1_temperature_0 13 rfl rfl)
theorem dX1_temperature_14 : decode cX1_temperature 14 = .ok (.getfield 32, 3) := dk_180 0 32 (dk_at dksX1_temperature_0 14 rfl rfl)
theorem dX1_temperature_17 : decode cX1_temperature 17 = .ok (.iload_n 2, 1) := dk_28 (dk_at dksX1_temperature_0 17 rfl rfl)
theorem dX1_temperature_18 : decode cX1_temperature 18 = .ok (.invokevirtual 160, 3) := dk_182 0 160 (dk_at dksX1_temperature_0 18 rfl rfl)
theorem dX1_temperature_21 : decode cX1_temperature 21 = .ok (.getfield 232, 3) := dk_180 0 232 (dk_at dksX1_temperature_0 21 rfl rfl)
theorem dX1_temperature_24 : decode cX1_temperature 24 = .ok (.iload_n 1, 1) := dk_27 (dk_at dksX1_temperature_1 0 rfl rfl)
theorem dX1_temperature_25 : decode cX1_temperature 25 = .ok (.iaload, 1) := dk_46 (dk_at dksX1_temperature_1 1 rfl rfl)
theorem dX1_temperature_26 : decode cX1_temperature 26 = .ok (.ireturn, 1) := dk_172 (dk_at dksX1_temperature_1 2 rfl rfl)
abbrev cX1_requireMinute : ByteArray := prog_1_method_40_code
def yX1_requireMinute : MethodName := ⟨RX1, "requireMinute", "(I)V"⟩
def dkwX1_requireMinute_0 : List UInt8 := [26, 17, 5, 160, 184, 0, 119, 177]
abbrev dktX1_requireMinute_0 : List UInt8 := dkwX1_requireMinute_0 ++ []
theorem dksX1_requireMinute_0 : cX1_requireMinute.data.toList.drop 0 = dktX1_requireMinute_0 := by decide +kernel
theorem dX1_requireMinute_0 : decode cX1_requireMinute 0 = .ok (.iload_n 0, 1) := dk_26 (dk_at dksX1_requireMinute_0 0 rfl rfl)
theorem dX1_requireMinute_1 : decode cX1_requireMinute 1 = .ok (.sipush 1440, 3) := dk_17 5 160 (dk_at dksX1_requireMinute_0 1 rfl rfl)
theorem dX1_requireMinute_4 : decode cX1_requireMinute 4 = .ok (.invokestatic 119, 3) := dk_184 0 119 (dk_at dksX1_requireMinute_0 4 rfl rfl)
theorem dX1_requireMinute_7 : decode cX1_requireMinute 7 = .ok (.return_, 1) := dk_177 (dk_at dksX1_requireMinute_0 7 rfl rfl)
abbrev cX1_baking : ByteArray := prog_1_method_44_code
def yX1_baking : MethodName := ⟨RX1, "baking", "(II)I"⟩
def dkwX1_baking_1 : List UInt8 := [45, 27, 182, 0, 235, 153, 0, 12, 45, 180, 0, 239, 27, 46, 167, 0, 4, 2, 172]
abbrev dktX1_baking_1 : List UInt8 := dkwX1_baking_1 ++ []
def dkwX1_baking_0 : List UInt8 := [42, 27, 182, 0, 218, 28, 184, 0, 229, 42, 180, 0, 41, 42, 180, 0, 32, 28, 4, 96, 182, 0, 160, 78]
abbrev dktX1_baking_0 : List UInt8 := dkwX1_baking_0 ++ dktX1_baking_1
theorem dksX1_baking_0 : cX1_baking.data.toList.drop 0 = dktX1_baking_0 := by decide +kernel
theorem dksX1_baking_1 : cX1_baking.data.toList.drop 24 = dktX1_baking_1 := dk_seg dksX1_baking_0 24 rfl rfl
theorem dX1_baking_0 : decode cX1_baking 0 = .ok (.aload_n 0, 1) := dk_42 (dk_at dksX1_baking_0 0 rfl rfl)
theorem dX1_baking_1 : decode cX1_baking 1 = .ok (.iload_n 1, 1) := dk_27 (dk_at dksX1_baking_0 1 rfl rfl)
theorem dX1_baking_2 : decode cX1_baking 2 = .ok (.invokevirtual 218, 3) := dk_182 0 218 (dk_at dksX1_baking_0 2 rfl rfl)
theorem dX1_baking_5 : decode cX1_baking 5 = .ok (.iload_n 2, 1) := dk_28 (dk_at dksX1_baking_0 5 rfl rfl)
theorem dX1_baking_6 : decode cX1_baking 6 = .ok (.invokestatic 229, 3) := dk_184 0 229 (dk_at dksX1_baking_0 6 rfl rfl)
theorem dX1_baking_9 : decode cX1_baking 9 = .ok (.aload_n 0, 1) := dk_42 (dk_at dksX1_baking_0 9 rfl rfl)
theorem dX1_baking_10 : decode cX1_baking 10 = .ok (.getfield 41, 3) := dk_180 0 41 (dk_at dksX1_baking_0 10 rfl rfl)
theorem dX1_baking_13 : decode cX1_baking 13 = .ok (.aload_n 0, 1) := dk_42 (dk_at dksX1_baking_0 13 rfl rfl)
theorem dX1_baking_14 : decode cX1_baking 14 = .ok (.getfield 32, 3) := dk_180 0 32 (dk_at dksX1_baking_0 14 rfl rfl)
theorem dX1_baking_17 : decode cX1_baking 17 = .ok (.iload_n 2, 1) := dk_28 (dk_at dksX1_baking_0 17 rfl rfl)
theorem dX1_baking_18 : decode cX1_baking 18 = .ok (.iconst 1, 1) := dk_4 (dk_at dksX1_baking_0 18 rfl rfl)
theorem dX1_baking_19 : decode cX1_baking 19 = .ok (.iadd, 1) := dk_96 (dk_at dksX1_baking_0 19 rfl rfl)
theorem dX1_baking_20 : decode cX1_baking 20 = .ok (.invokevirtual 160, 3) := dk_182 0 160 (dk_at dksX1_baking_0 20 rfl rfl)
theorem dX1_baking_23 : decode cX1_baking 23 = .ok (.astore_n 3, 1) := dk_78 (dk_at dksX1_baking_0 23 rfl rfl)
theorem dX1_baking_24 : decode cX1_baking 24 = .ok (.aload_n 3, 1) := dk_45 (dk_at dksX1_baking_1 0 rfl rfl)
theorem dX1_baking_25 : decode cX1_baking 25 = .ok (.iload_n 1, 1) := dk_27 (dk_at dksX1_baking_1 1 rfl rfl)
theorem dX1_baking_26 : decode cX1_baking 26 = .ok (.invokevirtual 235, 3) := dk_182 0 235 (dk_at dksX1_baking_1 2 rfl rfl)
theorem dX1_baking_29 : decode cX1_baking 29 = .ok (.ifCond .eq 12, 3) := dk_153 0 12 (dk_at dksX1_baking_1 5 rfl rfl)
theorem dX1_baking_32 : decode cX1_baking 32 = .ok (.aload_n 3, 1) := dk_45 (dk_at dksX1_baking_1 8 rfl rfl)
theorem dX1_baking_33 : decode cX1_baking 33 = .ok (.getfield 239, 3) := dk_180 0 239 (dk_at dksX1_baking_1 9 rfl rfl)
theorem dX1_baking_36 : decode cX1_baking 36 = .ok (.iload_n 1, 1) := dk_27 (dk_at dksX1_baking_1 12 rfl rfl)
theorem dX1_baking_37 : decode cX1_baking 37 = .ok (.iaload, 1) := dk_46 (dk_at dksX1_baking_1 13 rfl rfl)
theorem dX1_baking_38 : decode cX1_baking 38 = .ok (.goto 4, 3) := dk_167 0 4 (dk_at dksX1_baking_1 14 rfl rfl)
theorem dX1_baking_41 : decode cX1_baking 41 = .ok (.iconst (-1), 1) := dk_2 (dk_at dksX1_baking_1 17 rfl rfl)
theorem dX1_baking_42 : decode cX1_baking 42 = .ok (.ireturn, 1) := dk_172 (dk_at dksX1_baking_1 18 rfl rfl)
abbrev cX1_inRoom : ByteArray := prog_1_method_45_code
def yX1_inRoom : MethodName := ⟨RX1, "inRoom", "(I)I"⟩
def dkwX1_inRoom_0 : List UInt8 := [27, 184, 0, 229, 42, 180, 0, 41, 42, 180, 0, 32, 27, 4, 96, 182, 0, 160, 182, 0, 242, 172]
abbrev dktX1_inRoom_0 : List UInt8 := dkwX1_inRoom_0 ++ []
theorem dksX1_inRoom_0 : cX1_inRoom.data.toList.drop 0 = dktX1_inRoom_0 := by decide +kernel
theorem dX1_inRoom_0 : decode cX1_inRoom 0 = .ok (.iload_n 1, 1) := dk_27 (dk_at dksX1_inRoom_0 0 rfl rfl)
theorem dX1_inRoom_1 : decode cX1_inRoom 1 = .ok (.invokestatic 229, 3) := dk_184 0 229 (dk_at dksX1_inRoom_0 1 rfl rfl)
theorem dX1_inRoom_4 : decode cX1_inRoom 4 = .ok (.aload_n 0, 1) := dk_42 (dk_at dksX1_inRoom_0 4 rfl rfl)
theorem dX1_inRoom_5 : decode cX1_inRoom 5 = .ok (.getfield 41, 3) := dk_180 0 41 (dk_at dksX1_inRoom_0 5 rfl rfl)
theorem dX1_inRoom_8 : decode cX1_inRoom 8 = .ok (.aload_n 0, 1) := dk_42 (dk_at dksX1_inRoom_0 8 rfl rfl)
theorem dX1_inRoom_9 : decode cX1_inRoom 9 = .ok (.getfield 32, 3) := dk_180 0 32 (dk_at dksX1_inRoom_0 9 rfl rfl)
theorem dX1_inRoom_12 : decode cX1_inRoom 12 = .ok (.iload_n 1, 1) := dk_27 (dk_at dksX1_inRoom_0 12 rfl rfl)
theorem dX1_inRoom_13 : decode cX1_inRoom 13 = .ok (.iconst 1, 1) := dk_4 (dk_at dksX1_inRoom_0 13 rfl rfl)
theorem dX1_inRoom_14 : decode cX1_inRoom 14 = .ok (.iadd, 1) := dk_96 (dk_at dksX1_inRoom_0 14 rfl rfl)
theorem dX1_inRoom_15 : decode cX1_inRoom 15 = .ok (.invokevirtual 160, 3) := dk_182 0 160 (dk_at dksX1_inRoom_0 15 rfl rfl)
theorem dX1_inRoom_18 : decode cX1_inRoom 18 = .ok (.invokevirtual 242, 3) := dk_182 0 242 (dk_at dksX1_inRoom_0 18 rfl rfl)
theorem dX1_inRoom_21 : decode cX1_inRoom 21 = .ok (.ireturn, 1) := dk_172 (dk_at dksX1_inRoom_0 21 rfl rfl)
abbrev cX1_onShelves : ByteArray := prog_1_method_46_code
def yX1_onShelves : MethodName := ⟨RX1, "onShelves", "(I)I"⟩
def dkwX1_onShelves_0 : List UInt8 := [27, 184, 0, 229, 42, 180, 0, 41, 42, 180, 0, 32, 27, 4, 96, 182, 0, 160, 182, 0, 245, 172]
abbrev dktX1_onShelves_0 : List UInt8 := dkwX1_onShelves_0 ++ []
theorem dksX1_onShelves_0 : cX1_onShelves.data.toList.drop 0 = dktX1_onShelves_0 := by decide +kernel
theorem dX1_onShelves_0 : decode cX1_onShelves 0 = .ok (.iload_n 1, 1) := dk_27 (dk_at dksX1_onShelves_0 0 rfl rfl)
theorem dX1_onShelves_1 : decode cX1_onShelves 1 = .ok (.invokestatic 229, 3) := dk_184 0 229 (dk_at dksX1_onShelves_0 1 rfl rfl)
theorem dX1_onShelves_4 : decode cX1_onShelves 4 = .ok (.aload_n 0, 1) := dk_42 (dk_at dksX1_onShelves_0 4 rfl rfl)
theorem dX1_onShelves_5 : decode cX1_onShelves 5 = .ok (.getfield 41, 3) := dk_180 0 41 (dk_at dksX1_onShelves_0 5 rfl rfl)
theorem dX1_onShelves_8 : decode cX1_onShelves 8 = .ok (.aload_n 0, 1) := dk_42 (dk_at dksX1_onShelves_0 8 rfl rfl)
theorem dX1_onShelves_9 : decode cX1_onShelves 9 = .ok (.getfield 32, 3) := dk_180 0 32 (dk_at dksX1_onShelves_0 9 rfl rfl)
theorem dX1_onShelves_12 : decode cX1_onShelves 12 = .ok (.iload_n 1, 1) := dk_27 (dk_at dksX1_onShelves_0 12 rfl rfl)
theorem dX1_onShelves_13 : decode cX1_onShelves 13 = .ok (.iconst 1, 1) := dk_4 (dk_at dksX1_onShelves_0 13 rfl rfl)
theorem dX1_onShelves_14 : decode cX1_onShelves 14 = .ok (.iadd, 1) := dk_96 (dk_at dksX1_onShelves_0 14 rfl rfl)
theorem dX1_onShelves_15 : decode cX1_onShelves 15 = .ok (.invokevirtual 160, 3) := dk_182 0 160 (dk_at dksX1_onShelves_0 15 rfl rfl)
theorem dX1_onShelves_18 : decode cX1_onShelves 18 = .ok (.invokevirtual 245, 3) := dk_182 0 245 (dk_at dksX1_onShelves_0 18 rfl rfl)
theorem dX1_onShelves_21 : decode cX1_onShelves 21 = .ok (.ireturn, 1) := dk_172 (dk_at dksX1_onShelves_0 21 rfl rfl)
abbrev cX1_needed : ByteArray := prog_1_method_48_code
def yX1_needed : MethodName := ⟨RX1, "needed", "(I)I"⟩
def dkwX1_needed_3 : List UInt8 := [167, 255, 218, 2, 172]
abbrev dktX1_needed_3 : List UInt8 := dkwX1_needed_3 ++ []
def dkwX1_needed_2 : List UInt8 := [42, 180, 0, 41, 44, 17, 5, 160, 182, 0, 160, 6, 182, 0, 206, 154, 0, 5, 29, 172, 132, 3, 1]
abbrev dktX1_needed_2 : List UInt8 := dkwX1_needed_2 ++ dktX1_needed_3
def dkwX1_needed_1 : List UInt8 := [182, 0, 74, 77, 27, 184, 0, 254, 62, 29, 27, 184, 1, 1, 163, 0, 36, 44, 180, 0, 154, 27, 29, 79]
abbrev dktX1_needed_1 : List UInt8 := dkwX1_needed_1 ++ dktX1_needed_2
def dkwX1_needed_0 : List UInt8 := [27, 4, 159, 0, 8, 27, 5, 160, 0, 7, 4, 167, 0, 4, 3, 184, 0, 89, 42, 180, 0, 32]
abbrev dktX1_needed_0 : List UInt8 := dkwX1_needed_0 ++ dktX1_needed_1
theorem dksX1_needed_0 : cX1_needed.data.toList.drop 0 = dktX1_needed_0 := by decide +kernel
theorem dksX1_needed_1 : cX1_needed.data.toList.drop 22 = dktX1_needed_1 := dk_seg dksX1_needed_0 22 rfl rfl
theorem dksX1_needed_2 : cX1_needed.data.toList.drop 46 = dktX1_needed_2 := dk_seg dksX1_needed_1 24 rfl rfl
theorem dksX1_needed_3 : cX1_needed.data.toList.drop 69 = dktX1_needed_3 := dk_seg dksX1_needed_2 23 rfl rfl
theorem dX1_needed_0 : decode cX1_needed 0 = .ok (.iload_n 1, 1) := dk_27 (dk_at dksX1_needed_0 0 rfl rfl)
theorem dX1_needed_1 : decode cX1_needed 1 = .ok (.iconst 1, 1) := dk_4 (dk_at dksX1_needed_0 1 rfl rfl)
theorem dX1_needed_2 : decode cX1_needed 2 = .ok (.if_icmp .eq 8, 3) := dk_159 0 8 (dk_at dksX1_needed_0 2 rfl rfl)
theorem dX1_needed_5 : decode cX1_needed 5 = .ok (.iload_n 1, 1) := dk_27 (dk_at dksX1_needed_0 5 rfl rfl)
theorem dX1_needed_6 : decode cX1_needed 6 = .ok (.iconst 2, 1) := dk_5 (dk_at dksX1_needed_0 6 rfl rfl)
theorem dX1_needed_7 : decode cX1_needed 7 = .ok (.if_icmp .ne 7, 3) := dk_160 0 7 (dk_at dksX1_needed_0 7 rfl rfl)
theorem dX1_needed_10 : decode cX1_needed 10 = .ok (.iconst 1, 1) := dk_4 (dk_at dksX1_needed_0 10 rfl rfl)
theorem dX1_needed_11 : decode cX1_needed 11 = .ok (.goto 4, 3) := dk_167 0 4 (dk_at dksX1_needed_0 11 rfl rfl)
theorem dX1_needed_14 : decode cX1_needed 14 = .ok (.iconst 0, 1) := dk_3 (dk_at dksX1_needed_0 14 rfl rfl)
theorem dX1_needed_15 : decode cX1_needed 15 = .ok (.invokestatic 89, 3) := dk_184 0 89 (dk_at dksX1_needed_0 15 rfl rfl)
theorem dX1_needed_18 : decode cX1_needed 18 = .ok (.aload_n 0, 1) := dk_42 (dk_at dksX1_needed_0 18 rfl rfl)
theorem dX1_needed_19 : decode cX1_needed 19 = .ok (.getfield 32, 3) := dk_180 0 32 (dk_at dksX1_needed_0 19 rfl rfl)
theorem dX1_needed_22 : decode cX1_needed 22 = .ok (.invokevirtual 74, 3) := dk_182 0 74 (dk_at dksX1_needed_1 0 rfl rfl)
theorem dX1_needed_25 : decode cX1_needed 25 = .ok (.astore_n 2, 1) := dk_77 (dk_at dksX1_needed_1 3 rfl rfl)
theorem dX1_needed_26 : decode cX1_needed 26 = .ok (.iload_n 1, 1) := dk_27 (dk_at dksX1_needed_1 4 rfl rfl)
theorem dX1_needed_27 : decode cX1_needed 27 = .ok (.invokestatic 254, 3) := dk_184 0 254 (dk_at dksX1_needed_1 5 rfl rfl)
theorem dX1_needed_30 : decode cX1_needed 30 = .ok (.istore_n 3, 1) := dk_62 (dk_at dksX1_needed_1 8 rfl rfl)
theorem dX1_needed_31 : decode cX1_needed 31 = .ok (.iload_n 3, 1) := dk_29 (dk_at dksX1_needed_1 9 rfl rfl)
theorem dX1_needed_32 : decode cX1_needed 32 = .ok (.iload_n 1, 1) := dk_27 (dk_at dksX1_needed_1 10 rfl rfl)
theorem dX1_needed_33 : decode cX1_needed 33 = .ok (.invokestatic 257, 3) := dk_184 1 1 (dk_at dksX1_needed_1 11 rfl rfl)
theorem dX1_needed_36 : decode cX1_needed 36 = .ok (.if_icmp .gt 36, 3) := dk_163 0 36 (dk_at dksX1_needed_1 14 rfl rfl)
theorem dX1_needed_39 : decode cX1_needed 39 = .ok (.aload_n 2, 1) := dk_44 (dk_at dksX1_needed_1 17 rfl rfl)
theorem dX1_needed_40 : decode cX1_needed 40 = .ok (.getfield 154, 3) := dk_180 0 154 (dk_at dksX1_needed_1 18 rfl rfl)
theorem dX1_needed_43 : decode cX1_needed 43 = .ok (.iload_n 1, 1) := dk_27 (dk_at dksX1_needed_1 21 rfl rfl)
theorem dX1_needed_44 : decode cX1_needed 44 = .ok (.iload_n 3, 1) := dk_29 (dk_at dksX1_needed_1 22 rfl rfl)
theorem dX1_needed_45 : decode cX1_needed 45 = .ok (.iastore, 1) := dk_79 (dk_at dksX1_needed_1 23 rfl rfl)
theorem dX1_needed_46 : decode cX1_needed 46 = .ok (.aload_n 0, 1) := dk_42 (dk_at dksX1_needed_2 0 rfl rfl)
theorem dX1_needed_47 : decode cX1_needed 47 = .ok (.getfield 41, 3) := dk_180 0 41 (dk_at dksX1_needed_2 1 rfl rfl)
theorem dX1_needed_50 : decode cX1_needed 50 = .ok (.aload_n 2, 1) := dk_44 (dk_at dksX1_needed_2 4 rfl rfl)
theorem dX1_needed_51 : decode cX1_needed 51 = .ok (.sipush 1440, 3) := dk_17 5 160 (dk_at dksX1_needed_2 5 rfl rfl)
theorem dX1_needed_54 : decode cX1_needed 54 = .ok (.invokevirtual 160, 3) := dk_182 0 160 (dk_at dksX1_needed_2 8 rfl rfl)
theorem dX1_needed_57 : decode cX1_needed 57 = .ok (.iconst 3, 1) := dk_6 (dk_at dksX1_needed_2 11 rfl rfl)
theorem dX1_needed_58 : decode cX1_needed 58 = .ok (.invokevirtual 206, 3) := dk_182 0 206 (dk_at dksX1_needed_2 12 rfl rfl)
theorem dX1_needed_61 : decode cX1_needed 61 = .ok (.ifCond .ne 5, 3) := dk_154 0 5 (dk_at dksX1_needed_2 15 rfl rfl)
theorem dX1_needed_64 : decode cX1_needed 64 = .ok (.iload_n 3, 1) := dk_29 (dk_at dksX1_needed_2 18 rfl rfl)
theorem dX1_needed_65 : decode cX1_needed 65 = .ok (.ireturn, 1) := dk_172 (dk_at dksX1_needed_2 19 rfl rfl)
theorem dX1_needed_66 : decode cX1_needed 66 = .ok (.iinc 3 1, 3) := dk_132 3 1 (dk_at dksX1_needed_2 20 rfl rfl)
theorem dX1_needed_69 : decode cX1_needed 69 = .ok (.goto (-38), 3) := dk_167 255 218 (dk_at dksX1_needed_3 0 rfl rfl)
theorem dX1_needed_72 : decode cX1_needed 72 = .ok (.iconst (-1), 1) := dk_2 (dk_at dksX1_needed_3 3 rfl rfl)
theorem dX1_needed_73 : decode cX1_needed 73 = .ok (.ireturn, 1) := dk_172 (dk_at dksX1_needed_3 4 rfl rfl)
abbrev cX1_slack : ByteArray := prog_1_method_49_code
def yX1_slack : MethodName := ⟨RX1, "slack", "(II)I"⟩
def dkwX1_slack_3 : List UInt8 := [25, 4, 27, 182, 1, 12, 153, 0, 6, 21, 5, 172, 132, 5, 255, 167, 255, 213, 2, 172]
abbrev dktX1_slack_3 : List UInt8 := dkwX1_slack_3 ++ []
def dkwX1_slack_2 : List UInt8 := [25, 4, 180, 0, 114, 27, 182, 0, 123, 192, 0, 127, 29, 21, 5, 96, 181, 0, 146, 42, 180, 0, 41]
abbrev dktX1_slack_2 : List UInt8 := dkwX1_slack_2 ++ dktX1_slack_3
def dkwX1_slack_1 : List UInt8 := [180, 0, 32, 182, 0, 74, 58, 4, 28, 17, 3, 231, 29, 100, 184, 1, 6, 54, 5, 21, 5, 155, 0, 44]
abbrev dktX1_slack_1 : List UInt8 := dkwX1_slack_1 ++ dktX1_slack_2
def dkwX1_slack_0 : List UInt8 := [42, 27, 182, 0, 139, 180, 0, 146, 62, 28, 133, 10, 20, 1, 4, 184, 0, 10, 184, 0, 89, 42]
abbrev dktX1_slack_0 : List UInt8 := dkwX1_slack_0 ++ dktX1_slack_1
theorem dksX1_slack_0 : cX1_slack.data.toList.drop 0 = dktX1_slack_0 := by decide +kernel
theorem dksX1_slack_1 : cX1_slack.data.toList.drop 22 = dktX1_slack_1 := dk_seg dksX1_slack_0 22 rfl rfl
theorem dksX1_slack_2 : cX1_slack.data.toList.drop 46 = dktX1_slack_2 := dk_seg dksX1_slack_1 24 rfl rfl
theorem dksX1_slack_3 : cX1_slack.data.toList.drop 69 = dktX1_slack_3 := dk_seg dksX1_slack_2 23 rfl rfl
theorem dX1_slack_0 : decode cX1_slack 0 = .ok (.aload_n 0, 1) := dk_42 (dk_at dksX1_slack_0 0 rfl rfl)
theorem dX1_slack_1 : decode cX1_slack 1 = .ok (.iload_n 1, 1) := dk_27 (dk_at dksX1_slack_0 1 rfl rfl)
theorem dX1_slack_2 : decode cX1_slack 2 = .ok (.invokevirtual 139, 3) := dk_182 0 139 (dk_at dksX1_slack_0 2 rfl rfl)
theorem dX1_slack_5 : decode cX1_slack 5 = .ok (.getfield 146, 3) := dk_180 0 146 (dk_at dksX1_slack_0 5 rfl rfl)
theorem dX1_slack_8 : decode cX1_slack 8 = .ok (.istore_n 3, 1) := dk_62 (dk_at dksX1_slack_0 8 rfl rfl)
theorem dX1_slack_9 : decode cX1_slack 9 = .ok (.iload_n 2, 1) := dk_28 (dk_at dksX1_slack_0 9 rfl rfl)
theorem dX1_slack_10 : decode cX1_slack 10 = .ok (.i2l, 1) := dk_133 (dk_at dksX1_slack_0 10 rfl rfl)
theorem dX1_slack_11 : decode cX1_slack 11 = .ok (.lconst 1, 1) := dk_10 (dk_at dksX1_slack_0 11 rfl rfl)
theorem dX1_slack_12 : decode cX1_slack 12 = .ok (.ldc2_w 260, 3) := dk_20 1 4 (dk_at dksX1_slack_0 12 rfl rfl)
theorem dX1_slack_15 : decode cX1_slack 15 = .ok (.invokestatic 10, 3) := dk_184 0 10 (dk_at dksX1_slack_0 15 rfl rfl)
theorem dX1_slack_18 : decode cX1_slack 18 = .ok (.invokestatic 89, 3) := dk_184 0 89 (dk_at dksX1_slack_0 18 rfl rfl)
theorem dX1_slack_21 : decode cX1_slack 21 = .ok (.aload_n 0, 1) := dk_42 (dk_at dksX1_slack_0 21 rfl rfl)
theorem dX1_slack_22 : decode cX1_slack 22 = .ok (.getfield 32, 3) := dk_180 0 32 (dk_at dksX1_slack_1 0 rfl rfl)
theorem dX1_slack_25 : decode cX1_slack 25 = .ok (.invokevirtual 74, 3) := dk_182 0 74 (dk_at dksX1_slack_1 3 rfl rfl)
theorem dX1_slack_28 : decode cX1_slack 28 = .ok (.astore 4, 2) := dk_58 4 (dk_at dksX1_slack_1 6 rfl rfl)
theorem dX1_slack_30 : decode cX1_slack 30 = .ok (.iload_n 2, 1) := dk_28 (dk_at dksX1_slack_1 8 rfl rfl)
theorem dX1_slack_31 : decode cX1_slack 31 = .ok (.sipush 999, 3) := dk_17 3 231 (dk_at dksX1_slack_1 9 rfl rfl)
theorem dX1_slack_34 : decode cX1_slack 34 = .ok (.iload_n 3, 1) := dk_29 (dk_at dksX1_slack_1 12 rfl rfl)
theorem dX1_slack_35 : decode cX1_slack 35 = .ok (.isub, 1) := dk_100 (dk_at dksX1_slack_1 13 rfl rfl)
theorem dX1_slack_36 : decode cX1_slack 36 = .ok (.invokestatic 262, 3) := dk_184 1 6 (dk_at dksX1_slack_1 14 rfl rfl)
theorem dX1_slack_39 : decode cX1_slack 39 = .ok (.istore 5, 2) := dk_54 5 (dk_at dksX1_slack_1 17 rfl rfl)
theorem dX1_slack_41 : decode cX1_slack 41 = .ok (.iload 5, 2) := dk_21 5 (dk_at dksX1_slack_1 19 rfl rfl)
theorem dX1_slack_43 : decode cX1_slack 43 = .ok (.ifCond .lt 44, 3) := dk_155 0 44 (dk_at dksX1_slack_1 21 rfl rfl)
theorem dX1_slack_46 : decode cX1_slack 46 = .ok (.aload 4, 2) := dk_25 4 (dk_at dksX1_slack_2 0 rfl rfl)
theorem dX1_slack_48 : decode cX1_slack 48 = .ok (.getfield 114, 3) := dk_180 0 114 (dk_at dksX1_slack_2 2 rfl rfl)
theorem dX1_slack_51 : decode cX1_slack 51 = .ok (.iload_n 1, 1) := dk_27 (dk_at dksX1_slack_2 5 rfl rfl)
theorem dX1_slack_52 : decode cX1_slack 52 = .ok (.invokevirtual 123, 3) := dk_182 0 123 (dk_at dksX1_slack_2 6 rfl rfl)
theorem dX1_slack_55 : decode cX1_slack 55 = .ok (.checkcast 127, 3) := dk_192 0 127 (dk_at dksX1_slack_2 9 rfl rfl)
theorem dX1_slack_58 : decode cX1_slack 58 = .ok (.iload_n 3, 1) := dk_29 (dk_at dksX1_slack_2 12 rfl rfl)
theorem dX1_slack_59 : decode cX1_slack 59 = .ok (.iload 5, 2) := dk_21 5 (dk_at dksX1_slack_2 13 rfl rfl)
theorem dX1_slack_61 : decode cX1_slack 61 = .ok (.iadd, 1) := dk_96 (dk_at dksX1_slack_2 15 rfl rfl)
theorem dX1_slack_62 : decode cX1_slack 62 = .ok (.putfield 146, 3) := dk_181 0 146 (dk_at dksX1_slack_2 16 rfl rfl)
theorem dX1_slack_65 : decode cX1_slack 65 = .ok (.aload_n 0, 1) := dk_42 (dk_at dksX1_slack_2 19 rfl rfl)
theorem dX1_slack_66 : decode cX1_slack 66 = .ok (.getfield 41, 3) := dk_180 0 41 (dk_at dksX1_slack_2 20 rfl rfl)
theorem dX1_slack_69 : decode cX1_slack 69 = .ok (.aload 4, 2) := dk_25 4 (dk_at dksX1_slack_3 0 rfl rfl)
theorem dX1_slack_71 : decode cX1_slack 71 = .ok (.iload_n 1, 1) := dk_27 (dk_at dksX1_slack_3 2 rfl rfl)
theorem dX1_slack_72 : decode cX1_slack 72 = .ok (.invokevirtual 268, 3) := dk_182 1 12 (dk_at dksX1_slack_3 3 rfl rfl)
theorem dX1_slack_75 : decode cX1_slack 75 = .ok (.ifCond .eq 6, 3) := dk_153 0 6 (dk_at dksX1_slack_3 6 rfl rfl)
theorem dX1_slack_78 : decode cX1_slack 78 = .ok (.iload 5, 2) := dk_21 5 (dk_at dksX1_slack_3 9 rfl rfl)
theorem dX1_slack_80 : decode cX1_slack 80 = .ok (.ireturn, 1) := dk_172 (dk_at dksX1_slack_3 11 rfl rfl)
theorem dX1_slack_81 : decode cX1_slack 81 = .ok (.iinc 5 (-1), 3) := dk_132 5 255 (dk_at dksX1_slack_3 12 rfl rfl)
theorem dX1_slack_84 : decode cX1_slack 84 = .ok (.goto (-43), 3) := dk_167 255 213 (dk_at dksX1_slack_3 15 rfl rfl)
theorem dX1_slack_87 : decode cX1_slack 87 = .ok (.iconst (-1), 1) := dk_2 (dk_at dksX1_slack_3 18 rfl rfl)
theorem dX1_slack_88 : decode cX1_slack 88 = .ok (.ireturn, 1) := dk_172 (dk_at dksX1_slack_3 19 rfl rfl)
abbrev cX1_addBatch : ByteArray := prog_1_method_52_code
def yX1_addBatch : MethodName := ⟨RX1, "addBatch", "(III)I"⟩
def dkwX1_addBatch_3 : List UInt8 := [29, 183, 1, 24, 182, 1, 27, 87, 42, 180, 0, 32, 180, 0, 114, 182, 0, 118, 4, 100, 172]
abbrev dktX1_addBatch_3 : List UInt8 := dkwX1_addBatch_3 ++ []
def dkwX1_addBatch_2 : List UInt8 := [167, 0, 4, 3, 184, 0, 85, 42, 182, 1, 21, 42, 180, 0, 32, 180, 0, 114, 187, 0, 127, 89, 27, 28]
abbrev dktX1_addBatch_2 : List UInt8 := dkwX1_addBatch_2 ++ dktX1_addBatch_3
def dkwX1_addBatch_1 : List UInt8 := [184, 0, 119, 28, 184, 1, 18, 42, 180, 0, 32, 180, 0, 114, 182, 0, 118, 16, 20, 162, 0, 7, 4]
abbrev dktX1_addBatch_1 : List UInt8 := dkwX1_addBatch_1 ++ dktX1_addBatch_2
def dkwX1_addBatch_0 : List UInt8 := [27, 42, 180, 0, 32, 180, 0, 129, 182, 0, 118, 184, 0, 119, 29, 42, 180, 0, 32, 180, 0, 132]
abbrev dktX1_addBatch_0 : List UInt8 := dkwX1_addBatch_0 ++ dktX1_addBatch_1
theorem dksX1_addBatch_0 : cX1_addBatch.data.toList.drop 0 = dktX1_addBatch_0 := by decide +kernel
theorem dksX1_addBatch_1 : cX1_addBatch.data.toList.drop 22 = dktX1_addBatch_1 := dk_seg dksX1_addBatch_0 22 rfl rfl
theorem dksX1_addBatch_2 : cX1_addBatch.data.toList.drop 45 = dktX1_addBatch_2 := dk_seg dksX1_addBatch_1 23 rfl rfl
theorem dksX1_addBatch_3 : cX1_addBatch.data.toList.drop 69 = dktX1_addBatch_3 := dk_seg dksX1_addBatch_2 24 rfl rfl
theorem dX1_addBatch_0 : decode cX1_addBatch 0 = .ok (.iload_n 1, 1) := dk_27 (dk_at dksX1_addBatch_0 0 rfl rfl)
theorem dX1_addBatch_1 : decode cX1_addBatch 1 = .ok (.aload_n 0, 1) := dk_42 (dk_at dksX1_addBatch_0 1 rfl rfl)
theorem dX1_addBatch_2 : decode cX1_addBatch 2 = .ok (.getfield 32, 3) := dk_180 0 32 (dk_at dksX1_addBatch_0 2 rfl rfl)
theorem dX1_addBatch_5 : decode cX1_addBatch 5 = .ok (.getfield 129, 3) := dk_180 0 129 (dk_at dksX1_addBatch_0 5 rfl rfl)
theorem dX1_addBatch_8 : decode cX1_addBatch 8 = .ok (.invokevirtual 118, 3) := dk_182 0 118 (dk_at dksX1_addBatch_0 8 rfl rfl)
theorem dX1_addBatch_11 : decode cX1_addBatch 11 = .ok (.invokestatic 119, 3) := dk_184 0 119 (dk_at dksX1_addBatch_0 11 rfl rfl)
theorem dX1_addBatch_14 : decode cX1_addBatch 14 = .ok (.iload_n 3, 1) := dk_29 (dk_at dksX1_addBatch_0 14 rfl rfl)
theorem dX1_addBatch_15 : decode cX1_addBatch 15 = .ok (.aload_n 0, 1) := dk_42 (dk_at dksX1_addBatch_0 15 rfl rfl)
theorem dX1_addBatch_16 : decode cX1_addBatch 16 = .ok (.getfield 32, 3) := dk_180 0 32 (dk_at dksX1_addBatch_0 16 rfl rfl)
theorem dX1_addBatch_19 : decode cX1_addBatch 19 = .ok (.getfield 132, 3) := dk_180 0 132 (dk_at dksX1_addBatch_0 19 rfl rfl)
theorem dX1_addBatch_22 : decode cX1_addBatch 22 = .ok (.invokestatic 119, 3) := dk_184 0 119 (dk_at dksX1_addBatch_1 0 rfl rfl)
theorem dX1_addBatch_25 : decode cX1_addBatch 25 = .ok (.iload_n 2, 1) := dk_28 (dk_at dksX1_addBatch_1 3 rfl rfl)
theorem dX1_addBatch_26 : decode cX1_addBatch 26 = .ok (.invokestatic 274, 3) := dk_184 1 18 (dk_at dksX1_addBatch_1 4 rfl rfl)
theorem dX1_addBatch_29 : decode cX1_addBatch 29 = .ok (.aload_n 0, 1) := dk_42 (dk_at dksX1_addBatch_1 7 rfl rfl)
theorem dX1_addBatch_30 : decode cX1_addBatch 30 = .ok (.getfield 32, 3) := dk_180 0 32 (dk_at dksX1_addBatch_1 8 rfl rfl)
theorem dX1_addBatch_33 : decode cX1_addBatch 33 = .ok (.getfield 114, 3) := dk_180 0 114 (dk_at dksX1_addBatch_1 11 rfl rfl)
theorem dX1_addBatch_36 : decode cX1_addBatch 36 = .ok (.invokevirtual 118, 3) := dk_182 0 118 (dk_at dksX1_addBatch_1 14 rfl rfl)
theorem dX1_addBatch_39 : decode cX1_addBatch 39 = .ok (.bipush 20, 2) := dk_16 20 (dk_at dksX1_addBatch_1 17 rfl rfl)
theorem dX1_addBatch_41 : decode cX1_addBatch 41 = .ok (.if_icmp .ge 7, 3) := dk_162 0 7 (dk_at dksX1_addBatch_1 19 rfl rfl)
theorem dX1_addBatch_44 : decode cX1_addBatch 44 = .ok (.iconst 1, 1) := dk_4 (dk_at dksX1_addBatch_1 22 rfl rfl)
theorem dX1_addBatch_45 : decode cX1_addBatch 45 = .ok (.goto 4, 3) := dk_167 0 4 (dk_at dksX1_addBatch_2 0 rfl rfl)
theorem dX1_addBatch_48 : decode cX1_addBatch 48 = .ok (.iconst 0, 1) := dk_3 (dk_at dksX1_addBatch_2 3 rfl rfl)
theorem dX1_addBatch_49 : decode cX1_addBatch 49 = .ok (.invokestatic 85, 3) := dk_184 0 85 (dk_at dksX1_addBatch_2 4 rfl rfl)
theorem dX1_addBatch_52 : decode cX1_addBatch 52 = .ok (.aload_n 0, 1) := dk_42 (dk_at dksX1_addBatch_2 7 rfl rfl)
theorem dX1_addBatch_53 : decode cX1_addBatch 53 = .ok (.invokevirtual 277, 3) := dk_182 1 21 (dk_at dksX1_addBatch_2 8 rfl rfl)
theorem dX1_addBatch_56 : decode cX1_addBatch 56 = .ok (.aload_n 0, 1) := dk_42 (dk_at dksX1_addBatch_2 11 rfl rfl)
theorem dX1_addBatch_57 : decode cX1_addBatch 57 = .ok (.getfield 32, 3) := dk_180 0 32 (dk_at dksX1_addBatch_2 12 rfl rfl)
theorem dX1_addBatch_60 : decode cX1_addBatch 60 = .ok (.getfield 114, 3) := dk_180 0 114 (dk_at dksX1_addBatch_2 15 rfl rfl)
theorem dX1_addBatch_63 : decode cX1_addBatch 63 = .ok (.new 127, 3) := dk_187 0 127 (dk_at dksX1_addBatch_2 18 rfl rfl)
theorem dX1_addBatch_66 : decode cX1_addBatch 66 = .ok (.dup, 1) := dk_89 (dk_at dksX1_addBatch_2 21 rfl rfl)
theorem dX1_addBatch_67 : decode cX1_addBatch 67 = .ok (.iload_n 1, 1) := dk_27 (dk_at dksX1_addBatch_2 22 rfl rfl)
theorem dX1_addBatch_68 : decode cX1_addBatch 68 = .ok (.iload_n 2, 1) := dk_28 (dk_at dksX1_addBatch_2 23 rfl rfl)
theorem dX1_addBatch_69 : decode cX1_addBatch 69 = .ok (.iload_n 3, 1) := dk_29 (dk_at dksX1_addBatch_3 0 rfl rfl)
theorem dX1_addBatch_70 : decode cX1_addBatch 70 = .ok (.invokespecial 280, 3) := dk_183 1 24 (dk_at dksX1_addBatch_3 1 rfl rfl)
theorem dX1_addBatch_73 : decode cX1_addBatch 73 = .ok (.invokevirtual 283, 3) := dk_182 1 27 (dk_at dksX1_addBatch_3 4 rfl rfl)
theorem dX1_addBatch_76 : decode cX1_addBatch 76 = .ok (.pop, 1) := dk_87 (dk_at dksX1_addBatch_3 7 rfl rfl)
theorem dX1_addBatch_77 : decode cX1_addBatch 77 = .ok (.aload_n 0, 1) := dk_42 (dk_at dksX1_addBatch_3 8 rfl rfl)
theorem dX1_addBatch_78 : decode cX1_addBatch 78 = .ok (.getfield 32, 3) := dk_180 0 32 (dk_at dksX1_addBatch_3 9 rfl rfl)
theorem dX1_addBatch_81 : decode cX1_addBatch 81 = .ok (.getfield 114, 3) := dk_180 0 114 (dk_at dksX1_addBatch_3 12 rfl rfl)
theorem dX1_addBatch_84 : decode cX1_addBatch 84 = .ok (.invokevirtual 118, 3) := dk_182 0 118 (dk_at dksX1_addBatch_3 15 rfl rfl)
theorem dX1_addBatch_87 : decode cX1_addBatch 87 = .ok (.iconst 1, 1) := dk_4 (dk_at dksX1_addBatch_3 18 rfl rfl)
theorem dX1_addBatch_88 : decode cX1_addBatch 88 = .ok (.isub, 1) := dk_100 (dk_at dksX1_addBatch_3 19 rfl rfl)
theorem dX1_addBatch_89 : decode cX1_addBatch 89 = .ok (.ireturn, 1) := dk_172 (dk_at dksX1_addBatch_3 20 rfl rfl)
abbrev cX1_requireStart : ByteArray := prog_1_method_51_code
def yX1_requireStart : MethodName := ⟨RX1, "requireStart", "(I)V"⟩
def dkwX1_requireStart_0 : List UInt8 := [26, 133, 9, 20, 1, 16, 184, 0, 10, 184, 0, 89, 177]
abbrev dktX1_requireStart_0 : List UInt8 := dkwX1_requireStart_0 ++ []
theorem dksX1_requireStart_0 : cX1_requireStart.data.toList.drop 0 = dktX1_requireStart_0 := by decide +kernel
theorem dX1_requireStart_0 : decode cX1_requireStart 0 = .ok (.iload_n 0, 1) := dk_26 (dk_at dksX1_requireStart_0 0 rfl rfl)
theorem dX1_requireStart_1 : decode cX1_requireStart 1 = .ok (.i2l, 1) := dk_133 (dk_at dksX1_requireStart_0 1 rfl rfl)
theorem dX1_requireStart_2 : decode cX1_requireStart 2 = .ok (.lconst 0, 1) := dk_9 (dk_at dksX1_requireStart_0 2 rfl rfl)
theorem dX1_requireStart_3 : decode cX1_requireStart 3 = .ok (.ldc2_w 272, 3) := dk_20 1 16 (dk_at dksX1_requireStart_0 3 rfl rfl)
theorem dX1_requireStart_6 : decode cX1_requireStart 6 = .ok (.invokestatic 10, 3) := dk_184 0 10 (dk_at dksX1_requireStart_0 6 rfl rfl)
theorem dX1_requireStart_9 : decode cX1_requireStart 9 = .ok (.invokestatic 89, 3) := dk_184 0 89 (dk_at dksX1_requireStart_0 9 rfl rfl)
theorem dX1_requireStart_12 : decode cX1_requireStart 12 = .ok (.return_, 1) := dk_177 (dk_at dksX1_requireStart_0 12 rfl rfl)
abbrev cX1_remember : ByteArray := prog_1_method_8_code
def yX1_remember : MethodName := ⟨RX1, "remember", "()V"⟩
def dkwX1_remember_1 : List UInt8 := [42, 180, 0, 32, 182, 0, 74, 182, 0, 78, 177]
abbrev dktX1_remember_1 : List UInt8 := dkwX1_remember_1 ++ []
def dkwX1_remember_0 : List UInt8 := [42, 180, 0, 48, 182, 0, 66, 16, 10, 160, 0, 11, 42, 180, 0, 48, 182, 0, 70, 87, 42, 180, 0, 48]
abbrev dktX1_remember_0 : List UInt8 := dkwX1_remember_0 ++ dktX1_remember_1
theorem dksX1_remember_0 : cX1_remember.data.toList.drop 0 = dktX1_remember_0 := by decide +kernel
theorem dksX1_remember_1 : cX1_remember.data.toList.drop 24 = dktX1_remember_1 := dk_seg dksX1_remember_0 24 rfl rfl
theorem dX1_remember_0 : decode cX1_remember 0 = .ok (.aload_n 0, 1) := dk_42 (dk_at dksX1_remember_0 0 rfl rfl)
theorem dX1_remember_1 : decode cX1_remember 1 = .ok (.getfield 48, 3) := dk_180 0 48 (dk_at dksX1_remember_0 1 rfl rfl)
theorem dX1_remember_4 : decode cX1_remember 4 = .ok (.invokevirtual 66, 3) := dk_182 0 66 (dk_at dksX1_remember_0 4 rfl rfl)
theorem dX1_remember_7 : decode cX1_remember 7 = .ok (.bipush 10, 2) := dk_16 10 (dk_at dksX1_remember_0 7 rfl rfl)
theorem dX1_remember_9 : decode cX1_remember 9 = .ok (.if_icmp .ne 11, 3) := dk_160 0 11 (dk_at dksX1_remember_0 9 rfl rfl)
theorem dX1_remember_12 : decode cX1_remember 12 = .ok (.aload_n 0, 1) := dk_42 (dk_at dksX1_remember_0 12 rfl rfl)
theorem dX1_remember_13 : decode cX1_remember 13 = .ok (.getfield 48, 3) := dk_180 0 48 (dk_at dksX1_remember_0 13 rfl rfl)
theorem dX1_remember_16 : decode cX1_remember 16 = .ok (.invokevirtual 70, 3) := dk_182 0 70 (dk_at dksX1_remember_0 16 rfl rfl)
theorem dX1_remember_19 : decode cX1_remember 19 = .ok (.pop, 1) := dk_87 (dk_at dksX1_remember_0 19 rfl rfl)
theorem dX1_remember_20 : decode cX1_remember 20 = .ok (.aload_n 0, 1) := dk_42 (dk_at dksX1_remember_0 20 rfl rfl)
theorem dX1_remember_21 : decode cX1_remember 21 = .ok (.getfield 48, 3) := dk_180 0 48 (dk_at dksX1_remember_0 21 rfl rfl)
theorem dX1_remember_24 : decode cX1_remember 24 = .ok (.aload_n 0, 1) := dk_42 (dk_at dksX1_remember_1 0 rfl rfl)
theorem dX1_remember_25 : decode cX1_remember 25 = .ok (.getfield 32, 3) := dk_180 0 32 (dk_at dksX1_remember_1 1 rfl rfl)
theorem dX1_remember_28 : decode cX1_remember 28 = .ok (.invokevirtual 74, 3) := dk_182 0 74 (dk_at dksX1_remember_1 4 rfl rfl)
theorem dX1_remember_31 : decode cX1_remember 31 = .ok (.invokevirtual 78, 3) := dk_182 0 78 (dk_at dksX1_remember_1 7 rfl rfl)
theorem dX1_remember_34 : decode cX1_remember 34 = .ok (.return_, 1) := dk_177 (dk_at dksX1_remember_1 10 rfl rfl)
abbrev cX1_removeBatch : ByteArray := prog_1_method_53_code
def yX1_removeBatch : MethodName := ⟨RX1, "removeBatch", "(I)I"⟩
def dkwX1_removeBatch_1 : List UInt8 := [78, 42, 180, 0, 32, 180, 0, 114, 182, 0, 118, 172]
abbrev dktX1_removeBatch_1 : List UInt8 := dkwX1_removeBatch_1 ++ []
def dkwX1_removeBatch_0 : List UInt8 := [42, 27, 182, 0, 139, 77, 42, 182, 1, 21, 42, 180, 0, 32, 180, 0, 114, 27, 182, 1, 31, 192, 0, 127]
abbrev dktX1_removeBatch_0 : List UInt8 := dkwX1_removeBatch_0 ++ dktX1_removeBatch_1
theorem dksX1_removeBatch_0 : cX1_removeBatch.data.toList.drop 0 = dktX1_removeBatch_0 := by decide +kernel
theorem dksX1_removeBatch_1 : cX1_removeBatch.data.toList.drop 24 = dktX1_removeBatch_1 := dk_seg dksX1_removeBatch_0 24 rfl rfl
theorem dX1_removeBatch_0 : decode cX1_removeBatch 0 = .ok (.aload_n 0, 1) := dk_42 (dk_at dksX1_removeBatch_0 0 rfl rfl)
theorem dX1_removeBatch_1 : decode cX1_removeBatch 1 = .ok (.iload_n 1, 1) := dk_27 (dk_at dksX1_removeBatch_0 1 rfl rfl)
theorem dX1_removeBatch_2 : decode cX1_removeBatch 2 = .ok (.invokevirtual 139, 3) := dk_182 0 139 (dk_at dksX1_removeBatch_0 2 rfl rfl)
theorem dX1_removeBatch_5 : decode cX1_removeBatch 5 = .ok (.astore_n 2, 1) := dk_77 (dk_at dksX1_removeBatch_0 5 rfl rfl)
theorem dX1_removeBatch_6 : decode cX1_removeBatch 6 = .ok (.aload_n 0, 1) := dk_42 (dk_at dksX1_removeBatch_0 6 rfl rfl)
theorem dX1_removeBatch_7 : decode cX1_removeBatch 7 = .ok (.invokevirtual 277, 3) := dk_182 1 21 (dk_at dksX1_removeBatch_0 7 rfl rfl)
theorem dX1_removeBatch_10 : decode cX1_removeBatch 10 = .ok (.aload_n 0, 1) := dk_42 (dk_at dksX1_removeBatch_0 10 rfl rfl)
theorem dX1_removeBatch_11 : decode cX1_removeBatch 11 = .ok (.getfield 32, 3) := dk_180 0 32 (dk_at dksX1_removeBatch_0 11 rfl rfl)
theorem dX1_removeBatch_14 : decode cX1_removeBatch 14 = .ok (.getfield 114, 3) := dk_180 0 114 (dk_at dksX1_removeBatch_0 14 rfl rfl)
theorem dX1_removeBatch_17 : decode cX1_removeBatch 17 = .ok (.iload_n 1, 1) := dk_27 (dk_at dksX1_removeBatch_0 17 rfl rfl)
theorem dX1_removeBatch_18 : decode cX1_removeBatch 18 = .ok (.invokevirtual 287, 3) := dk_182 1 31 (dk_at dksX1_removeBatch_0 18 rfl rfl)
theorem dX1_removeBatch_21 : decode cX1_removeBatch 21 = .ok (.checkcast 127, 3) := dk_192 0 127 (dk_at dksX1_removeBatch_0 21 rfl rfl)
theorem dX1_removeBatch_24 : decode cX1_removeBatch 24 = .ok (.astore_n 3, 1) := dk_78 (dk_at dksX1_removeBatch_1 0 rfl rfl)
theorem dX1_removeBatch_25 : decode cX1_removeBatch 25 = .ok (.aload_n 0, 1) := dk_42 (dk_at dksX1_removeBatch_1 1 rfl rfl)
theorem dX1_removeBatch_26 : decode cX1_removeBatch 26 = .ok (.getfield 32, 3) := dk_180 0 32 (dk_at dksX1_removeBatch_1 2 rfl rfl)
theorem dX1_removeBatch_29 : decode cX1_removeBatch 29 = .ok (.getfield 114, 3) := dk_180 0 114 (dk_at dksX1_removeBatch_1 5 rfl rfl)
theorem dX1_removeBatch_32 : decode cX1_removeBatch 32 = .ok (.invokevirtual 118, 3) := dk_182 0 118 (dk_at dksX1_removeBatch_1 8 rfl rfl)
theorem dX1_removeBatch_35 : decode cX1_removeBatch 35 = .ok (.ireturn, 1) := dk_172 (dk_at dksX1_removeBatch_1 11 rfl rfl)
abbrev cX1_moveBatch : ByteArray := prog_1_method_54_code
def yX1_moveBatch : MethodName := ⟨RX1, "moveBatch", "(II)I"⟩
def dkwX1_moveBatch_2 : List UInt8 := [25, 4, 182, 1, 34, 28, 27, 100, 184, 1, 37, 172]
abbrev dktX1_moveBatch_2 : List UInt8 := dkwX1_moveBatch_2 ++ []
def dkwX1_moveBatch_1 : List UInt8 := [42, 180, 0, 32, 180, 0, 114, 27, 182, 1, 31, 192, 0, 127, 58, 4, 42, 180, 0, 32, 180, 0, 114, 28]
abbrev dktX1_moveBatch_1 : List UInt8 := dkwX1_moveBatch_1 ++ dktX1_moveBatch_2
def dkwX1_moveBatch_0 : List UInt8 := [42, 27, 182, 0, 139, 78, 28, 42, 180, 0, 32, 180, 0, 114, 182, 0, 118, 184, 0, 119, 42, 182, 1, 21]
abbrev dktX1_moveBatch_0 : List UInt8 := dkwX1_moveBatch_0 ++ dktX1_moveBatch_1
theorem dksX1_moveBatch_0 : cX1_moveBatch.data.toList.drop 0 = dktX1_moveBatch_0 := by decide +kernel
theorem dksX1_moveBatch_1 : cX1_moveBatch.data.toList.drop 24 = dktX1_moveBatch_1 := dk_seg dksX1_moveBatch_0 24 rfl rfl
theorem dksX1_moveBatch_2 : cX1_moveBatch.data.toList.drop 48 = dktX1_moveBatch_2 := dk_seg dksX1_moveBatch_1 24 rfl rfl
theorem dX1_moveBatch_0 : decode cX1_moveBatch 0 = .ok (.aload_n 0, 1) := dk_42 (dk_at dksX1_moveBatch_0 0 rfl rfl)
theorem dX1_moveBatch_1 : decode cX1_moveBatch 1 = .ok (.iload_n 1, 1) := dk_27 (dk_at dksX1_moveBatch_0 1 rfl rfl)
theorem dX1_moveBatch_2 : decode cX1_moveBatch 2 = .ok (.invokevirtual 139, 3) := dk_182 0 139 (dk_at dksX1_moveBatch_0 2 rfl rfl)
theorem dX1_moveBatch_5 : decode cX1_moveBatch 5 = .ok (.astore_n 3, 1) := dk_78 (dk_at dksX1_moveBatch_0 5 rfl rfl)
theorem dX1_moveBatch_6 : decode cX1_moveBatch 6 = .ok (.iload_n 2, 1) := dk_28 (dk_at dksX1_moveBatch_0 6 rfl rfl)
theorem dX1_moveBatch_7 : decode cX1_moveBatch 7 = .ok (.aload_n 0, 1) := dk_42 (dk_at dksX1_moveBatch_0 7 rfl rfl)
theorem dX1_moveBatch_8 : decode cX1_moveBatch 8 = .ok (.getfield 32, 3) := dk_180 0 32 (dk_at dksX1_moveBatch_0 8 rfl rfl)
theorem dX1_moveBatch_11 : decode cX1_moveBatch 11 = .ok (.getfield 114, 3) := dk_180 0 114 (dk_at dksX1_moveBatch_0 11 rfl rfl)
theorem dX1_moveBatch_14 : decode cX1_moveBatch 14 = .ok (.invokevirtual 118, 3) := dk_182 0 118 (dk_at dksX1_moveBatch_0 14 rfl rfl)
theorem dX1_moveBatch_17 : decode cX1_moveBatch 17 = .ok (.invokestatic 119, 3) := dk_184 0 119 (dk_at dksX1_moveBatch_0 17 rfl rfl)
theorem dX1_moveBatch_20 : decode cX1_moveBatch 20 = .ok (.aload_n 0, 1) := dk_42 (dk_at dksX1_moveBatch_0 20 rfl rfl)
theorem dX1_moveBatch_21 : decode cX1_moveBatch 21 = .ok (.invokevirtual 277, 3) := dk_182 1 21 (dk_at dksX1_moveBatch_0 21 rfl rfl)
theorem dX1_moveBatch_24 : decode cX1_moveBatch 24 = .ok (.aload_n 0, 1) := dk_42 (dk_at dksX1_moveBatch_1 0 rfl rfl)
theorem dX1_moveBatch_25 : decode cX1_moveBatch 25 = .ok (.getfield 32, 3) := dk_180 0 32 (dk_at dksX1_moveBatch_1 1 rfl rfl)
theorem dX1_moveBatch_28 : decode cX1_moveBatch 28 = .ok (.getfield 114, 3) := dk_180 0 114 (dk_at dksX1_moveBatch_1 4 rfl rfl)
theorem dX1_moveBatch_31 : decode cX1_moveBatch 31 = .ok (.iload_n 1, 1) := dk_27 (dk_at dksX1_moveBatch_1 7 rfl rfl)
theorem dX1_moveBatch_32 : decode cX1_moveBatch 32 = .ok (.invokevirtual 287, 3) := dk_182 1 31 (dk_at dksX1_moveBatch_1 8 rfl rfl)
theorem dX1_moveBatch_35 : decode cX1_moveBatch 35 = .ok (.checkcast 127, 3) := dk_192 0 127 (dk_at dksX1_moveBatch_1 11 rfl rfl)
theorem dX1_moveBatch_38 : decode cX1_moveBatch 38 = .ok (.astore 4, 2) := dk_58 4 (dk_at dksX1_moveBatch_1 14 rfl rfl)
theorem dX1_moveBatch_40 : decode cX1_moveBatch 40 = .ok (.aload_n 0, 1) := dk_42 (dk_at dksX1_moveBatch_1 16 rfl rfl)
theorem dX1_moveBatch_41 : decode cX1_moveBatch 41 = .ok (.getfield 32, 3) := dk_180 0 32 (dk_at dksX1_moveBatch_1 17 rfl rfl)
theorem dX1_moveBatch_44 : decode cX1_moveBatch 44 = .ok (.getfield 114, 3) := dk_180 0 114 (dk_at dksX1_moveBatch_1 20 rfl rfl)
theorem dX1_moveBatch_47 : decode cX1_moveBatch 47 = .ok (.iload_n 2, 1) := dk_28 (dk_at dksX1_moveBatch_1 23 rfl rfl)
theorem dX1_moveBatch_48 : decode cX1_moveBatch 48 = .ok (.aload 4, 2) := dk_25 4 (dk_at dksX1_moveBatch_2 0 rfl rfl)
theorem dX1_moveBatch_50 : decode cX1_moveBatch 50 = .ok (.invokevirtual 290, 3) := dk_182 1 34 (dk_at dksX1_moveBatch_2 2 rfl rfl)
theorem dX1_moveBatch_53 : decode cX1_moveBatch 53 = .ok (.iload_n 2, 1) := dk_28 (dk_at dksX1_moveBatch_2 5 rfl rfl)
theorem dX1_moveBatch_54 : decode cX1_moveBatch 54 = .ok (.iload_n 1, 1) := dk_27 (dk_at dksX1_moveBatch_2 6 rfl rfl)
theorem dX1_moveBatch_55 : decode cX1_moveBatch 55 = .ok (.isub, 1) := dk_100 (dk_at dksX1_moveBatch_2 7 rfl rfl)
theorem dX1_moveBatch_56 : decode cX1_moveBatch 56 = .ok (.invokestatic 293, 3) := dk_184 1 37 (dk_at dksX1_moveBatch_2 8 rfl rfl)
theorem dX1_moveBatch_59 : decode cX1_moveBatch 59 = .ok (.ireturn, 1) := dk_172 (dk_at dksX1_moveBatch_2 11 rfl rfl)
abbrev cX1_setStart : ByteArray := prog_1_method_55_code
def yX1_setStart : MethodName := ⟨RX1, "setStart", "(II)I"⟩
def dkwX1_setStart_1 : List UInt8 := [181, 0, 146, 21, 4, 172]
abbrev dktX1_setStart_1 : List UInt8 := dkwX1_setStart_1 ++ []
def dkwX1_setStart_0 : List UInt8 := [42, 27, 182, 0, 139, 78, 28, 184, 1, 18, 42, 182, 1, 21, 45, 180, 0, 146, 54, 4, 45, 28]
abbrev dktX1_setStart_0 : List UInt8 := dkwX1_setStart_0 ++ dktX1_setStart_1
theorem dksX1_setStart_0 : cX1_setStart.data.toList.drop 0 = dktX1_setStart_0 := by decide +kernel
theorem dksX1_setStart_1 : cX1_setStart.data.toList.drop 22 = dktX1_setStart_1 := dk_seg dksX1_setStart_0 22 rfl rfl
theorem dX1_setStart_0 : decode cX1_setStart 0 = .ok (.aload_n 0, 1) := dk_42 (dk_at dksX1_setStart_0 0 rfl rfl)
theorem dX1_setStart_1 : decode cX1_setStart 1 = .ok (.iload_n 1, 1) := dk_27 (dk_at dksX1_setStart_0 1 rfl rfl)
theorem dX1_setStart_2 : decode cX1_setStart 2 = .ok (.invokevirtual 139, 3) := dk_182 0 139 (dk_at dksX1_setStart_0 2 rfl rfl)
theorem dX1_setStart_5 : decode cX1_setStart 5 = .ok (.astore_n 3, 1) := dk_78 (dk_at dksX1_setStart_0 5 rfl rfl)
theorem dX1_setStart_6 : decode cX1_setStart 6 = .ok (.iload_n 2, 1) := dk_28 (dk_at dksX1_setStart_0 6 rfl rfl)
theorem dX1_setStart_7 : decode cX1_setStart 7 = .ok (.invokestatic 274, 3) := dk_184 1 18 (dk_at dksX1_setStart_0 7 rfl rfl)
theorem dX1_setStart_10 : decode cX1_setStart 10 = .ok (.aload_n 0, 1) := dk_42 (dk_at dksX1_setStart_0 10 rfl rfl)
theorem dX1_setStart_11 : decode cX1_setStart 11 = .ok (.invokevirtual 277, 3) := dk_182 1 21 (dk_at dksX1_setStart_0 11 rfl rfl)
theorem dX1_setStart_14 : decode cX1_setStart 14 = .ok (.aload_n 3, 1) := dk_45 (dk_at dksX1_setStart_0 14 rfl rfl)
theorem dX1_setStart_15 : decode cX1_setStart 15 = .ok (.getfield 146, 3) := dk_180 0 146 (dk_at dksX1_setStart_0 15 rfl rfl)
theorem dX1_setStart_18 : decode cX1_setStart 18 = .ok (.istore 4, 2) := dk_54 4 (dk_at dksX1_setStart_0 18 rfl rfl)
theorem dX1_setStart_20 : decode cX1_setStart 20 = .ok (.aload_n 3, 1) := dk_45 (dk_at dksX1_setStart_0 20 rfl rfl)
theorem dX1_setStart_21 : decode cX1_setStart 21 = .ok (.iload_n 2, 1) := dk_28 (dk_at dksX1_setStart_0 21 rfl rfl)
theorem dX1_setStart_22 : decode cX1_setStart 22 = .ok (.putfield 146, 3) := dk_181 0 146 (dk_at dksX1_setStart_1 0 rfl rfl)
theorem dX1_setStart_25 : decode cX1_setStart 25 = .ok (.iload 4, 2) := dk_21 4 (dk_at dksX1_setStart_1 3 rfl rfl)
theorem dX1_setStart_27 : decode cX1_setStart 27 = .ok (.ireturn, 1) := dk_172 (dk_at dksX1_setStart_1 5 rfl rfl)
abbrev cX1_setWave : ByteArray := prog_1_method_56_code
def yX1_setWave : MethodName := ⟨RX1, "setWave", "(II)I"⟩
def dkwX1_setWave_1 : List UInt8 := [180, 0, 149, 54, 4, 45, 28, 181, 0, 149, 21, 4, 172]
abbrev dktX1_setWave_1 : List UInt8 := dkwX1_setWave_1 ++ []
def dkwX1_setWave_0 : List UInt8 := [42, 27, 182, 0, 139, 78, 28, 42, 180, 0, 32, 180, 0, 132, 184, 0, 119, 42, 182, 1, 21, 45]
abbrev dktX1_setWave_0 : List UInt8 := dkwX1_setWave_0 ++ dktX1_setWave_1
theorem dksX1_setWave_0 : cX1_setWave.data.toList.drop 0 = dktX1_setWave_0 := by decide +kernel
theorem dksX1_setWave_1 : cX1_setWave.data.toList.drop 22 = dktX1_setWave_1 := dk_seg dksX1_setWave_0 22 rfl rfl
theorem dX1_setWave_0 : decode cX1_setWave 0 = .ok (.aload_n 0, 1) := dk_42 (dk_at dksX1_setWave_0 0 rfl rfl)
theorem dX1_setWave_1 : decode cX1_setWave 1 = .ok (.iload_n 1, 1) := dk_27 (dk_at dksX1_setWave_0 1 rfl rfl)
theorem dX1_setWave_2 : decode cX1_setWave 2 = .ok (.invokevirtual 139, 3) := dk_182 0 139 (dk_at dksX1_setWave_0 2 rfl rfl)
theorem dX1_setWave_5 : decode cX1_setWave 5 = .ok (.astore_n 3, 1) := dk_78 (dk_at dksX1_setWave_0 5 rfl rfl)
theorem dX1_setWave_6 : decode cX1_setWave 6 = .ok (.iload_n 2, 1) := dk_28 (dk_at dksX1_setWave_0 6 rfl rfl)
theorem dX1_setWave_7 : decode cX1_setWave 7 = .ok (.aload_n 0, 1) := dk_42 (dk_at dksX1_setWave_0 7 rfl rfl)
theorem dX1_setWave_8 : decode cX1_setWave 8 = .ok (.getfield 32, 3) := dk_180 0 32 (dk_at dksX1_setWave_0 8 rfl rfl)
theorem dX1_setWave_11 : decode cX1_setWave 11 = .ok (.getfield 132, 3) := dk_180 0 132 (dk_at dksX1_setWave_0 11 rfl rfl)
theorem dX1_setWave_14 : decode cX1_setWave 14 = .ok (.invokestatic 119, 3) := dk_184 0 119 (dk_at dksX1_setWave_0 14 rfl rfl)
theorem dX1_setWave_17 : decode cX1_setWave 17 = .ok (.aload_n 0, 1) := dk_42 (dk_at dksX1_setWave_0 17 rfl rfl)
theorem dX1_setWave_18 : decode cX1_setWave 18 = .ok (.invokevirtual 277, 3) := dk_182 1 21 (dk_at dksX1_setWave_0 18 rfl rfl)
theorem dX1_setWave_21 : decode cX1_setWave 21 = .ok (.aload_n 3, 1) := dk_45 (dk_at dksX1_setWave_0 21 rfl rfl)
theorem dX1_setWave_22 : decode cX1_setWave 22 = .ok (.getfield 149, 3) := dk_180 0 149 (dk_at dksX1_setWave_1 0 rfl rfl)
theorem dX1_setWave_25 : decode cX1_setWave 25 = .ok (.istore 4, 2) := dk_54 4 (dk_at dksX1_setWave_1 3 rfl rfl)
theorem dX1_setWave_27 : decode cX1_setWave 27 = .ok (.aload_n 3, 1) := dk_45 (dk_at dksX1_setWave_1 5 rfl rfl)
theorem dX1_setWave_28 : decode cX1_setWave 28 = .ok (.iload_n 2, 1) := dk_28 (dk_at dksX1_setWave_1 6 rfl rfl)
theorem dX1_setWave_29 : decode cX1_setWave 29 = .ok (.putfield 149, 3) := dk_181 0 149 (dk_at dksX1_setWave_1 7 rfl rfl)
theorem dX1_setWave_32 : decode cX1_setWave 32 = .ok (.iload 4, 2) := dk_21 4 (dk_at dksX1_setWave_1 10 rfl rfl)
theorem dX1_setWave_34 : decode cX1_setWave 34 = .ok (.ireturn, 1) := dk_172 (dk_at dksX1_setWave_1 12 rfl rfl)
abbrev cX1_setSetting : ByteArray := prog_1_method_57_code
def yX1_setSetting : MethodName := ⟨RX1, "setSetting", "(II)I"⟩
def dkwX1_setSetting_2 : List UInt8 := [180, 0, 154, 27, 46, 62, 42, 180, 0, 32, 180, 0, 154, 27, 28, 79, 29, 172]
abbrev dktX1_setSetting_2 : List UInt8 := dkwX1_setSetting_2 ++ []
def dkwX1_setSetting_1 : List UInt8 := [184, 0, 10, 153, 0, 7, 4, 167, 0, 4, 3, 184, 0, 89, 42, 182, 1, 21, 42, 180, 0, 32]
abbrev dktX1_setSetting_1 : List UInt8 := dkwX1_setSetting_1 ++ dktX1_setSetting_2
def dkwX1_setSetting_0 : List UInt8 := [27, 133, 9, 20, 0, 152, 184, 0, 10, 153, 0, 25, 28, 133, 27, 184, 0, 254, 133, 27, 184, 1, 1, 133]
abbrev dktX1_setSetting_0 : List UInt8 := dkwX1_setSetting_0 ++ dktX1_setSetting_1
theorem dksX1_setSetting_0 : cX1_setSetting.data.toList.drop 0 = dktX1_setSetting_0 := by decide +kernel
theorem dksX1_setSetting_1 : cX1_setSetting.data.toList.drop 24 = dktX1_setSetting_1 := dk_seg dksX1_setSetting_0 24 rfl rfl
theorem dksX1_setSetting_2 : cX1_setSetting.data.toList.drop 46 = dktX1_setSetting_2 := dk_seg dksX1_setSetting_1 22 rfl rfl
theorem dX1_setSetting_0 : decode cX1_setSetting 0 = .ok (.iload_n 1, 1) := dk_27 (dk_at dksX1_setSetting_0 0 rfl rfl)
theorem dX1_setSetting_1 : decode cX1_setSetting 1 = .ok (.i2l, 1) := dk_133 (dk_at dksX1_setSetting_0 1 rfl rfl)
theorem dX1_setSetting_2 : decode cX1_setSetting 2 = .ok (.lconst 0, 1) := dk_9 (dk_at dksX1_setSetting_0 2 rfl rfl)
theorem dX1_setSetting_3 : decode cX1_setSetting 3 = .ok (.ldc2_w 152, 3) := dk_20 0 152 (dk_at dksX1_setSetting_0 3 rfl rfl)
theorem dX1_setSetting_6 : decode cX1_setSetting 6 = .ok (.invokestatic 10, 3) := dk_184 0 10 (dk_at dksX1_setSetting_0 6 rfl rfl)
theorem dX1_setSetting_9 : decode cX1_setSetting 9 = .ok (.ifCond .eq 25, 3) := dk_153 0 25 (dk_at dksX1_setSetting_0 9 rfl rfl)
theorem dX1_setSetting_12 : decode cX1_setSetting 12 = .ok (.iload_n 2, 1) := dk_28 (dk_at dksX1_setSetting_0 12 rfl rfl)
theorem dX1_setSetting_13 : decode cX1_setSetting 13 = .ok (.i2l, 1) := dk_133 (dk_at dksX1_setSetting_0 13 rfl rfl)
theorem dX1_setSetting_14 : decode cX1_setSetting 14 = .ok (.iload_n 1, 1) := dk_27 (dk_at dksX1_setSetting_0 14 rfl rfl)
theorem dX1_setSetting_15 : decode cX1_setSetting 15 = .ok (.invokestatic 254, 3) := dk_184 0 254 (dk_at dksX1_setSetting_0 15 rfl rfl)
theorem dX1_setSetting_18 : decode cX1_setSetting 18 = .ok (.i2l, 1) := dk_133 (dk_at dksX1_setSetting_0 18 rfl rfl)
theorem dX1_setSetting_19 : decode cX1_setSetting 19 = .ok (.iload_n 1, 1) := dk_27 (dk_at dksX1_setSetting_0 19 rfl rfl)
theorem dX1_setSetting_20 : decode cX1_setSetting 20 = .ok (.invokestatic 257, 3) := dk_184 1 1 (dk_at dksX1_setSetting_0 20 rfl rfl)
theorem dX1_setSetting_23 : decode cX1_setSetting 23 = .ok (.i2l, 1) := dk_133 (dk_at dksX1_setSetting_0 23 rfl rfl)
theorem dX1_setSetting_24 : decode cX1_setSetting 24 = .ok (.invokestatic 10, 3) := dk_184 0 10 (dk_at dksX1_setSetting_1 0 rfl rfl)
theorem dX1_setSetting_27 : decode cX1_setSetting 27 = .ok (.ifCond .eq 7, 3) := dk_153 0 7 (dk_at dksX1_setSetting_1 3 rfl rfl)
theorem dX1_setSetting_30 : decode cX1_setSetting 30 = .ok (.iconst 1, 1) := dk_4 (dk_at dksX1_setSetting_1 6 rfl rfl)
theorem dX1_setSetting_31 : decode cX1_setSetting 31 = .ok (.goto 4, 3) := dk_167 0 4 (dk_at dksX1_setSetting_1 7 rfl rfl)
theorem dX1_setSetting_34 : decode cX1_setSetting 34 = .ok (.iconst 0, 1) := dk_3 (dk_at dksX1_setSetting_1 10 rfl rfl)
theorem dX1_setSetting_35 : decode cX1_setSetting 35 = .ok (.invokestatic 89, 3) := dk_184 0 89 (dk_at dksX1_setSetting_1 11 rfl rfl)
theorem dX1_setSetting_38 : decode cX1_setSetting 38 = .ok (.aload_n 0, 1) := dk_42 (dk_at dksX1_setSetting_1 14 rfl rfl)
theorem dX1_setSetting_39 : decode cX1_setSetting 39 = .ok (.invokevirtual 277, 3) := dk_182 1 21 (dk_at dksX1_setSetting_1 15 rfl rfl)
theorem dX1_setSetting_42 : decode cX1_setSetting 42 = .ok (.aload_n 0, 1) := dk_42 (dk_at dksX1_setSetting_1 18 rfl rfl)
theorem dX1_setSetting_43 : decode cX1_setSetting 43 = .ok (.getfield 32, 3) := dk_180 0 32 (dk_at dksX1_setSetting_1 19 rfl rfl)
theorem dX1_setSetting_46 : decode cX1_setSetting 46 = .ok (.getfield 154, 3) := dk_180 0 154 (dk_at dksX1_setSetting_2 0 rfl rfl)
theorem dX1_setSetting_49 : decode cX1_setSetting 49 = .ok (.iload_n 1, 1) := dk_27 (dk_at dksX1_setSetting_2 3 rfl rfl)
theorem dX1_setSetting_50 : decode cX1_setSetting 50 = .ok (.iaload, 1) := dk_46 (dk_at dksX1_setSetting_2 4 rfl rfl)
theorem dX1_setSetting_51 : decode cX1_setSetting 51 = .ok (.istore_n 3, 1) := dk_62 (dk_at dksX1_setSetting_2 5 rfl rfl)
theorem dX1_setSetting_52 : decode cX1_setSetting 52 = .ok (.aload_n 0, 1) := dk_42 (dk_at dksX1_setSetting_2 6 rfl rfl)
theorem dX1_setSetting_53 : decode cX1_setSetting 53 = .ok (.getfield 32, 3) := dk_180 0 32 (dk_at dksX1_setSetting_2 7 rfl rfl)
theorem dX1_setSetting_56 : decode cX1_setSetting 56 = .ok (.getfield 154, 3) := dk_180 0 154 (dk_at dksX1_setSetting_2 10 rfl rfl)
theorem dX1_setSetting_59 : decode cX1_setSetting 59 = .ok (.iload_n 1, 1) := dk_27 (dk_at dksX1_setSetting_2 13 rfl rfl)
theorem dX1_setSetting_60 : decode cX1_setSetting 60 = .ok (.iload_n 2, 1) := dk_28 (dk_at dksX1_setSetting_2 14 rfl rfl)
theorem dX1_setSetting_61 : decode cX1_setSetting 61 = .ok (.iastore, 1) := dk_79 (dk_at dksX1_setSetting_2 15 rfl rfl)
theorem dX1_setSetting_62 : decode cX1_setSetting 62 = .ok (.iload_n 3, 1) := dk_29 (dk_at dksX1_setSetting_2 16 rfl rfl)
theorem dX1_setSetting_63 : decode cX1_setSetting 63 = .ok (.ireturn, 1) := dk_172 (dk_at dksX1_setSetting_2 17 rfl rfl)
abbrev cX1_setPolicy : ByteArray := prog_1_method_58_code
def yX1_setPolicy : MethodName := ⟨RX1, "setPolicy", "(I)I"⟩
def dkwX1_setPolicy_1 : List UInt8 := [42, 180, 0, 32, 27, 181, 0, 157, 28, 172]
abbrev dktX1_setPolicy_1 : List UInt8 := dkwX1_setPolicy_1 ++ []
def dkwX1_setPolicy_0 : List UInt8 := [27, 133, 9, 20, 1, 40, 184, 0, 10, 184, 0, 89, 42, 182, 1, 21, 42, 180, 0, 32, 180, 0, 157, 61]
abbrev dktX1_setPolicy_0 : List UInt8 := dkwX1_setPolicy_0 ++ dktX1_setPolicy_1
theorem dksX1_setPolicy_0 : cX1_setPolicy.data.toList.drop 0 = dktX1_setPolicy_0 := by decide +kernel
theorem dksX1_setPolicy_1 : cX1_setPolicy.data.toList.drop 24 = dktX1_setPolicy_1 := dk_seg dksX1_setPolicy_0 24 rfl rfl
theorem dX1_setPolicy_0 : decode cX1_setPolicy 0 = .ok (.iload_n 1, 1) := dk_27 (dk_at dksX1_setPolicy_0 0 rfl rfl)
theorem dX1_setPolicy_1 : decode cX1_setPolicy 1 = .ok (.i2l, 1) := dk_133 (dk_at dksX1_setPolicy_0 1 rfl rfl)
theorem dX1_setPolicy_2 : decode cX1_setPolicy 2 = .ok (.lconst 0, 1) := dk_9 (dk_at dksX1_setPolicy_0 2 rfl rfl)
theorem dX1_setPolicy_3 : decode cX1_setPolicy 3 = .ok (.ldc2_w 296, 3) := dk_20 1 40 (dk_at dksX1_setPolicy_0 3 rfl rfl)
theorem dX1_setPolicy_6 : decode cX1_setPolicy 6 = .ok (.invokestatic 10, 3) := dk_184 0 10 (dk_at dksX1_setPolicy_0 6 rfl rfl)
theorem dX1_setPolicy_9 : decode cX1_setPolicy 9 = .ok (.invokestatic 89, 3) := dk_184 0 89 (dk_at dksX1_setPolicy_0 9 rfl rfl)
theorem dX1_setPolicy_12 : decode cX1_setPolicy 12 = .ok (.aload_n 0, 1) := dk_42 (dk_at dksX1_setPolicy_0 12 rfl rfl)
theorem dX1_setPolicy_13 : decode cX1_setPolicy 13 = .ok (.invokevirtual 277, 3) := dk_182 1 21 (dk_at dksX1_setPolicy_0 13 rfl rfl)
theorem dX1_setPolicy_16 : decode cX1_setPolicy 16 = .ok (.aload_n 0, 1) := dk_42 (dk_at dksX1_setPolicy_0 16 rfl rfl)
theorem dX1_setPolicy_17 : decode cX1_setPolicy 17 = .ok (.getfield 32, 3) := dk_180 0 32 (dk_at dksX1_setPolicy_0 17 rfl rfl)
theorem dX1_setPolicy_20 : decode cX1_setPolicy 20 = .ok (.getfield 157, 3) := dk_180 0 157 (dk_at dksX1_setPolicy_0 20 rfl rfl)
theorem dX1_setPolicy_23 : decode cX1_setPolicy 23 = .ok (.istore_n 2, 1) := dk_61 (dk_at dksX1_setPolicy_0 23 rfl rfl)
theorem dX1_setPolicy_24 : decode cX1_setPolicy 24 = .ok (.aload_n 0, 1) := dk_42 (dk_at dksX1_setPolicy_1 0 rfl rfl)
theorem dX1_setPolicy_25 : decode cX1_setPolicy 25 = .ok (.getfield 32, 3) := dk_180 0 32 (dk_at dksX1_setPolicy_1 1 rfl rfl)
theorem dX1_setPolicy_28 : decode cX1_setPolicy 28 = .ok (.iload_n 1, 1) := dk_27 (dk_at dksX1_setPolicy_1 4 rfl rfl)
theorem dX1_setPolicy_29 : decode cX1_setPolicy 29 = .ok (.putfield 157, 3) := dk_181 0 157 (dk_at dksX1_setPolicy_1 5 rfl rfl)
theorem dX1_setPolicy_32 : decode cX1_setPolicy 32 = .ok (.iload_n 2, 1) := dk_28 (dk_at dksX1_setPolicy_1 8 rfl rfl)
theorem dX1_setPolicy_33 : decode cX1_setPolicy 33 = .ok (.ireturn, 1) := dk_172 (dk_at dksX1_setPolicy_1 9 rfl rfl)
abbrev cX1_undo : ByteArray := prog_1_method_59_code
def yX1_undo : MethodName := ⟨RX1, "undo", "()I"⟩
def dkwX1_undo_1 : List UInt8 := [182, 1, 46, 192, 0, 22, 181, 0, 32, 42, 180, 0, 48, 182, 0, 66, 172]
abbrev dktX1_undo_1 : List UInt8 := dkwX1_undo_1 ++ []
def dkwX1_undo_0 : List UInt8 := [42, 180, 0, 48, 182, 1, 42, 154, 0, 7, 4, 167, 0, 4, 3, 184, 0, 85, 42, 42, 180, 0, 48]
abbrev dktX1_undo_0 : List UInt8 := dkwX1_undo_0 ++ dktX1_undo_1
theorem dksX1_undo_0 : cX1_undo.data.toList.drop 0 = dktX1_undo_0 := by decide +kernel
theorem dksX1_undo_1 : cX1_undo.data.toList.drop 23 = dktX1_undo_1 := dk_seg dksX1_undo_0 23 rfl rfl
theorem dX1_undo_0 : decode cX1_undo 0 = .ok (.aload_n 0, 1) := dk_42 (dk_at dksX1_undo_0 0 rfl rfl)
theorem dX1_undo_1 : decode cX1_undo 1 = .ok (.getfield 48, 3) := dk_180 0 48 (dk_at dksX1_undo_0 1 rfl rfl)
theorem dX1_undo_4 : decode cX1_undo 4 = .ok (.invokevirtual 298, 3) := dk_182 1 42 (dk_at dksX1_undo_0 4 rfl rfl)
theorem dX1_undo_7 : decode cX1_undo 7 = .ok (.ifCond .ne 7, 3) := dk_154 0 7 (dk_at dksX1_undo_0 7 rfl rfl)
theorem dX1_undo_10 : decode cX1_undo 10 = .ok (.iconst 1, 1) := dk_4 (dk_at dksX1_undo_0 10 rfl rfl)
theorem dX1_undo_11 : decode cX1_undo 11 = .ok (.goto 4, 3) := dk_167 0 4 (dk_at dksX1_undo_0 11 rfl rfl)
theorem dX1_undo_14 : decode cX1_undo 14 = .ok (.iconst 0, 1) := dk_3 (dk_at dksX1_undo_0 14 rfl rfl)
theorem dX1_undo_15 : decode cX1_undo 15 = .ok (.invokestatic 85, 3) := dk_184 0 85 (dk_at dksX1_undo_0 15 rfl rfl)
theorem dX1_undo_18 : decode cX1_undo 18 = .ok (.aload_n 0, 1) := dk_42 (dk_at dksX1_undo_0 18 rfl rfl)
theorem dX1_undo_19 : decode cX1_undo 19 = .ok (.aload_n 0, 1) := dk_42 (dk_at dksX1_undo_0 19 rfl rfl)
theorem dX1_undo_20 : decode cX1_undo 20 = .ok (.getfield 48, 3) := dk_180 0 48 (dk_at dksX1_undo_0 20 rfl rfl)
theorem dX1_undo_23 : decode cX1_undo 23 = .ok (.invokevirtual 302, 3) := dk_182 1 46 (dk_at dksX1_undo_1 0 rfl rfl)
theorem dX1_undo_26 : decode cX1_undo 26 = .ok (.checkcast 22, 3) := dk_192 0 22 (dk_at dksX1_undo_1 3 rfl rfl)
theorem dX1_undo_29 : decode cX1_undo 29 = .ok (.putfield 32, 3) := dk_181 0 32 (dk_at dksX1_undo_1 6 rfl rfl)
theorem dX1_undo_32 : decode cX1_undo 32 = .ok (.aload_n 0, 1) := dk_42 (dk_at dksX1_undo_1 9 rfl rfl)
theorem dX1_undo_33 : decode cX1_undo 33 = .ok (.getfield 48, 3) := dk_180 0 48 (dk_at dksX1_undo_1 10 rfl rfl)
theorem dX1_undo_36 : decode cX1_undo 36 = .ok (.invokevirtual 66, 3) := dk_182 0 66 (dk_at dksX1_undo_1 13 rfl rfl)
theorem dX1_undo_39 : decode cX1_undo 39 = .ok (.ireturn, 1) := dk_172 (dk_at dksX1_undo_1 16 rfl rfl)
abbrev cX1_format : ByteArray := prog_1_method_61_code
def yX1_format : MethodName := ⟨RX1, "format", "(I)I"⟩
def dkwX1_format_8 : List UInt8 := [182, 1, 92, 172]
abbrev dktX1_format_8 : List UInt8 := dkwX1_format_8 ++ []
def dkwX1_format_7 : List UInt8 := [182, 1, 69, 44, 27, 182, 0, 171, 184, 1, 88, 182, 1, 69, 182, 1, 80, 181, 0, 62, 42, 180, 0, 62]
abbrev dktX1_format_7 : List UInt8 := dkwX1_format_7 ++ dktX1_format_8
def dkwX1_format_6 : List UInt8 := [182, 1, 80, 181, 0, 62, 187, 1, 66, 89, 183, 1, 68, 42, 90, 180, 0, 62, 182, 1, 69, 19, 1, 86]
abbrev dktX1_format_6 : List UInt8 := dkwX1_format_6 ++ dktX1_format_7
def dkwX1_format_5 : List UInt8 := [180, 0, 184, 27, 46, 182, 1, 75, 19, 1, 78, 182, 1, 69, 44, 180, 0, 187, 27, 46, 182, 1, 75]
abbrev dktX1_format_5 : List UInt8 := dkwX1_format_5 ++ dktX1_format_6
def dkwX1_format_4 : List UInt8 := [187, 1, 66, 89, 183, 1, 68, 42, 90, 180, 0, 62, 182, 1, 69, 19, 1, 84, 182, 1, 69, 44]
abbrev dktX1_format_4 : List UInt8 := dkwX1_format_4 ++ dktX1_format_5
def dkwX1_format_3 : List UInt8 := [180, 0, 178, 27, 46, 182, 1, 75, 182, 1, 80, 181, 0, 62, 44, 180, 0, 184, 27, 46, 2, 159, 0, 54]
abbrev dktX1_format_3 : List UInt8 := dkwX1_format_3 ++ dktX1_format_4
def dkwX1_format_2 : List UInt8 := [19, 1, 73, 182, 1, 69, 44, 180, 0, 175, 27, 46, 182, 1, 75, 19, 1, 78, 182, 1, 69, 44]
abbrev dktX1_format_2 : List UInt8 := dkwX1_format_2 ++ dktX1_format_3
def dkwX1_format_1 : List UInt8 := [180, 0, 175, 27, 46, 2, 159, 0, 54, 187, 1, 66, 89, 183, 1, 68, 42, 90, 180, 0, 62, 182, 1, 69]
abbrev dktX1_format_1 : List UInt8 := dkwX1_format_1 ++ dktX1_format_2
def dkwX1_format_0 : List UInt8 := [42, 27, 182, 0, 168, 77, 42, 42, 180, 0, 32, 27, 182, 1, 57, 180, 1, 61, 181, 0, 62, 44]
abbrev dktX1_format_0 : List UInt8 := dkwX1_format_0 ++ dktX1_format_1
theorem dksX1_format_0 : cX1_format.data.toList.drop 0 = dktX1_format_0 := by decide +kernel
theorem dksX1_format_1 : cX1_format.data.toList.drop 22 = dktX1_format_1 := dk_seg dksX1_format_0 22 rfl rfl
theorem dksX1_format_2 : cX1_format.data.toList.drop 46 = dktX1_format_2 := dk_seg dksX1_format_1 24 rfl rfl
theorem dksX1_format_3 : cX1_format.data.toList.drop 68 = dktX1_format_3 := dk_seg dksX1_format_2 22 rfl rfl
theorem dksX1_format_4 : cX1_format.data.toList.drop 92 = dktX1_format_4 := dk_seg dksX1_format_3 24 rfl rfl
theorem dksX1_format_5 : cX1_format.data.toList.drop 114 = dktX1_format_5 := dk_seg dksX1_format_4 22 rfl rfl
theorem dksX1_format_6 : cX1_format.data.toList.drop 137 = dktX1_format_6 := dk_seg dksX1_format_5 23 rfl rfl
theorem dksX1_format_7 : cX1_format.data.toList.drop 161 = dktX1_format_7 := dk_seg dksX1_format_6 24 rfl rfl
theorem dksX1_format_8 : cX1_format.data.toList.drop 185 = dktX1_format_8 := dk_seg dksX1_format_7 24 rfl rfl
theorem dX1_format_0 : decode cX1_format 0 = .ok (.aload_n 0, 1) := dk_42 (dk_at dksX1_format_0 0 rfl rfl)
theorem dX1_format_1 : decode cX1_format 1 = .ok (.iload_n 1, 1) := dk_27 (dk_at dksX1_format_0 1 rfl rfl)
theorem dX1_format_2 : decode cX1_format 2 = .ok (.invokevirtual 168, 3) := dk_182 0 168 (dk_at dksX1_format_0 2 rfl rfl)
theorem dX1_format_5 : decode cX1_format 5 = .ok (.astore_n 2, 1) := dk_77 (dk_at dksX1_format_0 5 rfl rfl)
theorem dX1_format_6 : decode cX1_format 6 = .ok (.aload_n 0, 1) := dk_42 (dk_at dksX1_format_0 6 rfl rfl)
theorem dX1_format_7 : decode cX1_format 7 = .ok (.aload_n 0, 1) := dk_42 (dk_at dksX1_format_0 7 rfl rfl)
theorem dX1_format_8 : decode cX1_format 8 = .ok (.getfield 32, 3) := dk_180 0 32 (dk_at dksX1_format_0 8 rfl rfl)
theorem dX1_format_11 : decode cX1_format 11 = .ok (.iload_n 1, 1) := dk_27 (dk_at dksX1_format_0 11 rfl rfl)
theorem dX1_format_12 : decode cX1_format 12 = .ok (.invokevirtual 313, 3) := dk_182 1 57 (dk_at dksX1_format_0 12 rfl rfl)
theorem dX1_format_15 : decode cX1_format 15 = .ok (.getfield 317, 3) := dk_180 1 61 (dk_at dksX1_format_0 15 rfl rfl)
theorem dX1_format_18 : decode cX1_format 18 = .ok (.putfield 62, 3) := dk_181 0 62 (dk_at dksX1_format_0 18 rfl rfl)
theorem dX1_format_21 : decode cX1_format 21 = .ok (.aload_n 2, 1) := dk_44 (dk_at dksX1_format_0 21 rfl rfl)
theorem dX1_format_22 : decode cX1_format 22 = .ok (.getfield 175, 3) := dk_180 0 175 (dk_at dksX1_format_1 0 rfl rfl)
theorem dX1_format_25 : decode cX1_format 25 = .ok (.iload_n 1, 1) := dk_27 (dk_at dksX1_format_1 3 rfl rfl)
theorem dX1_format_26 : decode cX1_format 26 = .ok (.iaload, 1) := dk_46 (dk_at dksX1_format_1 4 rfl rfl)
theorem dX1_format_27 : decode cX1_format 27 = .ok (.iconst (-1), 1) := dk_2 (dk_at dksX1_format_1 5 rfl rfl)
theorem dX1_format_28 : decode cX1_format 28 = .ok (.if_icmp .eq 54, 3) := dk_159 0 54 (dk_at dksX1_format_1 6 rfl rfl)
theorem dX1_format_31 : decode cX1_format 31 = .ok (.new 322, 3) := dk_187 1 66 (dk_at dksX1_format_1 9 rfl rfl)
theorem dX1_format_34 : decode cX1_format 34 = .ok (.dup, 1) := dk_89 (dk_at dksX1_format_1 12 rfl rfl)
theorem dX1_format_35 : decode cX1_format 35 = .ok (.invokespecial 324, 3) := dk_183 1 68 (dk_at dksX1_format_1 13 rfl rfl)
theorem dX1_format_38 : decode cX1_format 38 = .ok (.aload_n 0, 1) := dk_42 (dk_at dksX1_format_1 16 rfl rfl)
theorem dX1_format_39 : decode cX1_format 39 = .ok (.dup_x1, 1) := dk_90 (dk_at dksX1_format_1 17 rfl rfl)
theorem dX1_format_40 : decode cX1_format 40 = .ok (.getfield 62, 3) := dk_180 0 62 (dk_at dksX1_format_1 18 rfl rfl)
theorem dX1_format_43 : decode cX1_format 43 = .ok (.invokevirtual 325, 3) := dk_182 1 69 (dk_at dksX1_format_1 21 rfl rfl)
theorem dX1_format_46 : decode cX1_format 46 = .ok (.ldc_w 329, 3) := dk_19 1 73 (dk_at dksX1_format_2 0 rfl rfl)
theorem dX1_format_49 : decode cX1_format 49 = .ok (.invokevirtual 325, 3) := dk_182 1 69 (dk_at dksX1_format_2 3 rfl rfl)
theorem dX1_format_52 : decode cX1_format 52 = .ok (.aload_n 2, 1) := dk_44 (dk_at dksX1_format_2 6 rfl rfl)
theorem dX1_format_53 : decode cX1_format 53 = .ok (.getfield 175, 3) := dk_180 0 175 (dk_at dksX1_format_2 7 rfl rfl)
theorem dX1_format_56 : decode cX1_format 56 = .ok (.iload_n 1, 1) := dk_27 (dk_at dksX1_format_2 10 rfl rfl)
theorem dX1_format_57 : decode cX1_format 57 = .ok (.iaload, 1) := dk_46 (dk_at dksX1_format_2 11 rfl rfl)
theorem dX1_format_58 : decode cX1_format 58 = .ok (.invokevirtual 331, 3) := dk_182 1 75 (dk_at dksX1_format_2 12 rfl rfl)
theorem dX1_format_61 : decode cX1_format 61 = .ok (.ldc_w 334, 3) := dk_19 1 78 (dk_at dksX1_format_2 15 rfl rfl)
theorem dX1_format_64 : decode cX1_format 64 = .ok (.invokevirtual 325, 3) := dk_182 1 69 (dk_at dksX1_format_2 18 rfl rfl)
theorem dX1_format_67 : decode cX1_format 67 = .ok (.aload_n 2, 1) := dk_44 (dk_at dksX1_format_2 21 rfl rfl)
theorem dX1_format_68 : decode cX1_format 68 = .ok (.getfield 178, 3) := dk_180 0 178 (dk_at dksX1_format_3 0 rfl rfl)
theorem dX1_format_71 : decode cX1_format 71 = .ok (.iload_n 1, 1) := dk_27 (dk_at dksX1_format_3 3 rfl rfl)
theorem dX1_format_72 : decode cX1_format 72 = .ok (.iaload, 1) := dk_46 (dk_at dksX1_format_3 4 rfl rfl)
theorem dX1_format_73 : decode cX1_format 73 = .ok (.invokevirtual 331, 3) := dk_182 1 75 (dk_at dksX1_format_3 5 rfl rfl)
theorem dX1_format_76 : decode cX1_format 76 = .ok (.invokevirtual 336, 3) := dk_182 1 80 (dk_at dksX1_format_3 8 rfl rfl)
theorem dX1_format_79 : decode cX1_format 79 = .ok (.putfield 62, 3) := dk_181 0 62 (dk_at dksX1_format_3 11 rfl rfl)
theorem dX1_format_82 : decode cX1_format 82 = .ok (.aload_n 2, 1) := dk_44 (dk_at dksX1_format_3 14 rfl rfl)
theorem dX1_format_83 : decode cX1_format 83 = .ok (.getfield 184, 3) := dk_180 0 184 (dk_at dksX1_format_3 15 rfl rfl)
theorem dX1_format_86 : decode cX1_format 86 = .ok (.iload_n 1, 1) := dk_27 (dk_at dksX1_format_3 18 rfl rfl)
theorem dX1_format_87 : decode cX1_format 87 = .ok (.iaload, 1) := dk_46 (dk_at dksX1_format_3 19 rfl rfl)
theorem dX1_format_88 : decode cX1_format 88 = .ok (.iconst (-1), 1) := dk_2 (dk_at dksX1_format_3 20 rfl rfl)
theorem dX1_format_89 : decode cX1_format 89 = .ok (.if_icmp .eq 54, 3) := dk_159 0 54 (dk_at dksX1_format_3 21 rfl rfl)
theorem dX1_format_92 : decode cX1_format 92 = .ok (.new 322, 3) := dk_187 1 66 (dk_at dksX1_format_4 0 rfl rfl)
theorem dX1_format_95 : decode cX1_format 95 = .ok (.dup, 1) := dk_89 (dk_at dksX1_format_4 3 rfl rfl)
theorem dX1_format_96 : decode cX1_format 96 = .ok (.invokespecial 324, 3) := dk_183 1 68 (dk_at dksX1_format_4 4 rfl rfl)
theorem dX1_format_99 : decode cX1_format 99 = .ok (.aload_n 0, 1) := dk_42 (dk_at dksX1_format_4 7 rfl rfl)
theorem dX1_format_100 : decode cX1_format 100 = .ok (.dup_x1, 1) := dk_90 (dk_at dksX1_format_4 8 rfl rfl)
theorem dX1_format_101 : decode cX1_format 101 = .ok (.getfield 62, 3) := dk_180 0 62 (dk_at dksX1_format_4 9 rfl rfl)
theorem dX1_format_104 : decode cX1_format 104 = .ok (.invokevirtual 325, 3) := dk_182 1 69 (dk_at dksX1_format_4 12 rfl rfl)
theorem dX1_format_107 : decode cX1_format 107 = .ok (.ldc_w 340, 3) := dk_19 1 84 (dk_at dksX1_format_4 15 rfl rfl)
theorem dX1_format_110 : decode cX1_format 110 = .ok (.invokevirtual 325, 3) := dk_182 1 69 (dk_at dksX1_format_4 18 rfl rfl)
theorem dX1_format_113 : decode cX1_format 113 = .ok (.aload_n 2, 1) := dk_44 (dk_at dksX1_format_4 21 rfl rfl)
theorem dX1_format_114 : decode cX1_format 114 = .ok (.getfield 184, 3) := dk_180 0 184 (dk_at dksX1_format_5 0 rfl rfl)
theorem dX1_format_117 : decode cX1_format 117 = .ok (.iload_n 1, 1) := dk_27 (dk_at dksX1_format_5 3 rfl rfl)
theorem dX1_format_118 : decode cX1_format 118 = .ok (.iaload, 1) := dk_46 (dk_at dksX1_format_5 4 rfl rfl)
theorem dX1_format_119 : decode cX1_format 119 = .ok (.invokevirtual 331, 3) := dk_182 1 75 (dk_at dksX1_format_5 5 rfl rfl)
theorem dX1_format_122 : decode cX1_format 122 = .ok (.ldc_w 334, 3) := dk_19 1 78 (dk_at dksX1_format_5 8 rfl rfl)
theorem dX1_format_125 : decode cX1_format 125 = .ok (.invokevirtual 325, 3) := dk_182 1 69 (dk_at dksX1_format_5 11 rfl rfl)
theorem dX1_format_128 : decode cX1_format 128 = .ok (.aload_n 2, 1) := dk_44 (dk_at dksX1_format_5 14 rfl rfl)
theorem dX1_format_129 : decode cX1_format 129 = .ok (.getfield 187, 3) := dk_180 0 187 (dk_at dksX1_format_5 15 rfl rfl)
theorem dX1_format_132 : decode cX1_format 132 = .ok (.iload_n 1, 1) := dk_27 (dk_at dksX1_format_5 18 rfl rfl)
theorem dX1_format_133 : decode cX1_format 133 = .ok (.iaload, 1) := dk_46 (dk_at dksX1_format_5 19 rfl rfl)
theorem dX1_format_134 : decode cX1_format 134 = .ok (.invokevirtual 331, 3) := dk_182 1 75 (dk_at dksX1_format_5 20 rfl rfl)
theorem dX1_format_137 : decode cX1_format 137 = .ok (.invokevirtual 336, 3) := dk_182 1 80 (dk_at dksX1_format_6 0 rfl rfl)
theorem dX1_format_140 : decode cX1_format 140 = .ok (.putfield 62, 3) := dk_181 0 62 (dk_at dksX1_format_6 3 rfl rfl)
theorem dX1_format_143 : decode cX1_format 143 = .ok (.new 322, 3) := dk_187 1 66 (dk_at dksX1_format_6 6 rfl rfl)
theorem dX1_format_146 : decode cX1_format 146 = .ok (.dup, 1) := dk_89 (dk_at dksX1_format_6 9 rfl rfl)
theorem dX1_format_147 : decode cX1_format 147 = .ok (.invokespecial 324, 3) := dk_183 1 68 (dk_at dksX1_format_6 10 rfl rfl)
theorem dX1_format_150 : decode cX1_format 150 = .ok (.aload_n 0, 1) := dk_42 (dk_at dksX1_format_6 13 rfl rfl)
theorem dX1_format_151 : decode cX1_format 151 = .ok (.dup_x1, 1) := dk_90 (dk_at dksX1_format_6 14 rfl rfl)
theorem dX1_format_152 : decode cX1_format 152 = .ok (.getfield 62, 3) := dk_180 0 62 (dk_at dksX1_format_6 15 rfl rfl)
theorem dX1_format_155 : decode cX1_format 155 = .ok (.invokevirtual 325, 3) := dk_182 1 69 (dk_at dksX1_format_6 18 rfl rfl)
theorem dX1_format_158 : decode cX1_format 158 = .ok (.ldc_w 342, 3) := dk_19 1 86 (dk_at dksX1_format_6 21 rfl rfl)
theorem dX1_format_161 : decode cX1_format 161 = .ok (.invokevirtual 325, 3) := dk_182 1 69 (dk_at dksX1_format_7 0 rfl rfl)
theorem dX1_format_164 : decode cX1_format 164 = .ok (.aload_n 2, 1) := dk_44 (dk_at dksX1_format_7 3 rfl rfl)
theorem dX1_format_165 : decode cX1_format 165 = .ok (.iload_n 1, 1) := dk_27 (dk_at dksX1_format_7 4 rfl rfl)
theorem dX1_format_166 : decode cX1_format 166 = .ok (.invokevirtual 171, 3) := dk_182 0 171 (dk_at dksX1_format_7 5 rfl rfl)
theorem dX1_format_169 : decode cX1_format 169 = .ok (.invokestatic 344, 3) := dk_184 1 88 (dk_at dksX1_format_7 8 rfl rfl)
theorem dX1_format_172 : decode cX1_format 172 = .ok (.invokevirtual 325, 3) := dk_182 1 69 (dk_at dksX1_format_7 11 rfl rfl)
theorem dX1_format_175 : decode cX1_format 175 = .ok (.invokevirtual 336, 3) := dk_182 1 80 (dk_at dksX1_format_7 14 rfl rfl)
theorem dX1_format_178 : decode cX1_format 178 = .ok (.putfield 62, 3) := dk_181 0 62 (dk_at dksX1_format_7 17 rfl rfl)
theorem dX1_format_181 : decode cX1_format 181 = .ok (.aload_n 0, 1) := dk_42 (dk_at dksX1_format_7 20 rfl rfl)
theorem dX1_format_182 : decode cX1_format 182 = .ok (.getfield 62, 3) := dk_180 0 62 (dk_at dksX1_format_7 21 rfl rfl)
theorem dX1_format_185 : decode cX1_format 185 = .ok (.invokevirtual 348, 3) := dk_182 1 92 (dk_at dksX1_format_8 0 rfl rfl)
theorem dX1_format_188 : decode cX1_format 188 = .ok (.ireturn, 1) := dk_172 (dk_at dksX1_format_8 3 rfl rfl)
abbrev cX1_word : ByteArray := prog_1_method_60_code
def yX1_word : MethodName := ⟨RX1, "word", "(I)Ljava/lang/String;"⟩
def dkwX1_word_2 : List UInt8 := [19, 1, 49, 167, 0, 18, 19, 1, 51, 167, 0, 12, 19, 1, 53, 167, 0, 6, 19, 1, 55, 176]
abbrev dktX1_word_2 : List UInt8 := dkwX1_word_2 ++ []
def dkwX1_word_1 : List UInt8 := [170, 0, 0, 0, 0, 0, 45, 0, 0, 0, 0, 0, 0, 0, 2, 0, 0, 0, 27, 0, 0, 0, 33, 0, 0, 0, 39]
abbrev dktX1_word_1 : List UInt8 := dkwX1_word_1 ++ dktX1_word_2
def dkwX1_word_0 : List UInt8 := [26]
abbrev dktX1_word_0 : List UInt8 := dkwX1_word_0 ++ dktX1_word_1
theorem dksX1_word_0 : cX1_word.data.toList.drop 0 = dktX1_word_0 := by decide +kernel
theorem dksX1_word_1 : cX1_word.data.toList.drop 1 = dktX1_word_1 := dk_seg dksX1_word_0 1 rfl rfl
theorem dksX1_word_2 : cX1_word.data.toList.drop 28 = dktX1_word_2 := dk_seg dksX1_word_1 27 rfl rfl
theorem dX1_word_0 : decode cX1_word 0 = .ok (.iload_n 0, 1) := dk_26 (dk_at dksX1_word_0 0 rfl rfl)
theorem dX1_word_1 : decode cX1_word 1 = .ok (.tableswitch 45 0 2 #[27, 33, 39], 27) := by decide +kernel
theorem dX1_word_28 : decode cX1_word 28 = .ok (.ldc_w 305, 3) := dk_19 1 49 (dk_at dksX1_word_2 0 rfl rfl)
theorem dX1_word_31 : decode cX1_word 31 = .ok (.goto 18, 3) := dk_167 0 18 (dk_at dksX1_word_2 3 rfl rfl)
theorem dX1_word_34 : decode cX1_word 34 = .ok (.ldc_w 307, 3) := dk_19 1 51 (dk_at dksX1_word_2 6 rfl rfl)
theorem dX1_word_37 : decode cX1_word 37 = .ok (.goto 12, 3) := dk_167 0 12 (dk_at dksX1_word_2 9 rfl rfl)
theorem dX1_word_40 : decode cX1_word 40 = .ok (.ldc_w 309, 3) := dk_19 1 53 (dk_at dksX1_word_2 12 rfl rfl)
theorem dX1_word_43 : decode cX1_word 43 = .ok (.goto 6, 3) := dk_167 0 6 (dk_at dksX1_word_2 15 rfl rfl)
theorem dX1_word_46 : decode cX1_word 46 = .ok (.ldc_w 311, 3) := dk_19 1 55 (dk_at dksX1_word_2 18 rfl rfl)
theorem dX1_word_49 : decode cX1_word 49 = .ok (.areturn, 1) := dk_176 (dk_at dksX1_word_2 21 rfl rfl)
abbrev cX1_formattedCharacter : ByteArray := prog_1_method_62_code
def yX1_formattedCharacter : MethodName := ⟨RX1, "formattedCharacter", "(I)C"⟩
def dkwX1_formattedCharacter_0 : List UInt8 := [27, 42, 180, 0, 62, 182, 1, 92, 184, 0, 119, 42, 180, 0, 62, 27, 182, 1, 96, 172]
abbrev dktX1_formattedCharacter_0 : List UInt8 := dkwX1_formattedCharacter_0 ++ []
theorem dksX1_formattedCharacter_0 : cX1_formattedCharacter.data.toList.drop 0 = dktX1_formattedCharacter_0 := by decide +kernel
theorem dX1_formattedCharacter_0 : decode cX1_formattedCharacter 0 = .ok (.iload_n 1, 1) := dk_27 (dk_at dksX1_formattedCharacter_0 0 rfl rfl)
theorem dX1_formattedCharacter_1 : decode cX1_formattedCharacter 1 = .ok (.aload_n 0, 1) := dk_42 (dk_at dksX1_formattedCharacter_0 1 rfl rfl)
theorem dX1_formattedCharacter_2 : decode cX1_formattedCharacter 2 = .ok (.getfield 62, 3) := dk_180 0 62 (dk_at dksX1_formattedCharacter_0 2 rfl rfl)
theorem dX1_formattedCharacter_5 : decode cX1_formattedCharacter 5 = .ok (.invokevirtual 348, 3) := dk_182 1 92 (dk_at dksX1_formattedCharacter_0 5 rfl rfl)
theorem dX1_formattedCharacter_8 : decode cX1_formattedCharacter 8 = .ok (.invokestatic 119, 3) := dk_184 0 119 (dk_at dksX1_formattedCharacter_0 8 rfl rfl)
theorem dX1_formattedCharacter_11 : decode cX1_formattedCharacter 11 = .ok (.aload_n 0, 1) := dk_42 (dk_at dksX1_formattedCharacter_0 11 rfl rfl)
theorem dX1_formattedCharacter_12 : decode cX1_formattedCharacter 12 = .ok (.getfield 62, 3) := dk_180 0 62 (dk_at dksX1_formattedCharacter_0 12 rfl rfl)
theorem dX1_formattedCharacter_15 : decode cX1_formattedCharacter 15 = .ok (.iload_n 1, 1) := dk_27 (dk_at dksX1_formattedCharacter_0 15 rfl rfl)
theorem dX1_formattedCharacter_16 : decode cX1_formattedCharacter 16 = .ok (.invokevirtual 352, 3) := dk_182 1 96 (dk_at dksX1_formattedCharacter_0 16 rfl rfl)
theorem dX1_formattedCharacter_19 : decode cX1_formattedCharacter 19 = .ok (.ireturn, 1) := dk_172 (dk_at dksX1_formattedCharacter_0 19 rfl rfl)
theorem q123 : (Jvm.Cond.initialized "BakeryPlan") ∈ lw_all := lw_g (lw_at lw_m1 1 rfl) rfl
theorem q161 : (Jvm.Cond.instantiable "BakeryPlan" (7 : Nat)) ∈ lw_all := lw_g (lw_at lw_m1 39 rfl) rfl
theorem q163 : (Jvm.Cond.instanceMethod ({ cls := "BakeryPlan", name := "<init>", desc := "()V" } : Jvm.MethodName)) ∈ lw_all := lw_g (lw_at lw_m1 41 rfl) rfl
theorem q164 : (Jvm.Cond.code ({ cls := "BakeryPlan", name := "<init>", desc := "()V" } : Jvm.MethodName) prog_1_method_7_code (1 : Nat) (Option.none : Option Jvm.ClassFile.FieldType)) ∈ lw_all := lw_g (lw_at lw_m1 42 rfl) rfl
theorem q165 : (Jvm.Cond.methodLink "BakeryPlan" (19 : Nat) ({ cls := "java/lang/Object", name := "<init>", desc := "()V" } : Jvm.MethodName)) ∈ lw_all := lw_g (lw_at lw_m1 43 rfl) rfl
theorem q168 : (Jvm.Cond.classLink "BakeryPlan" (22 : Nat) "BakeryPlan$Plan") ∈ lw_all := lw_g (lw_at lw_m1 46 rfl) rfl
theorem q170 : (Jvm.Cond.classLink "BakeryPlan" (24 : Nat) "java/util/ArrayList") ∈ lw_all := lw_g (lw_at lw_m1 48 rfl) rfl
theorem q172 : (Jvm.Cond.methodLink "BakeryPlan" (26 : Nat) ({ cls := "java/util/ArrayList", name := "<init>", desc := "(I)V" } : Jvm.MethodName)) ∈ lw_all := lw_g (lw_at lw_m1 50 rfl) rfl
theorem q517 : (Jvm.Cond.methodLink "BakeryPlan" (29 : Nat) ({ cls := "BakeryPlan$Plan", name := "<init>", desc := "(Ljava/util/ArrayList;[I)V" } : Jvm.MethodName)) ∈ lw_all := lw_g (lw_at lw_m2 155 rfl) rfl
theorem q525 : (Jvm.Cond.fieldLinkNest "BakeryPlan" (129 : Nat) "BakeryPlan$Plan" "products" "Ljava/util/ArrayList;" "BakeryPlan") ∈ lw_tbl := lw_at lw_m2 163 rfl
theorem q529 : (Jvm.Cond.fieldLinkNest "BakeryPlan" (135 : Nat) "BakeryPlan$Plan" "waves" "[I" "BakeryPlan") ∈ lw_tbl := lw_at lw_m2 167 rfl
theorem q533 : (Jvm.Cond.fieldLinkNest "BakeryPlan" (154 : Nat) "BakeryPlan$Plan" "settings" "[I" "BakeryPlan") ∈ lw_tbl := lw_at lw_m2 171 rfl
theorem q537 : (Jvm.Cond.fieldLinkNest "BakeryPlan" (114 : Nat) "BakeryPlan$Plan" "batches" "Ljava/util/ArrayList;" "BakeryPlan") ∈ lw_tbl := lw_at lw_m2 175 rfl
theorem q541 : (Jvm.Cond.fieldLinkNest "BakeryPlan" (132 : Nat) "BakeryPlan$Plan" "waveCount" "I" "BakeryPlan") ∈ lw_tbl := lw_at lw_m2 179 rfl
theorem q545 : (Jvm.Cond.fieldLinkNest "BakeryPlan" (157 : Nat) "BakeryPlan$Plan" "policy" "I" "BakeryPlan") ∈ lw_tbl := lw_at lw_m2 183 rfl
theorem q560 : (Jvm.Cond.classLink "BakeryPlan" (36 : Nat) "BakeryPlan$Day") ∈ lw_all := lw_g (lw_at lw_m2 198 rfl) rfl
theorem q562 : (Jvm.Cond.methodLink "BakeryPlan" (38 : Nat) ({ cls := "BakeryPlan$Day", name := "<init>", desc := "(LBakeryPlan$Plan;)V" } : Jvm.MethodName)) ∈ lw_all := lw_g (lw_at lw_m2 200 rfl) rfl
theorem q593 : (Jvm.Cond.fieldLinkNest "BakeryPlan" (175 : Nat) "BakeryPlan$Day" "mixer" "[I" "BakeryPlan") ∈ lw_tbl := lw_at lw_m2 231 rfl
theorem q595 : (Jvm.Cond.fieldLinkNest "BakeryPlan" (178 : Nat) "BakeryPlan$Day" "mixStart" "[I" "BakeryPlan") ∈ lw_tbl := lw_at lw_m2 233 rfl
theorem q597 : (Jvm.Cond.fieldLinkNest "BakeryPlan" (181 : Nat) "BakeryPlan$Day" "proofStart" "[I" "BakeryPlan") ∈ lw_tbl := lw_at lw_m2 235 rfl
theorem q599 : (Jvm.Cond.fieldLinkNest "BakeryPlan" (184 : Nat) "BakeryPlan$Day" "deck" "[I" "BakeryPlan") ∈ lw_tbl := lw_at lw_m2 237 rfl
theorem q601 : (Jvm.Cond.fieldLinkNest "BakeryPlan" (187 : Nat) "BakeryPlan$Day" "bakeStart" "[I" "BakeryPlan") ∈ lw_tbl := lw_at lw_m2 239 rfl
theorem q603 : (Jvm.Cond.fieldLinkNest "BakeryPlan" (190 : Nat) "BakeryPlan$Day" "bakeEnd" "[I" "BakeryPlan") ∈ lw_tbl := lw_at lw_m3 1 rfl
theorem q605 : (Jvm.Cond.fieldLinkNest "BakeryPlan" (193 : Nat) "BakeryPlan$Day" "lostAt" "[I" "BakeryPlan") ∈ lw_tbl := lw_at lw_m3 3 rfl
theorem q607 : (Jvm.Cond.fieldLinkNest "BakeryPlan" (196 : Nat) "BakeryPlan$Day" "shelfMinutes" "[I" "BakeryPlan") ∈ lw_tbl := lw_at lw_m3 5 rfl
theorem q611 : (Jvm.Cond.fieldLinkNest "BakeryPlan" (199 : Nat) "BakeryPlan$Day" "bakeAge" "[I" "BakeryPlan") ∈ lw_tbl := lw_at lw_m3 9 rfl
theorem q617 : (Jvm.Cond.fieldLinkNest "BakeryPlan" (226 : Nat) "BakeryPlan$Day" "begun" "[I" "BakeryPlan") ∈ lw_tbl := lw_at lw_m3 15 rfl
theorem q619 : (Jvm.Cond.fieldLinkNest "BakeryPlan" (239 : Nat) "BakeryPlan$Day" "taken" "[I" "BakeryPlan") ∈ lw_tbl := lw_at lw_m3 17 rfl
theorem q621 : (Jvm.Cond.fieldLinkNest "BakeryPlan" (232 : Nat) "BakeryPlan$Day" "heat" "[I" "BakeryPlan") ∈ lw_tbl := lw_at lw_m3 19 rfl
theorem q623 : (Jvm.Cond.fieldLinkNest "BakeryPlan" (221 : Nat) "BakeryPlan$Day" "busy" "[I" "BakeryPlan") ∈ lw_tbl := lw_at lw_m3 21 rfl
theorem q625 : (Jvm.Cond.fieldLinkNest "BakeryPlan" (212 : Nat) "BakeryPlan$Day" "cleanings" "I" "BakeryPlan") ∈ lw_tbl := lw_at lw_m3 23 rfl
theorem q627 : (Jvm.Cond.fieldLinkNest "BakeryPlan" (215 : Nat) "BakeryPlan$Day" "degrees" "I" "BakeryPlan") ∈ lw_tbl := lw_at lw_m3 25 rfl
theorem q681 : (Jvm.Cond.classLink "BakeryPlan" (45 : Nat) "java/util/ArrayDeque") ∈ lw_all := lw_g (lw_at lw_m3 79 rfl) rfl
theorem q683 : (Jvm.Cond.methodLink "BakeryPlan" (47 : Nat) ({ cls := "java/util/ArrayDeque", name := "<init>", desc := "()V" } : Jvm.MethodName)) ∈ lw_all := lw_g (lw_at lw_m3 81 rfl) rfl
theorem q698 : (Jvm.Cond.stringRef "BakeryPlan" (60 : Nat) "") ∈ lw_tbl := lw_at lw_m3 96 rfl
theorem q699 : (Jvm.Cond.fieldLink "BakeryPlan" (32 : Nat) "BakeryPlan" "plan" "LBakeryPlan$Plan;") ∈ lw_all := lw_g (lw_at lw_m3 97 rfl) rfl
theorem q700 : (Jvm.Cond.fieldLink "BakeryPlan" (41 : Nat) "BakeryPlan" "day" "LBakeryPlan$Day;") ∈ lw_all := lw_g (lw_at lw_m3 98 rfl) rfl
theorem q701 : (Jvm.Cond.fieldLink "BakeryPlan" (48 : Nat) "BakeryPlan" "history" "Ljava/util/ArrayDeque;") ∈ lw_all := lw_g (lw_at lw_m3 99 rfl) rfl
theorem q702 : (Jvm.Cond.fieldLink "BakeryPlan" (52 : Nat) "BakeryPlan" "buffer" "[B") ∈ lw_all := lw_g (lw_at lw_m3 100 rfl) rfl
theorem q703 : (Jvm.Cond.fieldLink "BakeryPlan" (82 : Nat) "BakeryPlan" "length" "I") ∈ lw_all := lw_g (lw_at lw_m3 101 rfl) rfl
theorem q704 : (Jvm.Cond.fieldLink "BakeryPlan" (56 : Nat) "BakeryPlan" "errorOffset" "I") ∈ lw_all := lw_g (lw_at lw_m3 102 rfl) rfl
theorem q705 : (Jvm.Cond.fieldLink "BakeryPlan" (62 : Nat) "BakeryPlan" "formatted" "Ljava/lang/String;") ∈ lw_all := lw_g (lw_at lw_m3 103 rfl) rfl
theorem q706 : (Jvm.Cond.lays "BakeryPlan" "BakeryPlan" "plan" "LBakeryPlan$Plan;") ∈ lw_all := lw_g (lw_at lw_m3 104 rfl) rfl
theorem q707 : (Jvm.Cond.soleField "BakeryPlan" "plan") ∈ lw_all := lw_g (lw_at lw_m3 105 rfl) rfl
theorem q708 : (Jvm.Cond.laysFinal "BakeryPlan" "BakeryPlan" "day" "LBakeryPlan$Day;") ∈ lw_all := lw_g (lw_at lw_m3 106 rfl) rfl
theorem q709 : (Jvm.Cond.soleField "BakeryPlan" "day") ∈ lw_all := lw_g (lw_at lw_m3 107 rfl) rfl
theorem q710 : (Jvm.Cond.laysFinal "BakeryPlan" "BakeryPlan" "history" "Ljava/util/ArrayDeque;") ∈ lw_all := lw_g (lw_at lw_m3 108 rfl) rfl
theorem q711 : (Jvm.Cond.soleField "BakeryPlan" "history") ∈ lw_all := lw_g (lw_at lw_m3 109 rfl) rfl
theorem q712 : (Jvm.Cond.laysFinal "BakeryPlan" "BakeryPlan" "buffer" "[B") ∈ lw_all := lw_g (lw_at lw_m3 110 rfl) rfl
theorem q713 : (Jvm.Cond.soleField "BakeryPlan" "buffer") ∈ lw_all := lw_g (lw_at lw_m3 111 rfl) rfl
theorem q714 : (Jvm.Cond.lays "BakeryPlan" "BakeryPlan" "length" "I") ∈ lw_all := lw_g (lw_at lw_m3 112 rfl) rfl
theorem q715 : (Jvm.Cond.soleField "BakeryPlan" "length") ∈ lw_all := lw_g (lw_at lw_m3 113 rfl) rfl
theorem q716 : (Jvm.Cond.lays "BakeryPlan" "BakeryPlan" "errorOffset" "I") ∈ lw_all := lw_g (lw_at lw_m3 114 rfl) rfl
theorem q717 : (Jvm.Cond.soleField "BakeryPlan" "errorOffset") ∈ lw_all := lw_g (lw_at lw_m3 115 rfl) rfl
theorem q718 : (Jvm.Cond.lays "BakeryPlan" "BakeryPlan" "formatted" "Ljava/lang/String;") ∈ lw_all := lw_g (lw_at lw_m3 116 rfl) rfl
theorem q719 : (Jvm.Cond.soleField "BakeryPlan" "formatted") ∈ lw_all := lw_g (lw_at lw_m3 117 rfl) rfl
theorem q720 : (Jvm.Cond.superclass "BakeryPlan" "java/lang/Object") ∈ lw_all := lw_g (lw_at lw_m3 118 rfl) rfl
theorem q722 : (Jvm.Cond.instanceMethod ({ cls := "BakeryPlan", name := "errorOffset", desc := "()I" } : Jvm.MethodName)) ∈ lw_all := lw_g (lw_at lw_m3 120 rfl) rfl
theorem q723 : (Jvm.Cond.selects "BakeryPlan" ({ cls := "BakeryPlan", name := "errorOffset", desc := "()I" } : Jvm.MethodName) ({ cls := "BakeryPlan", name := "errorOffset", desc := "()I" } : Jvm.MethodName)) ∈ lw_all := lw_g (lw_at lw_m3 121 rfl) rfl
theorem q724 : (Jvm.Cond.code ({ cls := "BakeryPlan", name := "errorOffset", desc := "()I" } : Jvm.MethodName) prog_1_method_12_code (1 : Nat) (Option.some Jvm.ClassFile.FieldType.int)) ∈ lw_all := lw_g (lw_at lw_m3 122 rfl) rfl
theorem q726 : (Jvm.Cond.instanceMethod ({ cls := "BakeryPlan", name := "products", desc := "()I" } : Jvm.MethodName)) ∈ lw_all := lw_g (lw_at lw_m3 124 rfl) rfl
theorem q727 : (Jvm.Cond.selects "BakeryPlan" ({ cls := "BakeryPlan", name := "products", desc := "()I" } : Jvm.MethodName) ({ cls := "BakeryPlan", name := "products", desc := "()I" } : Jvm.MethodName)) ∈ lw_all := lw_g (lw_at lw_m3 125 rfl) rfl
theorem q728 : (Jvm.Cond.code ({ cls := "BakeryPlan", name := "products", desc := "()I" } : Jvm.MethodName) prog_1_method_14_code (1 : Nat) (Option.some Jvm.ClassFile.FieldType.int)) ∈ lw_all := lw_g (lw_at lw_m3 126 rfl) rfl
theorem q729 : (Jvm.Cond.methodLink "BakeryPlan" (118 : Nat) ({ cls := "java/util/ArrayList", name := "size", desc := "()I" } : Jvm.MethodName)) ∈ lw_all := lw_g (lw_at lw_m3 127 rfl) rfl
theorem q734 : (Jvm.Cond.instanceMethod ({ cls := "BakeryPlan", name := "waves", desc := "()I" } : Jvm.MethodName)) ∈ lw_all := lw_g (lw_at lw_m3 132 rfl) rfl
theorem q735 : (Jvm.Cond.selects "BakeryPlan" ({ cls := "BakeryPlan", name := "waves", desc := "()I" } : Jvm.MethodName) ({ cls := "BakeryPlan", name := "waves", desc := "()I" } : Jvm.MethodName)) ∈ lw_all := lw_g (lw_at lw_m3 133 rfl) rfl
theorem q736 : (Jvm.Cond.code ({ cls := "BakeryPlan", name := "waves", desc := "()I" } : Jvm.MethodName) prog_1_method_15_code (1 : Nat) (Option.some Jvm.ClassFile.FieldType.int)) ∈ lw_all := lw_g (lw_at lw_m3 134 rfl) rfl
theorem q738 : (Jvm.Cond.instanceMethod ({ cls := "BakeryPlan", name := "batches", desc := "()I" } : Jvm.MethodName)) ∈ lw_all := lw_g (lw_at lw_m3 136 rfl) rfl
theorem q739 : (Jvm.Cond.selects "BakeryPlan" ({ cls := "BakeryPlan", name := "batches", desc := "()I" } : Jvm.MethodName) ({ cls := "BakeryPlan", name := "batches", desc := "()I" } : Jvm.MethodName)) ∈ lw_all := lw_g (lw_at lw_m3 137 rfl) rfl
theorem q740 : (Jvm.Cond.code ({ cls := "BakeryPlan", name := "batches", desc := "()I" } : Jvm.MethodName) prog_1_method_16_code (1 : Nat) (Option.some Jvm.ClassFile.FieldType.int)) ∈ lw_all := lw_g (lw_at lw_m3 138 rfl) rfl
theorem q742 : (Jvm.Cond.instanceMethod ({ cls := "BakeryPlan", name := "policy", desc := "()I" } : Jvm.MethodName)) ∈ lw_all := lw_g (lw_at lw_m3 140 rfl) rfl
theorem q743 : (Jvm.Cond.selects "BakeryPlan" ({ cls := "BakeryPlan", name := "policy", desc := "()I" } : Jvm.MethodName) ({ cls := "BakeryPlan", name := "policy", desc := "()I" } : Jvm.MethodName)) ∈ lw_all := lw_g (lw_at lw_m3 141 rfl) rfl
theorem q744 : (Jvm.Cond.code ({ cls := "BakeryPlan", name := "policy", desc := "()I" } : Jvm.MethodName) prog_1_method_22_code (1 : Nat) (Option.some Jvm.ClassFile.FieldType.int)) ∈ lw_all := lw_g (lw_at lw_m3 142 rfl) rfl
theorem q746 : (Jvm.Cond.instanceMethod ({ cls := "BakeryPlan", name := "lastEnd", desc := "()I" } : Jvm.MethodName)) ∈ lw_all := lw_g (lw_at lw_m3 144 rfl) rfl
theorem q747 : (Jvm.Cond.selects "BakeryPlan" ({ cls := "BakeryPlan", name := "lastEnd", desc := "()I" } : Jvm.MethodName) ({ cls := "BakeryPlan", name := "lastEnd", desc := "()I" } : Jvm.MethodName)) ∈ lw_all := lw_g (lw_at lw_m3 145 rfl) rfl
theorem q748 : (Jvm.Cond.code ({ cls := "BakeryPlan", name := "lastEnd", desc := "()I" } : Jvm.MethodName) prog_1_method_36_code (1 : Nat) (Option.some Jvm.ClassFile.FieldType.int)) ∈ lw_all := lw_g (lw_at lw_m3 146 rfl) rfl
theorem q749 : (Jvm.Cond.methodLink "BakeryPlan" (164 : Nat) ({ cls := "BakeryPlan", name := "whole", desc := "()LBakeryPlan$Day;" } : Jvm.MethodName)) ∈ lw_all := lw_g (lw_at lw_m3 147 rfl) rfl
theorem q750 : (Jvm.Cond.privateMethod ({ cls := "BakeryPlan", name := "whole", desc := "()LBakeryPlan$Day;" } : Jvm.MethodName)) ∈ lw_tbl := lw_at lw_m3 148 rfl
theorem q751 : (Jvm.Cond.instanceMethod ({ cls := "BakeryPlan", name := "whole", desc := "()LBakeryPlan$Day;" } : Jvm.MethodName)) ∈ lw_all := lw_g (lw_at lw_m3 149 rfl) rfl
theorem q752 : (Jvm.Cond.code ({ cls := "BakeryPlan", name := "whole", desc := "()LBakeryPlan$Day;" } : Jvm.MethodName) prog_1_method_23_code (1 : Nat) (Option.some (Jvm.ClassFile.FieldType.object "BakeryPlan$Day"))) ∈ lw_all := lw_g (lw_at lw_m3 150 rfl) rfl
theorem q753 : (Jvm.Cond.methodLink "BakeryPlan" (160 : Nat) ({ cls := "BakeryPlan$Day", name := "run", desc := "(LBakeryPlan$Plan;I)LBakeryPlan$Day;" } : Jvm.MethodName)) ∈ lw_all := lw_g (lw_at lw_m3 151 rfl) rfl
theorem q895 : (Jvm.Cond.methodLink "BakeryPlan" (209 : Nat) ({ cls := "BakeryPlan$Day", name := "lastEnd", desc := "()I" } : Jvm.MethodName)) ∈ lw_all := lw_g (lw_at lw_m4 53 rfl) rfl
theorem q900 : (Jvm.Cond.instanceMethod ({ cls := "BakeryPlan", name := "cleanings", desc := "()I" } : Jvm.MethodName)) ∈ lw_all := lw_g (lw_at lw_m4 58 rfl) rfl
theorem q901 : (Jvm.Cond.selects "BakeryPlan" ({ cls := "BakeryPlan", name := "cleanings", desc := "()I" } : Jvm.MethodName) ({ cls := "BakeryPlan", name := "cleanings", desc := "()I" } : Jvm.MethodName)) ∈ lw_all := lw_g (lw_at lw_m4 59 rfl) rfl
theorem q902 : (Jvm.Cond.code ({ cls := "BakeryPlan", name := "cleanings", desc := "()I" } : Jvm.MethodName) prog_1_method_37_code (1 : Nat) (Option.some Jvm.ClassFile.FieldType.int)) ∈ lw_all := lw_g (lw_at lw_m4 60 rfl) rfl
theorem q904 : (Jvm.Cond.instanceMethod ({ cls := "BakeryPlan", name := "degrees", desc := "()I" } : Jvm.MethodName)) ∈ lw_all := lw_g (lw_at lw_m4 62 rfl) rfl
theorem q905 : (Jvm.Cond.selects "BakeryPlan" ({ cls := "BakeryPlan", name := "degrees", desc := "()I" } : Jvm.MethodName) ({ cls := "BakeryPlan", name := "degrees", desc := "()I" } : Jvm.MethodName)) ∈ lw_all := lw_g (lw_at lw_m4 63 rfl) rfl
theorem q906 : (Jvm.Cond.code ({ cls := "BakeryPlan", name := "degrees", desc := "()I" } : Jvm.MethodName) prog_1_method_38_code (1 : Nat) (Option.some Jvm.ClassFile.FieldType.int)) ∈ lw_all := lw_g (lw_at lw_m4 64 rfl) rfl
theorem q908 : (Jvm.Cond.instanceMethod ({ cls := "BakeryPlan", name := "bestSwap", desc := "()I" } : Jvm.MethodName)) ∈ lw_all := lw_g (lw_at lw_m4 66 rfl) rfl
theorem q909 : (Jvm.Cond.selects "BakeryPlan" ({ cls := "BakeryPlan", name := "bestSwap", desc := "()I" } : Jvm.MethodName) ({ cls := "BakeryPlan", name := "bestSwap", desc := "()I" } : Jvm.MethodName)) ∈ lw_all := lw_g (lw_at lw_m4 67 rfl) rfl
theorem q910 : (Jvm.Cond.code ({ cls := "BakeryPlan", name := "bestSwap", desc := "()I" } : Jvm.MethodName) prog_1_method_47_code (6 : Nat) (Option.some Jvm.ClassFile.FieldType.int)) ∈ lw_all := lw_g (lw_at lw_m4 68 rfl) rfl
theorem q911 : (Jvm.Cond.methodLink "BakeryPlan" (74 : Nat) ({ cls := "BakeryPlan$Plan", name := "copy", desc := "()LBakeryPlan$Plan;" } : Jvm.MethodName)) ∈ lw_all := lw_g (lw_at lw_m4 69 rfl) rfl
theorem q975 : (Jvm.Cond.fieldLinkNest "BakeryPlan" (143 : Nat) "BakeryPlan$Batch" "product" "I" "BakeryPlan") ∈ lw_tbl := lw_at lw_m4 133 rfl
theorem q977 : (Jvm.Cond.fieldLinkNest "BakeryPlan" (146 : Nat) "BakeryPlan$Batch" "start" "I" "BakeryPlan") ∈ lw_tbl := lw_at lw_m4 135 rfl
theorem q982 : (Jvm.Cond.fieldLinkNest "BakeryPlan" (149 : Nat) "BakeryPlan$Batch" "wave" "I" "BakeryPlan") ∈ lw_tbl := lw_at lw_m4 140 rfl
theorem q1015 : (Jvm.Cond.selects "BakeryPlan" ({ cls := "java/lang/Object", name := "getClass", desc := "()Ljava/lang/Class;" } : Jvm.MethodName) ({ cls := "java/lang/Object", name := "getClass", desc := "()Ljava/lang/Class;" } : Jvm.MethodName)) ∈ lw_all := lw_g (lw_at lw_m4 173 rfl) rfl
theorem q1044 : (Jvm.Cond.methodLink "BakeryPlan" (248 : Nat) ({ cls := "BakeryPlan$Day", name := "worth", desc := "()I" } : Jvm.MethodName)) ∈ lw_all := lw_g (lw_at lw_m4 202 rfl) rfl
theorem q1058 : (Jvm.Cond.methodLink "BakeryPlan" (251 : Nat) ({ cls := "BakeryPlan$Plan", name := "swap", desc := "(I)V" } : Jvm.MethodName)) ∈ lw_all := lw_g (lw_at lw_m4 216 rfl) rfl
theorem q1101 : (Jvm.Cond.instanceMethod ({ cls := "BakeryPlan", name := "bestPolicy", desc := "()I" } : Jvm.MethodName)) ∈ lw_all := lw_g (lw_at lw_m5 19 rfl) rfl
theorem q1102 : (Jvm.Cond.selects "BakeryPlan" ({ cls := "BakeryPlan", name := "bestPolicy", desc := "()I" } : Jvm.MethodName) ({ cls := "BakeryPlan", name := "bestPolicy", desc := "()I" } : Jvm.MethodName)) ∈ lw_all := lw_g (lw_at lw_m5 20 rfl) rfl
theorem q1103 : (Jvm.Cond.code ({ cls := "BakeryPlan", name := "bestPolicy", desc := "()I" } : Jvm.MethodName) prog_1_method_50_code (6 : Nat) (Option.some Jvm.ClassFile.FieldType.int)) ∈ lw_all := lw_g (lw_at lw_m5 21 rfl) rfl
theorem q1109 : (Jvm.Cond.instanceMethod ({ cls := "BakeryPlan", name := "append", desc := "(IIIII)I" } : Jvm.MethodName)) ∈ lw_all := lw_g (lw_at lw_m5 27 rfl) rfl
theorem q1110 : (Jvm.Cond.selects "BakeryPlan" ({ cls := "BakeryPlan", name := "append", desc := "(IIIII)I" } : Jvm.MethodName) ({ cls := "BakeryPlan", name := "append", desc := "(IIIII)I" } : Jvm.MethodName)) ∈ lw_all := lw_g (lw_at lw_m5 28 rfl) rfl
theorem q1111 : (Jvm.Cond.code ({ cls := "BakeryPlan", name := "append", desc := "(IIIII)I" } : Jvm.MethodName) prog_1_method_9_code (12 : Nat) (Option.some Jvm.ClassFile.FieldType.int)) ∈ lw_all := lw_g (lw_at lw_m5 29 rfl) rfl
theorem q1112 : (Jvm.Cond.methodLink "BakeryPlan" (85 : Nat) ({ cls := "BakeryPlan", name := "requireState", desc := "(Z)V" } : Jvm.MethodName)) ∈ lw_all := lw_g (lw_at lw_m5 30 rfl) rfl
theorem q1113 : (Jvm.Cond.static ({ cls := "BakeryPlan", name := "requireState", desc := "(Z)V" } : Jvm.MethodName)) ∈ lw_all := lw_g (lw_at lw_m5 31 rfl) rfl
theorem q1114 : (Jvm.Cond.code ({ cls := "BakeryPlan", name := "requireState", desc := "(Z)V" } : Jvm.MethodName) prog_1_method_3_code (1 : Nat) (Option.none : Option Jvm.ClassFile.FieldType)) ∈ lw_all := lw_g (lw_at lw_m5 32 rfl) rfl
theorem q1115 : (Jvm.Cond.classLink "BakeryPlan" (7 : Nat) "java/lang/IllegalStateException") ∈ lw_all := lw_g (lw_at lw_m5 33 rfl) rfl
theorem q1124 : (Jvm.Cond.methodLink "BakeryPlan" (9 : Nat) ({ cls := "java/lang/IllegalStateException", name := "<init>", desc := "()V" } : Jvm.MethodName)) ∈ lw_all := lw_g (lw_at lw_m5 42 rfl) rfl
theorem q1141 : (Jvm.Cond.instanceMethod ({ cls := "BakeryPlan", name := "truncate", desc := "(I)V" } : Jvm.MethodName)) ∈ lw_all := lw_g (lw_at lw_m5 59 rfl) rfl
theorem q1142 : (Jvm.Cond.selects "BakeryPlan" ({ cls := "BakeryPlan", name := "truncate", desc := "(I)V" } : Jvm.MethodName) ({ cls := "BakeryPlan", name := "truncate", desc := "(I)V" } : Jvm.MethodName)) ∈ lw_all := lw_g (lw_at lw_m5 60 rfl) rfl
theorem q1143 : (Jvm.Cond.code ({ cls := "BakeryPlan", name := "truncate", desc := "(I)V" } : Jvm.MethodName) prog_1_method_10_code (2 : Nat) (Option.none : Option Jvm.ClassFile.FieldType)) ∈ lw_all := lw_g (lw_at lw_m5 61 rfl) rfl
theorem q1144 : (Jvm.Cond.methodLink "BakeryPlan" (10 : Nat) ({ cls := "BakeryPlan", name := "in", desc := "(JJJ)Z" } : Jvm.MethodName)) ∈ lw_all := lw_g (lw_at lw_m5 62 rfl) rfl
theorem q1145 : (Jvm.Cond.static ({ cls := "BakeryPlan", name := "in", desc := "(JJJ)Z" } : Jvm.MethodName)) ∈ lw_all := lw_g (lw_at lw_m5 63 rfl) rfl
theorem q1146 : (Jvm.Cond.code ({ cls := "BakeryPlan", name := "in", desc := "(JJJ)Z" } : Jvm.MethodName) prog_1_method_1_code (6 : Nat) (Option.some Jvm.ClassFile.FieldType.boolean)) ∈ lw_all := lw_g (lw_at lw_m5 64 rfl) rfl
theorem q1147 : (Jvm.Cond.methodLink "BakeryPlan" (89 : Nat) ({ cls := "BakeryPlan", name := "requireArgument", desc := "(Z)V" } : Jvm.MethodName)) ∈ lw_all := lw_g (lw_at lw_m5 65 rfl) rfl
theorem q1148 : (Jvm.Cond.static ({ cls := "BakeryPlan", name := "requireArgument", desc := "(Z)V" } : Jvm.MethodName)) ∈ lw_all := lw_g (lw_at lw_m5 66 rfl) rfl
theorem q1149 : (Jvm.Cond.code ({ cls := "BakeryPlan", name := "requireArgument", desc := "(Z)V" } : Jvm.MethodName) prog_1_method_2_code (1 : Nat) (Option.none : Option Jvm.ClassFile.FieldType)) ∈ lw_all := lw_g (lw_at lw_m5 67 rfl) rfl
theorem q1150 : (Jvm.Cond.classLink "BakeryPlan" (1 : Nat) "java/lang/IllegalArgumentException") ∈ lw_all := lw_g (lw_at lw_m5 68 rfl) rfl
theorem q1151 : (Jvm.Cond.methodLink "BakeryPlan" (3 : Nat) ({ cls := "java/lang/IllegalArgumentException", name := "<init>", desc := "()V" } : Jvm.MethodName)) ∈ lw_all := lw_g (lw_at lw_m5 69 rfl) rfl
theorem q1159 : (Jvm.Cond.instanceMethod ({ cls := "BakeryPlan", name := "load", desc := "()I" } : Jvm.MethodName)) ∈ lw_all := lw_g (lw_at lw_m5 77 rfl) rfl
theorem q1160 : (Jvm.Cond.selects "BakeryPlan" ({ cls := "BakeryPlan", name := "load", desc := "()I" } : Jvm.MethodName) ({ cls := "BakeryPlan", name := "load", desc := "()I" } : Jvm.MethodName)) ∈ lw_all := lw_g (lw_at lw_m5 78 rfl) rfl
theorem q1161 : (Jvm.Cond.codeWith ({ cls := "BakeryPlan", name := "load", desc := "()I" } : Jvm.MethodName) prog_1_method_11_code (3 : Nat) (Option.some Jvm.ClassFile.FieldType.int) [((31 : Nat), (46 : Nat), (49 : Nat), (106 : Nat))]) ∈ lw_all := lw_g (lw_at lw_m5 79 rfl) rfl
theorem q1162 : (Jvm.Cond.classLink "BakeryPlan" (106 : Nat) "BakeryPlan$TextException") ∈ lw_all := lw_g (lw_at lw_m5 80 rfl) rfl
theorem q1163 : (Jvm.Cond.methodLink "BakeryPlan" (92 : Nat) ({ cls := "java/lang/System", name := "arraycopy", desc := "(Ljava/lang/Object;ILjava/lang/Object;II)V" } : Jvm.MethodName)) ∈ lw_all := lw_g (lw_at lw_m5 81 rfl) rfl
theorem q1164 : (Jvm.Cond.classLink "BakeryPlan" (98 : Nat) "BakeryPlan$Parser") ∈ lw_all := lw_g (lw_at lw_m5 82 rfl) rfl
theorem q1166 : (Jvm.Cond.methodLink "BakeryPlan" (100 : Nat) ({ cls := "BakeryPlan$Parser", name := "<init>", desc := "([B)V" } : Jvm.MethodName)) ∈ lw_all := lw_g (lw_at lw_m5 84 rfl) rfl
theorem q1197 : (Jvm.Cond.methodLink "BakeryPlan" (103 : Nat) ({ cls := "BakeryPlan$Parser", name := "parse", desc := "()LBakeryPlan$Plan;" } : Jvm.MethodName)) ∈ lw_all := lw_g (lw_at lw_m5 115 rfl) rfl
theorem q1260 : (Jvm.Cond.fieldLinkNest "BakeryPlan" (108 : Nat) "BakeryPlan$TextException" "offset" "I" "BakeryPlan") ∈ lw_tbl := lw_at lw_m5 178 rfl
theorem q1364 : (Jvm.Cond.fieldLinkNest "BakeryPlan" (317 : Nat) "BakeryPlan$Product" "name" "Ljava/lang/String;" "BakeryPlan") ∈ lw_tbl := lw_at lw_m6 42 rfl
theorem q1489 : (Jvm.Cond.static ({ cls := "BakeryPlan", name := "least", desc := "(I)I" } : Jvm.MethodName)) ∈ lw_all := lw_g (lw_at lw_m6 167 rfl) rfl
theorem q1490 : (Jvm.Cond.code ({ cls := "BakeryPlan", name := "least", desc := "(I)I" } : Jvm.MethodName) prog_1_method_5_code (1 : Nat) (Option.some Jvm.ClassFile.FieldType.int)) ∈ lw_all := lw_g (lw_at lw_m6 168 rfl) rfl
theorem q1492 : (Jvm.Cond.static ({ cls := "BakeryPlan", name := "most", desc := "(I)I" } : Jvm.MethodName)) ∈ lw_all := lw_g (lw_at lw_m6 170 rfl) rfl
theorem q1493 : (Jvm.Cond.code ({ cls := "BakeryPlan", name := "most", desc := "(I)I" } : Jvm.MethodName) prog_1_method_6_code (1 : Nat) (Option.some Jvm.ClassFile.FieldType.int)) ∈ lw_all := lw_g (lw_at lw_m6 171 rfl) rfl
theorem q1494 : (Jvm.Cond.methodLink "BakeryPlan" (111 : Nat) ({ cls := "java/util/ArrayDeque", name := "clear", desc := "()V" } : Jvm.MethodName)) ∈ lw_all := lw_g (lw_at lw_m6 172 rfl) rfl
theorem q1521 : (Jvm.Cond.instanceMethod ({ cls := "BakeryPlan", name := "waveMinute", desc := "(I)I" } : Jvm.MethodName)) ∈ lw_all := lw_g (lw_at lw_m6 199 rfl) rfl
theorem q1522 : (Jvm.Cond.selects "BakeryPlan" ({ cls := "BakeryPlan", name := "waveMinute", desc := "(I)I" } : Jvm.MethodName) ({ cls := "BakeryPlan", name := "waveMinute", desc := "(I)I" } : Jvm.MethodName)) ∈ lw_all := lw_g (lw_at lw_m6 200 rfl) rfl
theorem q1523 : (Jvm.Cond.code ({ cls := "BakeryPlan", name := "waveMinute", desc := "(I)I" } : Jvm.MethodName) prog_1_method_17_code (2 : Nat) (Option.some Jvm.ClassFile.FieldType.int)) ∈ lw_all := lw_g (lw_at lw_m6 201 rfl) rfl
theorem q1524 : (Jvm.Cond.methodLink "BakeryPlan" (119 : Nat) ({ cls := "BakeryPlan", name := "requireIndex", desc := "(II)V" } : Jvm.MethodName)) ∈ lw_all := lw_g (lw_at lw_m6 202 rfl) rfl
theorem q1525 : (Jvm.Cond.static ({ cls := "BakeryPlan", name := "requireIndex", desc := "(II)V" } : Jvm.MethodName)) ∈ lw_all := lw_g (lw_at lw_m6 203 rfl) rfl
theorem q1526 : (Jvm.Cond.code ({ cls := "BakeryPlan", name := "requireIndex", desc := "(II)V" } : Jvm.MethodName) prog_1_method_4_code (2 : Nat) (Option.none : Option Jvm.ClassFile.FieldType)) ∈ lw_all := lw_g (lw_at lw_m6 204 rfl) rfl
theorem q1527 : (Jvm.Cond.classLink "BakeryPlan" (16 : Nat) "java/lang/IndexOutOfBoundsException") ∈ lw_all := lw_g (lw_at lw_m6 205 rfl) rfl
theorem q1528 : (Jvm.Cond.methodLink "BakeryPlan" (18 : Nat) ({ cls := "java/lang/IndexOutOfBoundsException", name := "<init>", desc := "()V" } : Jvm.MethodName)) ∈ lw_all := lw_g (lw_at lw_m6 206 rfl) rfl
theorem q1536 : (Jvm.Cond.instanceMethod ({ cls := "BakeryPlan", name := "productOf", desc := "(I)I" } : Jvm.MethodName)) ∈ lw_all := lw_g (lw_at lw_m6 214 rfl) rfl
theorem q1537 : (Jvm.Cond.selects "BakeryPlan" ({ cls := "BakeryPlan", name := "productOf", desc := "(I)I" } : Jvm.MethodName) ({ cls := "BakeryPlan", name := "productOf", desc := "(I)I" } : Jvm.MethodName)) ∈ lw_all := lw_g (lw_at lw_m6 215 rfl) rfl
theorem q1538 : (Jvm.Cond.code ({ cls := "BakeryPlan", name := "productOf", desc := "(I)I" } : Jvm.MethodName) prog_1_method_18_code (2 : Nat) (Option.some Jvm.ClassFile.FieldType.int)) ∈ lw_all := lw_g (lw_at lw_m6 216 rfl) rfl
theorem q1539 : (Jvm.Cond.methodLink "BakeryPlan" (139 : Nat) ({ cls := "BakeryPlan", name := "batch", desc := "(I)LBakeryPlan$Batch;" } : Jvm.MethodName)) ∈ lw_all := lw_g (lw_at lw_m6 217 rfl) rfl
theorem q1540 : (Jvm.Cond.privateMethod ({ cls := "BakeryPlan", name := "batch", desc := "(I)LBakeryPlan$Batch;" } : Jvm.MethodName)) ∈ lw_tbl := lw_at lw_m6 218 rfl
theorem q1541 : (Jvm.Cond.instanceMethod ({ cls := "BakeryPlan", name := "batch", desc := "(I)LBakeryPlan$Batch;" } : Jvm.MethodName)) ∈ lw_all := lw_g (lw_at lw_m6 219 rfl) rfl
theorem q1542 : (Jvm.Cond.code ({ cls := "BakeryPlan", name := "batch", desc := "(I)LBakeryPlan$Batch;" } : Jvm.MethodName) prog_1_method_13_code (2 : Nat) (Option.some (Jvm.ClassFile.FieldType.object "BakeryPlan$Batch"))) ∈ lw_all := lw_g (lw_at lw_m6 220 rfl) rfl
theorem q1543 : (Jvm.Cond.methodLink "BakeryPlan" (123 : Nat) ({ cls := "java/util/ArrayList", name := "get", desc := "(I)Ljava/lang/Object;" } : Jvm.MethodName)) ∈ lw_all := lw_g (lw_at lw_m6 221 rfl) rfl
theorem q1544 : (Jvm.Cond.classLink "BakeryPlan" (127 : Nat) "BakeryPlan$Batch") ∈ lw_all := lw_g (lw_at lw_m6 222 rfl) rfl
theorem q1549 : (Jvm.Cond.instanceMethod ({ cls := "BakeryPlan", name := "startOf", desc := "(I)I" } : Jvm.MethodName)) ∈ lw_all := lw_g (lw_at lw_m6 227 rfl) rfl
theorem q1550 : (Jvm.Cond.selects "BakeryPlan" ({ cls := "BakeryPlan", name := "startOf", desc := "(I)I" } : Jvm.MethodName) ({ cls := "BakeryPlan", name := "startOf", desc := "(I)I" } : Jvm.MethodName)) ∈ lw_all := lw_g (lw_at lw_m6 228 rfl) rfl
theorem q1551 : (Jvm.Cond.code ({ cls := "BakeryPlan", name := "startOf", desc := "(I)I" } : Jvm.MethodName) prog_1_method_19_code (2 : Nat) (Option.some Jvm.ClassFile.FieldType.int)) ∈ lw_all := lw_g (lw_at lw_m6 229 rfl) rfl
theorem q1556 : (Jvm.Cond.instanceMethod ({ cls := "BakeryPlan", name := "waveOf", desc := "(I)I" } : Jvm.MethodName)) ∈ lw_all := lw_g (lw_at lw_m6 234 rfl) rfl
theorem q1557 : (Jvm.Cond.selects "BakeryPlan" ({ cls := "BakeryPlan", name := "waveOf", desc := "(I)I" } : Jvm.MethodName) ({ cls := "BakeryPlan", name := "waveOf", desc := "(I)I" } : Jvm.MethodName)) ∈ lw_all := lw_g (lw_at lw_m6 235 rfl) rfl
theorem q1558 : (Jvm.Cond.code ({ cls := "BakeryPlan", name := "waveOf", desc := "(I)I" } : Jvm.MethodName) prog_1_method_20_code (2 : Nat) (Option.some Jvm.ClassFile.FieldType.int)) ∈ lw_all := lw_g (lw_at lw_m6 236 rfl) rfl
theorem q1563 : (Jvm.Cond.instanceMethod ({ cls := "BakeryPlan", name := "setting", desc := "(I)I" } : Jvm.MethodName)) ∈ lw_all := lw_g (lw_at lw_m7 1 rfl) rfl
theorem q1564 : (Jvm.Cond.selects "BakeryPlan" ({ cls := "BakeryPlan", name := "setting", desc := "(I)I" } : Jvm.MethodName) ({ cls := "BakeryPlan", name := "setting", desc := "(I)I" } : Jvm.MethodName)) ∈ lw_all := lw_g (lw_at lw_m7 2 rfl) rfl
theorem q1565 : (Jvm.Cond.code ({ cls := "BakeryPlan", name := "setting", desc := "(I)I" } : Jvm.MethodName) prog_1_method_21_code (2 : Nat) (Option.some Jvm.ClassFile.FieldType.int)) ∈ lw_all := lw_g (lw_at lw_m7 3 rfl) rfl
theorem q1566 : (Jvm.Cond.constantLong "BakeryPlan" (152 : Nat) (6 : Int64)) ∈ lw_all := lw_g (lw_at lw_m7 4 rfl) rfl
theorem q1571 : (Jvm.Cond.instanceMethod ({ cls := "BakeryPlan", name := "state", desc := "(I)I" } : Jvm.MethodName)) ∈ lw_all := lw_g (lw_at lw_m7 9 rfl) rfl
theorem q1572 : (Jvm.Cond.selects "BakeryPlan" ({ cls := "BakeryPlan", name := "state", desc := "(I)I" } : Jvm.MethodName) ({ cls := "BakeryPlan", name := "state", desc := "(I)I" } : Jvm.MethodName)) ∈ lw_all := lw_g (lw_at lw_m7 10 rfl) rfl
theorem q1573 : (Jvm.Cond.code ({ cls := "BakeryPlan", name := "state", desc := "(I)I" } : Jvm.MethodName) prog_1_method_25_code (2 : Nat) (Option.some Jvm.ClassFile.FieldType.int)) ∈ lw_all := lw_g (lw_at lw_m7 11 rfl) rfl
theorem q1574 : (Jvm.Cond.methodLink "BakeryPlan" (168 : Nat) ({ cls := "BakeryPlan", name := "whole", desc := "(I)LBakeryPlan$Day;" } : Jvm.MethodName)) ∈ lw_all := lw_g (lw_at lw_m7 12 rfl) rfl
theorem q1575 : (Jvm.Cond.privateMethod ({ cls := "BakeryPlan", name := "whole", desc := "(I)LBakeryPlan$Day;" } : Jvm.MethodName)) ∈ lw_tbl := lw_at lw_m7 13 rfl
theorem q1576 : (Jvm.Cond.instanceMethod ({ cls := "BakeryPlan", name := "whole", desc := "(I)LBakeryPlan$Day;" } : Jvm.MethodName)) ∈ lw_all := lw_g (lw_at lw_m7 14 rfl) rfl
theorem q1577 : (Jvm.Cond.code ({ cls := "BakeryPlan", name := "whole", desc := "(I)LBakeryPlan$Day;" } : Jvm.MethodName) prog_1_method_24_code (2 : Nat) (Option.some (Jvm.ClassFile.FieldType.object "BakeryPlan$Day"))) ∈ lw_all := lw_g (lw_at lw_m7 15 rfl) rfl
theorem q1578 : (Jvm.Cond.methodLink "BakeryPlan" (171 : Nat) ({ cls := "BakeryPlan$Day", name := "state", desc := "(I)I" } : Jvm.MethodName)) ∈ lw_all := lw_g (lw_at lw_m7 16 rfl) rfl
theorem q1583 : (Jvm.Cond.instanceMethod ({ cls := "BakeryPlan", name := "mixerOf", desc := "(I)I" } : Jvm.MethodName)) ∈ lw_all := lw_g (lw_at lw_m7 21 rfl) rfl
theorem q1584 : (Jvm.Cond.selects "BakeryPlan" ({ cls := "BakeryPlan", name := "mixerOf", desc := "(I)I" } : Jvm.MethodName) ({ cls := "BakeryPlan", name := "mixerOf", desc := "(I)I" } : Jvm.MethodName)) ∈ lw_all := lw_g (lw_at lw_m7 22 rfl) rfl
theorem q1585 : (Jvm.Cond.code ({ cls := "BakeryPlan", name := "mixerOf", desc := "(I)I" } : Jvm.MethodName) prog_1_method_26_code (2 : Nat) (Option.some Jvm.ClassFile.FieldType.int)) ∈ lw_all := lw_g (lw_at lw_m7 23 rfl) rfl
theorem q1590 : (Jvm.Cond.instanceMethod ({ cls := "BakeryPlan", name := "mixStart", desc := "(I)I" } : Jvm.MethodName)) ∈ lw_all := lw_g (lw_at lw_m7 28 rfl) rfl
theorem q1591 : (Jvm.Cond.selects "BakeryPlan" ({ cls := "BakeryPlan", name := "mixStart", desc := "(I)I" } : Jvm.MethodName) ({ cls := "BakeryPlan", name := "mixStart", desc := "(I)I" } : Jvm.MethodName)) ∈ lw_all := lw_g (lw_at lw_m7 29 rfl) rfl
theorem q1592 : (Jvm.Cond.code ({ cls := "BakeryPlan", name := "mixStart", desc := "(I)I" } : Jvm.MethodName) prog_1_method_27_code (2 : Nat) (Option.some Jvm.ClassFile.FieldType.int)) ∈ lw_all := lw_g (lw_at lw_m7 30 rfl) rfl
theorem q1597 : (Jvm.Cond.instanceMethod ({ cls := "BakeryPlan", name := "proofStart", desc := "(I)I" } : Jvm.MethodName)) ∈ lw_all := lw_g (lw_at lw_m7 35 rfl) rfl
theorem q1598 : (Jvm.Cond.selects "BakeryPlan" ({ cls := "BakeryPlan", name := "proofStart", desc := "(I)I" } : Jvm.MethodName) ({ cls := "BakeryPlan", name := "proofStart", desc := "(I)I" } : Jvm.MethodName)) ∈ lw_all := lw_g (lw_at lw_m7 36 rfl) rfl
theorem q1599 : (Jvm.Cond.code ({ cls := "BakeryPlan", name := "proofStart", desc := "(I)I" } : Jvm.MethodName) prog_1_method_28_code (2 : Nat) (Option.some Jvm.ClassFile.FieldType.int)) ∈ lw_all := lw_g (lw_at lw_m7 37 rfl) rfl
theorem q1604 : (Jvm.Cond.instanceMethod ({ cls := "BakeryPlan", name := "deckOf", desc := "(I)I" } : Jvm.MethodName)) ∈ lw_all := lw_g (lw_at lw_m7 42 rfl) rfl
theorem q1605 : (Jvm.Cond.selects "BakeryPlan" ({ cls := "BakeryPlan", name := "deckOf", desc := "(I)I" } : Jvm.MethodName) ({ cls := "BakeryPlan", name := "deckOf", desc := "(I)I" } : Jvm.MethodName)) ∈ lw_all := lw_g (lw_at lw_m7 43 rfl) rfl
theorem q1606 : (Jvm.Cond.code ({ cls := "BakeryPlan", name := "deckOf", desc := "(I)I" } : Jvm.MethodName) prog_1_method_29_code (2 : Nat) (Option.some Jvm.ClassFile.FieldType.int)) ∈ lw_all := lw_g (lw_at lw_m7 44 rfl) rfl
theorem q1611 : (Jvm.Cond.instanceMethod ({ cls := "BakeryPlan", name := "bakeStart", desc := "(I)I" } : Jvm.MethodName)) ∈ lw_all := lw_g (lw_at lw_m7 49 rfl) rfl
theorem q1612 : (Jvm.Cond.selects "BakeryPlan" ({ cls := "BakeryPlan", name := "bakeStart", desc := "(I)I" } : Jvm.MethodName) ({ cls := "BakeryPlan", name := "bakeStart", desc := "(I)I" } : Jvm.MethodName)) ∈ lw_all := lw_g (lw_at lw_m7 50 rfl) rfl
theorem q1613 : (Jvm.Cond.code ({ cls := "BakeryPlan", name := "bakeStart", desc := "(I)I" } : Jvm.MethodName) prog_1_method_30_code (2 : Nat) (Option.some Jvm.ClassFile.FieldType.int)) ∈ lw_all := lw_g (lw_at lw_m7 51 rfl) rfl
theorem q1618 : (Jvm.Cond.instanceMethod ({ cls := "BakeryPlan", name := "bakeEnd", desc := "(I)I" } : Jvm.MethodName)) ∈ lw_all := lw_g (lw_at lw_m7 56 rfl) rfl
theorem q1619 : (Jvm.Cond.selects "BakeryPlan" ({ cls := "BakeryPlan", name := "bakeEnd", desc := "(I)I" } : Jvm.MethodName) ({ cls := "BakeryPlan", name := "bakeEnd", desc := "(I)I" } : Jvm.MethodName)) ∈ lw_all := lw_g (lw_at lw_m7 57 rfl) rfl
theorem q1620 : (Jvm.Cond.code ({ cls := "BakeryPlan", name := "bakeEnd", desc := "(I)I" } : Jvm.MethodName) prog_1_method_31_code (2 : Nat) (Option.some Jvm.ClassFile.FieldType.int)) ∈ lw_all := lw_g (lw_at lw_m7 58 rfl) rfl
theorem q1625 : (Jvm.Cond.instanceMethod ({ cls := "BakeryPlan", name := "lostAt", desc := "(I)I" } : Jvm.MethodName)) ∈ lw_all := lw_g (lw_at lw_m7 63 rfl) rfl
theorem q1626 : (Jvm.Cond.selects "BakeryPlan" ({ cls := "BakeryPlan", name := "lostAt", desc := "(I)I" } : Jvm.MethodName) ({ cls := "BakeryPlan", name := "lostAt", desc := "(I)I" } : Jvm.MethodName)) ∈ lw_all := lw_g (lw_at lw_m7 64 rfl) rfl
theorem q1627 : (Jvm.Cond.code ({ cls := "BakeryPlan", name := "lostAt", desc := "(I)I" } : Jvm.MethodName) prog_1_method_32_code (2 : Nat) (Option.some Jvm.ClassFile.FieldType.int)) ∈ lw_all := lw_g (lw_at lw_m7 65 rfl) rfl
theorem q1632 : (Jvm.Cond.instanceMethod ({ cls := "BakeryPlan", name := "shelfMinutes", desc := "(I)I" } : Jvm.MethodName)) ∈ lw_all := lw_g (lw_at lw_m7 70 rfl) rfl
theorem q1633 : (Jvm.Cond.selects "BakeryPlan" ({ cls := "BakeryPlan", name := "shelfMinutes", desc := "(I)I" } : Jvm.MethodName) ({ cls := "BakeryPlan", name := "shelfMinutes", desc := "(I)I" } : Jvm.MethodName)) ∈ lw_all := lw_g (lw_at lw_m7 71 rfl) rfl
theorem q1634 : (Jvm.Cond.code ({ cls := "BakeryPlan", name := "shelfMinutes", desc := "(I)I" } : Jvm.MethodName) prog_1_method_33_code (2 : Nat) (Option.some Jvm.ClassFile.FieldType.int)) ∈ lw_all := lw_g (lw_at lw_m7 72 rfl) rfl
theorem q1639 : (Jvm.Cond.instanceMethod ({ cls := "BakeryPlan", name := "age", desc := "(I)D" } : Jvm.MethodName)) ∈ lw_all := lw_g (lw_at lw_m7 77 rfl) rfl
theorem q1640 : (Jvm.Cond.selects "BakeryPlan" ({ cls := "BakeryPlan", name := "age", desc := "(I)D" } : Jvm.MethodName) ({ cls := "BakeryPlan", name := "age", desc := "(I)D" } : Jvm.MethodName)) ∈ lw_all := lw_g (lw_at lw_m7 78 rfl) rfl
theorem q1641 : (Jvm.Cond.code ({ cls := "BakeryPlan", name := "age", desc := "(I)D" } : Jvm.MethodName) prog_1_method_34_code (3 : Nat) (Option.some Jvm.ClassFile.FieldType.double)) ∈ lw_all := lw_g (lw_at lw_m7 79 rfl) rfl
theorem q1642 : (Jvm.Cond.constantDouble "BakeryPlan" (202 : Nat) (13830554455654793216 : UInt64)) ∈ lw_all := lw_g (lw_at lw_m7 80 rfl) rfl
theorem q1647 : (Jvm.Cond.instanceMethod ({ cls := "BakeryPlan", name := "count", desc := "(I)I" } : Jvm.MethodName)) ∈ lw_all := lw_g (lw_at lw_m7 85 rfl) rfl
theorem q1648 : (Jvm.Cond.selects "BakeryPlan" ({ cls := "BakeryPlan", name := "count", desc := "(I)I" } : Jvm.MethodName) ({ cls := "BakeryPlan", name := "count", desc := "(I)I" } : Jvm.MethodName)) ∈ lw_all := lw_g (lw_at lw_m7 86 rfl) rfl
theorem q1649 : (Jvm.Cond.code ({ cls := "BakeryPlan", name := "count", desc := "(I)I" } : Jvm.MethodName) prog_1_method_35_code (2 : Nat) (Option.some Jvm.ClassFile.FieldType.int)) ∈ lw_all := lw_g (lw_at lw_m7 87 rfl) rfl
theorem q1650 : (Jvm.Cond.constantLong "BakeryPlan" (204 : Nat) (3 : Int64)) ∈ lw_all := lw_g (lw_at lw_m7 88 rfl) rfl
theorem q1651 : (Jvm.Cond.methodLink "BakeryPlan" (206 : Nat) ({ cls := "BakeryPlan$Day", name := "countOf", desc := "(I)I" } : Jvm.MethodName)) ∈ lw_all := lw_g (lw_at lw_m7 89 rfl) rfl
theorem q1656 : (Jvm.Cond.instanceMethod ({ cls := "BakeryPlan", name := "utilization", desc := "(I)D" } : Jvm.MethodName)) ∈ lw_all := lw_g (lw_at lw_m7 94 rfl) rfl
theorem q1657 : (Jvm.Cond.selects "BakeryPlan" ({ cls := "BakeryPlan", name := "utilization", desc := "(I)D" } : Jvm.MethodName) ({ cls := "BakeryPlan", name := "utilization", desc := "(I)D" } : Jvm.MethodName)) ∈ lw_all := lw_g (lw_at lw_m7 95 rfl) rfl
theorem q1658 : (Jvm.Cond.code ({ cls := "BakeryPlan", name := "utilization", desc := "(I)D" } : Jvm.MethodName) prog_1_method_41_code (2 : Nat) (Option.some Jvm.ClassFile.FieldType.double)) ∈ lw_all := lw_g (lw_at lw_m7 96 rfl) rfl
theorem q1659 : (Jvm.Cond.methodLink "BakeryPlan" (218 : Nat) ({ cls := "BakeryPlan", name := "requireDeck", desc := "(I)V" } : Jvm.MethodName)) ∈ lw_all := lw_g (lw_at lw_m7 97 rfl) rfl
theorem q1660 : (Jvm.Cond.privateMethod ({ cls := "BakeryPlan", name := "requireDeck", desc := "(I)V" } : Jvm.MethodName)) ∈ lw_tbl := lw_at lw_m7 98 rfl
theorem q1661 : (Jvm.Cond.instanceMethod ({ cls := "BakeryPlan", name := "requireDeck", desc := "(I)V" } : Jvm.MethodName)) ∈ lw_all := lw_g (lw_at lw_m7 99 rfl) rfl
theorem q1662 : (Jvm.Cond.code ({ cls := "BakeryPlan", name := "requireDeck", desc := "(I)V" } : Jvm.MethodName) prog_1_method_39_code (2 : Nat) (Option.none : Option Jvm.ClassFile.FieldType)) ∈ lw_all := lw_g (lw_at lw_m7 100 rfl) rfl
theorem q1663 : (Jvm.Cond.constantDouble "BakeryPlan" (224 : Nat) (4654048002422341632 : UInt64)) ∈ lw_all := lw_g (lw_at lw_m7 101 rfl) rfl
theorem q1668 : (Jvm.Cond.instanceMethod ({ cls := "BakeryPlan", name := "begunBy", desc := "(I)I" } : Jvm.MethodName)) ∈ lw_all := lw_g (lw_at lw_m7 106 rfl) rfl
theorem q1669 : (Jvm.Cond.selects "BakeryPlan" ({ cls := "BakeryPlan", name := "begunBy", desc := "(I)I" } : Jvm.MethodName) ({ cls := "BakeryPlan", name := "begunBy", desc := "(I)I" } : Jvm.MethodName)) ∈ lw_all := lw_g (lw_at lw_m7 107 rfl) rfl
theorem q1670 : (Jvm.Cond.code ({ cls := "BakeryPlan", name := "begunBy", desc := "(I)I" } : Jvm.MethodName) prog_1_method_42_code (2 : Nat) (Option.some Jvm.ClassFile.FieldType.int)) ∈ lw_all := lw_g (lw_at lw_m7 108 rfl) rfl
theorem q1675 : (Jvm.Cond.instanceMethod ({ cls := "BakeryPlan", name := "temperature", desc := "(II)I" } : Jvm.MethodName)) ∈ lw_all := lw_g (lw_at lw_m7 113 rfl) rfl
theorem q1676 : (Jvm.Cond.selects "BakeryPlan" ({ cls := "BakeryPlan", name := "temperature", desc := "(II)I" } : Jvm.MethodName) ({ cls := "BakeryPlan", name := "temperature", desc := "(II)I" } : Jvm.MethodName)) ∈ lw_all := lw_g (lw_at lw_m7 114 rfl) rfl
theorem q1677 : (Jvm.Cond.code ({ cls := "BakeryPlan", name := "temperature", desc := "(II)I" } : Jvm.MethodName) prog_1_method_43_code (3 : Nat) (Option.some Jvm.ClassFile.FieldType.int)) ∈ lw_all := lw_g (lw_at lw_m7 115 rfl) rfl
theorem q1678 : (Jvm.Cond.methodLink "BakeryPlan" (229 : Nat) ({ cls := "BakeryPlan", name := "requireMinute", desc := "(I)V" } : Jvm.MethodName)) ∈ lw_all := lw_g (lw_at lw_m7 116 rfl) rfl
theorem q1679 : (Jvm.Cond.static ({ cls := "BakeryPlan", name := "requireMinute", desc := "(I)V" } : Jvm.MethodName)) ∈ lw_all := lw_g (lw_at lw_m7 117 rfl) rfl
theorem q1680 : (Jvm.Cond.code ({ cls := "BakeryPlan", name := "requireMinute", desc := "(I)V" } : Jvm.MethodName) prog_1_method_40_code (1 : Nat) (Option.none : Option Jvm.ClassFile.FieldType)) ∈ lw_all := lw_g (lw_at lw_m7 118 rfl) rfl
theorem q1685 : (Jvm.Cond.instanceMethod ({ cls := "BakeryPlan", name := "baking", desc := "(II)I" } : Jvm.MethodName)) ∈ lw_all := lw_g (lw_at lw_m7 123 rfl) rfl
theorem q1686 : (Jvm.Cond.selects "BakeryPlan" ({ cls := "BakeryPlan", name := "baking", desc := "(II)I" } : Jvm.MethodName) ({ cls := "BakeryPlan", name := "baking", desc := "(II)I" } : Jvm.MethodName)) ∈ lw_all := lw_g (lw_at lw_m7 124 rfl) rfl
theorem q1687 : (Jvm.Cond.code ({ cls := "BakeryPlan", name := "baking", desc := "(II)I" } : Jvm.MethodName) prog_1_method_44_code (4 : Nat) (Option.some Jvm.ClassFile.FieldType.int)) ∈ lw_all := lw_g (lw_at lw_m7 125 rfl) rfl
theorem q1688 : (Jvm.Cond.methodLink "BakeryPlan" (235 : Nat) ({ cls := "BakeryPlan$Day", name := "isBaking", desc := "(I)Z" } : Jvm.MethodName)) ∈ lw_all := lw_g (lw_at lw_m7 126 rfl) rfl
theorem q1693 : (Jvm.Cond.instanceMethod ({ cls := "BakeryPlan", name := "inRoom", desc := "(I)I" } : Jvm.MethodName)) ∈ lw_all := lw_g (lw_at lw_m7 131 rfl) rfl
theorem q1694 : (Jvm.Cond.selects "BakeryPlan" ({ cls := "BakeryPlan", name := "inRoom", desc := "(I)I" } : Jvm.MethodName) ({ cls := "BakeryPlan", name := "inRoom", desc := "(I)I" } : Jvm.MethodName)) ∈ lw_all := lw_g (lw_at lw_m7 132 rfl) rfl
theorem q1695 : (Jvm.Cond.code ({ cls := "BakeryPlan", name := "inRoom", desc := "(I)I" } : Jvm.MethodName) prog_1_method_45_code (2 : Nat) (Option.some Jvm.ClassFile.FieldType.int)) ∈ lw_all := lw_g (lw_at lw_m7 133 rfl) rfl
theorem q1696 : (Jvm.Cond.methodLink "BakeryPlan" (242 : Nat) ({ cls := "BakeryPlan$Day", name := "inRoom", desc := "()I" } : Jvm.MethodName)) ∈ lw_all := lw_g (lw_at lw_m7 134 rfl) rfl
theorem q1704 : (Jvm.Cond.instanceMethod ({ cls := "BakeryPlan", name := "onShelves", desc := "(I)I" } : Jvm.MethodName)) ∈ lw_all := lw_g (lw_at lw_m7 142 rfl) rfl
theorem q1705 : (Jvm.Cond.selects "BakeryPlan" ({ cls := "BakeryPlan", name := "onShelves", desc := "(I)I" } : Jvm.MethodName) ({ cls := "BakeryPlan", name := "onShelves", desc := "(I)I" } : Jvm.MethodName)) ∈ lw_all := lw_g (lw_at lw_m7 143 rfl) rfl
theorem q1706 : (Jvm.Cond.code ({ cls := "BakeryPlan", name := "onShelves", desc := "(I)I" } : Jvm.MethodName) prog_1_method_46_code (2 : Nat) (Option.some Jvm.ClassFile.FieldType.int)) ∈ lw_all := lw_g (lw_at lw_m7 144 rfl) rfl
theorem q1707 : (Jvm.Cond.methodLink "BakeryPlan" (245 : Nat) ({ cls := "BakeryPlan$Day", name := "shelved", desc := "()I" } : Jvm.MethodName)) ∈ lw_all := lw_g (lw_at lw_m7 145 rfl) rfl
theorem q1712 : (Jvm.Cond.instanceMethod ({ cls := "BakeryPlan", name := "needed", desc := "(I)I" } : Jvm.MethodName)) ∈ lw_all := lw_g (lw_at lw_m7 150 rfl) rfl
theorem q1713 : (Jvm.Cond.selects "BakeryPlan" ({ cls := "BakeryPlan", name := "needed", desc := "(I)I" } : Jvm.MethodName) ({ cls := "BakeryPlan", name := "needed", desc := "(I)I" } : Jvm.MethodName)) ∈ lw_all := lw_g (lw_at lw_m7 151 rfl) rfl
theorem q1714 : (Jvm.Cond.code ({ cls := "BakeryPlan", name := "needed", desc := "(I)I" } : Jvm.MethodName) prog_1_method_48_code (4 : Nat) (Option.some Jvm.ClassFile.FieldType.int)) ∈ lw_all := lw_g (lw_at lw_m7 152 rfl) rfl
theorem q1715 : (Jvm.Cond.methodLink "BakeryPlan" (254 : Nat) ({ cls := "BakeryPlan", name := "least", desc := "(I)I" } : Jvm.MethodName)) ∈ lw_all := lw_g (lw_at lw_m7 153 rfl) rfl
theorem q1716 : (Jvm.Cond.methodLink "BakeryPlan" (257 : Nat) ({ cls := "BakeryPlan", name := "most", desc := "(I)I" } : Jvm.MethodName)) ∈ lw_all := lw_g (lw_at lw_m7 154 rfl) rfl
theorem q1721 : (Jvm.Cond.instanceMethod ({ cls := "BakeryPlan", name := "slack", desc := "(II)I" } : Jvm.MethodName)) ∈ lw_all := lw_g (lw_at lw_m7 159 rfl) rfl
theorem q1722 : (Jvm.Cond.selects "BakeryPlan" ({ cls := "BakeryPlan", name := "slack", desc := "(II)I" } : Jvm.MethodName) ({ cls := "BakeryPlan", name := "slack", desc := "(II)I" } : Jvm.MethodName)) ∈ lw_all := lw_g (lw_at lw_m7 160 rfl) rfl
theorem q1723 : (Jvm.Cond.code ({ cls := "BakeryPlan", name := "slack", desc := "(II)I" } : Jvm.MethodName) prog_1_method_49_code (6 : Nat) (Option.some Jvm.ClassFile.FieldType.int)) ∈ lw_all := lw_g (lw_at lw_m7 161 rfl) rfl
theorem q1724 : (Jvm.Cond.constantLong "BakeryPlan" (260 : Nat) (120 : Int64)) ∈ lw_all := lw_g (lw_at lw_m7 162 rfl) rfl
theorem q1725 : (Jvm.Cond.methodLink "BakeryPlan" (262 : Nat) ({ cls := "java/lang/Math", name := "min", desc := "(II)I" } : Jvm.MethodName)) ∈ lw_all := lw_g (lw_at lw_m7 163 rfl) rfl
theorem q1726 : (Jvm.Cond.methodLink "BakeryPlan" (268 : Nat) ({ cls := "BakeryPlan$Day", name := "isDone", desc := "(LBakeryPlan$Plan;I)Z" } : Jvm.MethodName)) ∈ lw_all := lw_g (lw_at lw_m7 164 rfl) rfl
theorem q1734 : (Jvm.Cond.instanceMethod ({ cls := "BakeryPlan", name := "addBatch", desc := "(III)I" } : Jvm.MethodName)) ∈ lw_all := lw_g (lw_at lw_m7 172 rfl) rfl
theorem q1735 : (Jvm.Cond.selects "BakeryPlan" ({ cls := "BakeryPlan", name := "addBatch", desc := "(III)I" } : Jvm.MethodName) ({ cls := "BakeryPlan", name := "addBatch", desc := "(III)I" } : Jvm.MethodName)) ∈ lw_all := lw_g (lw_at lw_m7 173 rfl) rfl
theorem q1736 : (Jvm.Cond.code ({ cls := "BakeryPlan", name := "addBatch", desc := "(III)I" } : Jvm.MethodName) prog_1_method_52_code (4 : Nat) (Option.some Jvm.ClassFile.FieldType.int)) ∈ lw_all := lw_g (lw_at lw_m7 174 rfl) rfl
theorem q1737 : (Jvm.Cond.methodLink "BakeryPlan" (274 : Nat) ({ cls := "BakeryPlan", name := "requireStart", desc := "(I)V" } : Jvm.MethodName)) ∈ lw_all := lw_g (lw_at lw_m7 175 rfl) rfl
theorem q1738 : (Jvm.Cond.static ({ cls := "BakeryPlan", name := "requireStart", desc := "(I)V" } : Jvm.MethodName)) ∈ lw_all := lw_g (lw_at lw_m7 176 rfl) rfl
theorem q1739 : (Jvm.Cond.code ({ cls := "BakeryPlan", name := "requireStart", desc := "(I)V" } : Jvm.MethodName) prog_1_method_51_code (1 : Nat) (Option.none : Option Jvm.ClassFile.FieldType)) ∈ lw_all := lw_g (lw_at lw_m7 177 rfl) rfl
theorem q1740 : (Jvm.Cond.constantLong "BakeryPlan" (272 : Nat) (999 : Int64)) ∈ lw_all := lw_g (lw_at lw_m7 178 rfl) rfl
theorem q1741 : (Jvm.Cond.methodLink "BakeryPlan" (277 : Nat) ({ cls := "BakeryPlan", name := "remember", desc := "()V" } : Jvm.MethodName)) ∈ lw_all := lw_g (lw_at lw_m7 179 rfl) rfl
theorem q1742 : (Jvm.Cond.privateMethod ({ cls := "BakeryPlan", name := "remember", desc := "()V" } : Jvm.MethodName)) ∈ lw_tbl := lw_at lw_m7 180 rfl
theorem q1743 : (Jvm.Cond.instanceMethod ({ cls := "BakeryPlan", name := "remember", desc := "()V" } : Jvm.MethodName)) ∈ lw_all := lw_g (lw_at lw_m7 181 rfl) rfl
theorem q1744 : (Jvm.Cond.code ({ cls := "BakeryPlan", name := "remember", desc := "()V" } : Jvm.MethodName) prog_1_method_8_code (1 : Nat) (Option.none : Option Jvm.ClassFile.FieldType)) ∈ lw_all := lw_g (lw_at lw_m7 182 rfl) rfl
theorem q1745 : (Jvm.Cond.methodLink "BakeryPlan" (66 : Nat) ({ cls := "java/util/ArrayDeque", name := "size", desc := "()I" } : Jvm.MethodName)) ∈ lw_all := lw_g (lw_at lw_m7 183 rfl) rfl
theorem q1752 : (Jvm.Cond.methodLink "BakeryPlan" (70 : Nat) ({ cls := "java/util/ArrayDeque", name := "removeFirst", desc := "()Ljava/lang/Object;" } : Jvm.MethodName)) ∈ lw_all := lw_g (lw_at lw_m7 190 rfl) rfl
theorem q1766 : (Jvm.Cond.methodLink "BakeryPlan" (78 : Nat) ({ cls := "java/util/ArrayDeque", name := "addLast", desc := "(Ljava/lang/Object;)V" } : Jvm.MethodName)) ∈ lw_all := lw_g (lw_at lw_m7 204 rfl) rfl
theorem q1788 : (Jvm.Cond.methodLink "BakeryPlan" (280 : Nat) ({ cls := "BakeryPlan$Batch", name := "<init>", desc := "(III)V" } : Jvm.MethodName)) ∈ lw_all := lw_g (lw_at lw_m7 226 rfl) rfl
theorem q1789 : (Jvm.Cond.methodLink "BakeryPlan" (283 : Nat) ({ cls := "java/util/ArrayList", name := "add", desc := "(Ljava/lang/Object;)Z" } : Jvm.MethodName)) ∈ lw_all := lw_g (lw_at lw_m7 227 rfl) rfl
theorem q1794 : (Jvm.Cond.instanceMethod ({ cls := "BakeryPlan", name := "removeBatch", desc := "(I)I" } : Jvm.MethodName)) ∈ lw_all := lw_g (lw_at lw_m7 232 rfl) rfl
theorem q1795 : (Jvm.Cond.selects "BakeryPlan" ({ cls := "BakeryPlan", name := "removeBatch", desc := "(I)I" } : Jvm.MethodName) ({ cls := "BakeryPlan", name := "removeBatch", desc := "(I)I" } : Jvm.MethodName)) ∈ lw_all := lw_g (lw_at lw_m7 233 rfl) rfl
theorem q1796 : (Jvm.Cond.code ({ cls := "BakeryPlan", name := "removeBatch", desc := "(I)I" } : Jvm.MethodName) prog_1_method_53_code (4 : Nat) (Option.some Jvm.ClassFile.FieldType.int)) ∈ lw_all := lw_g (lw_at lw_m7 234 rfl) rfl
theorem q1797 : (Jvm.Cond.methodLink "BakeryPlan" (287 : Nat) ({ cls := "java/util/ArrayList", name := "remove", desc := "(I)Ljava/lang/Object;" } : Jvm.MethodName)) ∈ lw_all := lw_g (lw_at lw_m7 235 rfl) rfl
theorem q1802 : (Jvm.Cond.instanceMethod ({ cls := "BakeryPlan", name := "moveBatch", desc := "(II)I" } : Jvm.MethodName)) ∈ lw_all := lw_g (lw_at lw_m8 0 rfl) rfl
theorem q1803 : (Jvm.Cond.selects "BakeryPlan" ({ cls := "BakeryPlan", name := "moveBatch", desc := "(II)I" } : Jvm.MethodName) ({ cls := "BakeryPlan", name := "moveBatch", desc := "(II)I" } : Jvm.MethodName)) ∈ lw_all := lw_g (lw_at lw_m8 1 rfl) rfl
theorem q1804 : (Jvm.Cond.code ({ cls := "BakeryPlan", name := "moveBatch", desc := "(II)I" } : Jvm.MethodName) prog_1_method_54_code (5 : Nat) (Option.some Jvm.ClassFile.FieldType.int)) ∈ lw_all := lw_g (lw_at lw_m8 2 rfl) rfl
theorem q1805 : (Jvm.Cond.methodLink "BakeryPlan" (290 : Nat) ({ cls := "java/util/ArrayList", name := "add", desc := "(ILjava/lang/Object;)V" } : Jvm.MethodName)) ∈ lw_all := lw_g (lw_at lw_m8 3 rfl) rfl
theorem q1806 : (Jvm.Cond.methodLink "BakeryPlan" (293 : Nat) ({ cls := "java/lang/Math", name := "abs", desc := "(I)I" } : Jvm.MethodName)) ∈ lw_all := lw_g (lw_at lw_m8 4 rfl) rfl
theorem q1811 : (Jvm.Cond.instanceMethod ({ cls := "BakeryPlan", name := "setStart", desc := "(II)I" } : Jvm.MethodName)) ∈ lw_all := lw_g (lw_at lw_m8 9 rfl) rfl
theorem q1812 : (Jvm.Cond.selects "BakeryPlan" ({ cls := "BakeryPlan", name := "setStart", desc := "(II)I" } : Jvm.MethodName) ({ cls := "BakeryPlan", name := "setStart", desc := "(II)I" } : Jvm.MethodName)) ∈ lw_all := lw_g (lw_at lw_m8 10 rfl) rfl
theorem q1813 : (Jvm.Cond.code ({ cls := "BakeryPlan", name := "setStart", desc := "(II)I" } : Jvm.MethodName) prog_1_method_55_code (5 : Nat) (Option.some Jvm.ClassFile.FieldType.int)) ∈ lw_all := lw_g (lw_at lw_m8 11 rfl) rfl
theorem q1818 : (Jvm.Cond.instanceMethod ({ cls := "BakeryPlan", name := "setWave", desc := "(II)I" } : Jvm.MethodName)) ∈ lw_all := lw_g (lw_at lw_m8 16 rfl) rfl
theorem q1819 : (Jvm.Cond.selects "BakeryPlan" ({ cls := "BakeryPlan", name := "setWave", desc := "(II)I" } : Jvm.MethodName) ({ cls := "BakeryPlan", name := "setWave", desc := "(II)I" } : Jvm.MethodName)) ∈ lw_all := lw_g (lw_at lw_m8 17 rfl) rfl
theorem q1820 : (Jvm.Cond.code ({ cls := "BakeryPlan", name := "setWave", desc := "(II)I" } : Jvm.MethodName) prog_1_method_56_code (5 : Nat) (Option.some Jvm.ClassFile.FieldType.int)) ∈ lw_all := lw_g (lw_at lw_m8 18 rfl) rfl
theorem q1825 : (Jvm.Cond.instanceMethod ({ cls := "BakeryPlan", name := "setSetting", desc := "(II)I" } : Jvm.MethodName)) ∈ lw_all := lw_g (lw_at lw_m8 23 rfl) rfl
theorem q1826 : (Jvm.Cond.selects "BakeryPlan" ({ cls := "BakeryPlan", name := "setSetting", desc := "(II)I" } : Jvm.MethodName) ({ cls := "BakeryPlan", name := "setSetting", desc := "(II)I" } : Jvm.MethodName)) ∈ lw_all := lw_g (lw_at lw_m8 24 rfl) rfl
theorem q1827 : (Jvm.Cond.code ({ cls := "BakeryPlan", name := "setSetting", desc := "(II)I" } : Jvm.MethodName) prog_1_method_57_code (4 : Nat) (Option.some Jvm.ClassFile.FieldType.int)) ∈ lw_all := lw_g (lw_at lw_m8 25 rfl) rfl
theorem q1832 : (Jvm.Cond.instanceMethod ({ cls := "BakeryPlan", name := "setPolicy", desc := "(I)I" } : Jvm.MethodName)) ∈ lw_all := lw_g (lw_at lw_m8 30 rfl) rfl
theorem q1833 : (Jvm.Cond.selects "BakeryPlan" ({ cls := "BakeryPlan", name := "setPolicy", desc := "(I)I" } : Jvm.MethodName) ({ cls := "BakeryPlan", name := "setPolicy", desc := "(I)I" } : Jvm.MethodName)) ∈ lw_all := lw_g (lw_at lw_m8 31 rfl) rfl
theorem q1834 : (Jvm.Cond.code ({ cls := "BakeryPlan", name := "setPolicy", desc := "(I)I" } : Jvm.MethodName) prog_1_method_58_code (3 : Nat) (Option.some Jvm.ClassFile.FieldType.int)) ∈ lw_all := lw_g (lw_at lw_m8 32 rfl) rfl
theorem q1835 : (Jvm.Cond.constantLong "BakeryPlan" (296 : Nat) (2 : Int64)) ∈ lw_all := lw_g (lw_at lw_m8 33 rfl) rfl
theorem q1840 : (Jvm.Cond.instanceMethod ({ cls := "BakeryPlan", name := "undo", desc := "()I" } : Jvm.MethodName)) ∈ lw_all := lw_g (lw_at lw_m8 38 rfl) rfl
theorem q1841 : (Jvm.Cond.selects "BakeryPlan" ({ cls := "BakeryPlan", name := "undo", desc := "()I" } : Jvm.MethodName) ({ cls := "BakeryPlan", name := "undo", desc := "()I" } : Jvm.MethodName)) ∈ lw_all := lw_g (lw_at lw_m8 39 rfl) rfl
theorem q1842 : (Jvm.Cond.code ({ cls := "BakeryPlan", name := "undo", desc := "()I" } : Jvm.MethodName) prog_1_method_59_code (1 : Nat) (Option.some Jvm.ClassFile.FieldType.int)) ∈ lw_all := lw_g (lw_at lw_m8 40 rfl) rfl
theorem q1843 : (Jvm.Cond.methodLink "BakeryPlan" (298 : Nat) ({ cls := "java/util/ArrayDeque", name := "isEmpty", desc := "()Z" } : Jvm.MethodName)) ∈ lw_all := lw_g (lw_at lw_m8 41 rfl) rfl
theorem q1847 : (Jvm.Cond.methodLink "BakeryPlan" (302 : Nat) ({ cls := "java/util/ArrayDeque", name := "removeLast", desc := "()Ljava/lang/Object;" } : Jvm.MethodName)) ∈ lw_all := lw_g (lw_at lw_m8 45 rfl) rfl
theorem q1862 : (Jvm.Cond.instanceMethod ({ cls := "BakeryPlan", name := "format", desc := "(I)I" } : Jvm.MethodName)) ∈ lw_all := lw_g (lw_at lw_m8 60 rfl) rfl
theorem q1863 : (Jvm.Cond.selects "BakeryPlan" ({ cls := "BakeryPlan", name := "format", desc := "(I)I" } : Jvm.MethodName) ({ cls := "BakeryPlan", name := "format", desc := "(I)I" } : Jvm.MethodName)) ∈ lw_all := lw_g (lw_at lw_m8 61 rfl) rfl
theorem q1864 : (Jvm.Cond.code ({ cls := "BakeryPlan", name := "format", desc := "(I)I" } : Jvm.MethodName) prog_1_method_61_code (3 : Nat) (Option.some Jvm.ClassFile.FieldType.int)) ∈ lw_all := lw_g (lw_at lw_m8 62 rfl) rfl
theorem q1865 : (Jvm.Cond.methodLink "BakeryPlan" (313 : Nat) ({ cls := "BakeryPlan$Plan", name := "productOf", desc := "(I)LBakeryPlan$Product;" } : Jvm.MethodName)) ∈ lw_all := lw_g (lw_at lw_m8 63 rfl) rfl
theorem q1866 : (Jvm.Cond.classLink "BakeryPlan" (322 : Nat) "java/lang/StringBuilder") ∈ lw_all := lw_g (lw_at lw_m8 64 rfl) rfl
theorem q1867 : (Jvm.Cond.methodLink "BakeryPlan" (324 : Nat) ({ cls := "java/lang/StringBuilder", name := "<init>", desc := "()V" } : Jvm.MethodName)) ∈ lw_all := lw_g (lw_at lw_m8 65 rfl) rfl
theorem q1868 : (Jvm.Cond.methodLink "BakeryPlan" (325 : Nat) ({ cls := "java/lang/StringBuilder", name := "append", desc := "(Ljava/lang/String;)Ljava/lang/StringBuilder;" } : Jvm.MethodName)) ∈ lw_all := lw_g (lw_at lw_m8 66 rfl) rfl
theorem q1869 : (Jvm.Cond.stringRef "BakeryPlan" (329 : Nat) " m") ∈ lw_tbl := lw_at lw_m8 67 rfl
theorem q1870 : (Jvm.Cond.methodLink "BakeryPlan" (331 : Nat) ({ cls := "java/lang/StringBuilder", name := "append", desc := "(I)Ljava/lang/StringBuilder;" } : Jvm.MethodName)) ∈ lw_all := lw_g (lw_at lw_m8 68 rfl) rfl
theorem q1871 : (Jvm.Cond.stringRef "BakeryPlan" (334 : Nat) "@") ∈ lw_tbl := lw_at lw_m8 69 rfl
theorem q1872 : (Jvm.Cond.methodLink "BakeryPlan" (336 : Nat) ({ cls := "java/lang/StringBuilder", name := "toString", desc := "()Ljava/lang/String;" } : Jvm.MethodName)) ∈ lw_all := lw_g (lw_at lw_m8 70 rfl) rfl
theorem q1873 : (Jvm.Cond.stringRef "BakeryPlan" (340 : Nat) " d") ∈ lw_tbl := lw_at lw_m8 71 rfl
theorem q1874 : (Jvm.Cond.stringRef "BakeryPlan" (342 : Nat) " ") ∈ lw_tbl := lw_at lw_m8 72 rfl
theorem q1875 : (Jvm.Cond.methodLink "BakeryPlan" (344 : Nat) ({ cls := "BakeryPlan", name := "word", desc := "(I)Ljava/lang/String;" } : Jvm.MethodName)) ∈ lw_all := lw_g (lw_at lw_m8 73 rfl) rfl
theorem q1876 : (Jvm.Cond.static ({ cls := "BakeryPlan", name := "word", desc := "(I)Ljava/lang/String;" } : Jvm.MethodName)) ∈ lw_all := lw_g (lw_at lw_m8 74 rfl) rfl
theorem q1877 : (Jvm.Cond.code ({ cls := "BakeryPlan", name := "word", desc := "(I)Ljava/lang/String;" } : Jvm.MethodName) prog_1_method_60_code (1 : Nat) (Option.some (Jvm.ClassFile.FieldType.object "java/lang/String"))) ∈ lw_all := lw_g (lw_at lw_m8 75 rfl) rfl
theorem q1878 : (Jvm.Cond.stringRef "BakeryPlan" (305 : Nat) "open") ∈ lw_tbl := lw_at lw_m8 76 rfl
theorem q1879 : (Jvm.Cond.stringRef "BakeryPlan" (307 : Nat) "done") ∈ lw_tbl := lw_at lw_m8 77 rfl
theorem q1880 : (Jvm.Cond.stringRef "BakeryPlan" (309 : Nat) "late") ∈ lw_tbl := lw_at lw_m8 78 rfl
theorem q1881 : (Jvm.Cond.stringRef "BakeryPlan" (311 : Nat) "lost") ∈ lw_tbl := lw_at lw_m8 79 rfl
theorem q1882 : (Jvm.Cond.methodLink "BakeryPlan" (348 : Nat) ({ cls := "java/lang/String", name := "length", desc := "()I" } : Jvm.MethodName)) ∈ lw_all := lw_g (lw_at lw_m8 80 rfl) rfl
theorem q1887 : (Jvm.Cond.instanceMethod ({ cls := "BakeryPlan", name := "formattedCharacter", desc := "(I)C" } : Jvm.MethodName)) ∈ lw_all := lw_g (lw_at lw_m8 85 rfl) rfl
theorem q1888 : (Jvm.Cond.selects "BakeryPlan" ({ cls := "BakeryPlan", name := "formattedCharacter", desc := "(I)C" } : Jvm.MethodName) ({ cls := "BakeryPlan", name := "formattedCharacter", desc := "(I)C" } : Jvm.MethodName)) ∈ lw_all := lw_g (lw_at lw_m8 86 rfl) rfl
theorem q1889 : (Jvm.Cond.code ({ cls := "BakeryPlan", name := "formattedCharacter", desc := "(I)C" } : Jvm.MethodName) prog_1_method_62_code (2 : Nat) (Option.some Jvm.ClassFile.FieldType.char)) ∈ lw_all := lw_g (lw_at lw_m8 87 rfl) rfl
theorem q1890 : (Jvm.Cond.methodLink "BakeryPlan" (352 : Nat) ({ cls := "java/lang/String", name := "charAt", desc := "(I)C" } : Jvm.MethodName)) ∈ lw_all := lw_g (lw_at lw_m8 88 rfl) rfl
theorem q2668 : (Jvm.Cond.castable "BakeryPlan" "java/lang/Object") ∈ lw_tbl := lw_at lw_m11 146 rfl
theorem in_X1 : ∀ w ∈ wsX10, w ∈ lw_all := lw_in wsX10 [706, 708, 710, 712, 714, 716, 718] (by decide +kernel) (by decide +kernel)
