/-! BakeryPlanModel -/
set_option maxRecDepth 100000
def RX8 : String := "BakeryPlanModel"
def TX8 : u_T := fun k => match k with
  | 0 => ("BakeryPlanModel", "thrown", "I", false)
  | 1 => ("BakeryPlanModel", "rows", "[I", true)
  | 2 => ("BakeryPlanModel", "at", "I", false)
  | 3 => ("BakeryPlanModel", "edits", "I", false)
  | 4 => ("BakeryPlanModel", "firstEdit", "I", false)
  | 5 => ("BakeryPlanModel", "products", "I", false)
  | 6 => ("BakeryPlanModel", "dough", "[I", true)
  | 7 => ("BakeryPlanModel", "mix", "[I", true)
  | 8 => ("BakeryPlanModel", "proof", "[I", true)
  | 9 => ("BakeryPlanModel", "window", "[I", true)
  | 10 => ("BakeryPlanModel", "bake", "[I", true)
  | 11 => ("BakeryPlanModel", "heat", "[I", true)
  | 12 => ("BakeryPlanModel", "names", "[J", true)
  | 13 => ("BakeryPlanModel", "waves", "I", false)
  | 14 => ("BakeryPlanModel", "minutes", "[I", true)
  | 15 => ("BakeryPlanModel", "buffer", "[B", true)
  | 16 => ("BakeryPlanModel", "buffered", "I", false)
  | 17 => ("BakeryPlanModel", "errorOffset", "I", false)
  | 18 => ("BakeryPlanModel", "formatted", "[C", true)
  | 19 => ("BakeryPlanModel", "formattedLength", "I", false)
  | 20 => ("BakeryPlanModel", "textLength", "I", false)
  | 21 => ("BakeryPlanModel", "next", "I", false)
  | 22 => ("BakeryPlanModel", "tokenAt", "I", false)
  | 23 => ("BakeryPlanModel", "token", "I", false)
  | 24 => ("BakeryPlanModel", "number", "I", false)
  | 25 => ("BakeryPlanModel", "word", "J", false)
  | 26 => ("BakeryPlanModel", "wrongAt", "I", false)
  | 27 => ("BakeryPlanModel", "newProducts", "I", false)
  | 28 => ("BakeryPlanModel", "newWaves", "I", false)
  | 29 => ("BakeryPlanModel", "newNumbers", "[I", true)
  | 30 => ("BakeryPlanModel", "newNames", "[J", true)
  | 31 => ("BakeryPlanModel", "newMinutes", "[I", true)
  | 32 => ("BakeryPlanModel", "place", "[I", true)
  | 33 => ("BakeryPlanModel", "parts", "[I", true)
  | 34 => ("BakeryPlanModel", "byMixer", "[I", true)
  | 35 => ("BakeryPlanModel", "mixFrom", "[I", true)
  | 36 => ("BakeryPlanModel", "proofFrom", "[I", true)
  | 37 => ("BakeryPlanModel", "byDeck", "[I", true)
  | 38 => ("BakeryPlanModel", "bakeFrom", "[I", true)
  | 39 => ("BakeryPlanModel", "bakedAt", "[I", true)
  | 40 => ("BakeryPlanModel", "lostIn", "[I", true)
  | 41 => ("BakeryPlanModel", "shelved", "[I", true)
  | 42 => ("BakeryPlanModel", "partsThen", "[I", true)
  | 43 => ("BakeryPlanModel", "mixes", "[I", true)
  | 44 => ("BakeryPlanModel", "mixUntil", "[I", true)
  | 45 => ("BakeryPlanModel", "doughBefore", "[I", true)
  | 46 => ("BakeryPlanModel", "begun", "[I", true)
  | 47 => ("BakeryPlanModel", "reserved", "[I", true)
  | 48 => ("BakeryPlanModel", "bakes", "[I", true)
  | 49 => ("BakeryPlanModel", "bakeUntil", "[I", true)
  | 50 => ("BakeryPlanModel", "degree", "[I", true)
  | 51 => ("BakeryPlanModel", "bakeMinutes", "[I", true)
  | 52 => ("BakeryPlanModel", "cleaned", "I", false)
  | 53 => ("BakeryPlanModel", "changed", "I", false)
  | 54 => ("BakeryPlanModel", "degreeAt", "[I", true)
  | 55 => ("BakeryPlanModel", "bakingAt", "[I", true)
  | 56 => ("BakeryPlanModel", "roomAt", "[I", true)
  | 57 => ("BakeryPlanModel", "shelfAt", "[I", true)
  | 58 => ("BakeryPlanModel", "bestLost", "I", false)
  | 59 => ("BakeryPlanModel", "bestDone", "I", false)
  | _ => ("BakeryPlanModel", "bestLast", "I", false)
def tyX8 : Nat → FieldType := fun k => match k with
  | 0 => .int
  | 1 => .array .int
  | 2 => .int
  | 3 => .int
  | 4 => .int
  | 5 => .int
  | 6 => .array .int
  | 7 => .array .int
  | 8 => .array .int
  | 9 => .array .int
  | 10 => .array .int
  | 11 => .array .int
  | 12 => .array .long
  | 13 => .int
  | 14 => .array .int
  | 15 => .array .byte
  | 16 => .int
  | 17 => .int
  | 18 => .array .char
  | 19 => .int
  | 20 => .int
  | 21 => .int
  | 22 => .int
  | 23 => .int
  | 24 => .int
  | 25 => .long
  | 26 => .int
  | 27 => .int
  | 28 => .int
  | 29 => .array .int
  | 30 => .array .long
  | 31 => .array .int
  | 32 => .array .int
  | 33 => .array .int
  | 34 => .array .int
  | 35 => .array .int
  | 36 => .array .int
  | 37 => .array .int
  | 38 => .array .int
  | 39 => .array .int
  | 40 => .array .int
  | 41 => .array .int
  | 42 => .array .int
  | 43 => .array .int
  | 44 => .array .int
  | 45 => .array .int
  | 46 => .array .int
  | 47 => .array .int
  | 48 => .array .int
  | 49 => .array .int
  | 50 => .array .int
  | 51 => .array .int
  | 52 => .int
  | 53 => .int
  | 54 => .array .int
  | 55 => .array .int
  | 56 => .array .int
  | 57 => .array .int
  | 58 => .int
  | 59 => .int
  | _ => .int
abbrev wsX80 : List Cond := u_ws RX8 TX8 61
set_option maxRecDepth 100000 in
theorem nmX8 : ∀ a, a < 61 → ∀ b, b < 61 → a ≠ b → (TX8 a).2.1 ≠ (TX8 b).2.1 := by decide +kernel
set_option maxRecDepth 100000 in
theorem tyX8_ok : ∀ k, k < 61 → parseFieldDescriptor (TX8 k).2.2.1 = some (tyX8 k) := by decide +kernel
abbrev cX8_init : ByteArray := prog_13_method_1_code
def yX8_init : MethodName := ⟨RX8, "<init>", "()V"⟩
def dkwX8_init_13 : List UInt8 := [181, 0, 127, 42, 182, 0, 131, 42, 182, 0, 134, 177]
abbrev dktX8_init_13 : List UInt8 := dkwX8_init_13 ++ []
def dkwX8_init_12 : List UInt8 := [181, 0, 118, 42, 17, 5, 160, 188, 10, 181, 0, 121, 42, 17, 5, 160, 188, 10, 181, 0, 124, 42, 2]
abbrev dktX8_init_12 : List UInt8 := dkwX8_init_12 ++ dktX8_init_13
def dkwX8_init_11 : List UInt8 := [42, 7, 188, 10, 181, 0, 112, 42, 17, 22, 128, 188, 10, 181, 0, 115, 42, 17, 22, 128, 188, 10]
abbrev dktX8_init_11 : List UInt8 := dkwX8_init_11 ++ dktX8_init_12
def dkwX8_init_10 : List UInt8 := [181, 0, 100, 42, 7, 188, 10, 181, 0, 103, 42, 7, 188, 10, 181, 0, 106, 42, 7, 188, 10, 181, 0, 109]
abbrev dktX8_init_10 : List UInt8 := dkwX8_init_10 ++ dktX8_init_11
def dkwX8_init_9 : List UInt8 := [188, 10, 181, 0, 91, 42, 6, 188, 10, 181, 0, 94, 42, 6, 188, 10, 181, 0, 97, 42, 7, 188, 10]
abbrev dktX8_init_9 : List UInt8 := dkwX8_init_9 ++ dktX8_init_10
def dkwX8_init_8 : List UInt8 := [16, 20, 188, 10, 181, 0, 82, 42, 16, 20, 188, 10, 181, 0, 85, 42, 6, 188, 10, 181, 0, 88, 42, 6]
abbrev dktX8_init_8 : List UInt8 := dkwX8_init_8 ++ dktX8_init_9
def dkwX8_init_7 : List UInt8 := [16, 20, 188, 10, 181, 0, 73, 42, 16, 20, 188, 10, 181, 0, 76, 42, 16, 20, 188, 10, 181, 0, 79, 42]
abbrev dktX8_init_7 : List UInt8 := dkwX8_init_7 ++ dktX8_init_8
def dkwX8_init_6 : List UInt8 := [16, 20, 188, 10, 181, 0, 64, 42, 16, 20, 188, 10, 181, 0, 67, 42, 16, 20, 188, 10, 181, 0, 70, 42]
abbrev dktX8_init_6 : List UInt8 := dkwX8_init_6 ++ dktX8_init_7
def dkwX8_init_5 : List UInt8 := [16, 20, 188, 10, 181, 0, 55, 42, 16, 20, 188, 10, 181, 0, 58, 42, 16, 20, 188, 10, 181, 0, 61, 42]
abbrev dktX8_init_5 : List UInt8 := dkwX8_init_5 ++ dktX8_init_6
def dkwX8_init_4 : List UInt8 := [16, 48, 188, 10, 181, 0, 46, 42, 16, 8, 188, 11, 181, 0, 49, 42, 16, 6, 188, 10, 181, 0, 52, 42]
abbrev dktX8_init_4 : List UInt8 := dkwX8_init_4 ++ dktX8_init_5
def dkwX8_init_3 : List UInt8 := [188, 10, 181, 0, 35, 42, 17, 2, 188, 188, 8, 181, 0, 38, 42, 16, 60, 188, 5, 181, 0, 42, 42]
abbrev dktX8_init_3 : List UInt8 := dkwX8_init_3 ++ dktX8_init_4
def dkwX8_init_2 : List UInt8 := [188, 10, 181, 0, 25, 42, 16, 8, 188, 10, 181, 0, 28, 42, 16, 8, 188, 11, 181, 0, 31, 42, 16, 6]
abbrev dktX8_init_2 : List UInt8 := dkwX8_init_2 ++ dktX8_init_3
def dkwX8_init_1 : List UInt8 := [188, 10, 181, 0, 16, 42, 16, 8, 188, 10, 181, 0, 19, 42, 16, 8, 188, 10, 181, 0, 22, 42, 16, 8]
abbrev dktX8_init_1 : List UInt8 := dkwX8_init_1 ++ dktX8_init_2
def dkwX8_init_0 : List UInt8 := [42, 183, 0, 1, 42, 17, 3, 72, 188, 10, 181, 0, 7, 42, 16, 8, 188, 10, 181, 0, 13, 42, 16, 8]
abbrev dktX8_init_0 : List UInt8 := dkwX8_init_0 ++ dktX8_init_1
theorem dksX8_init_0 : cX8_init.data.toList.drop 0 = dktX8_init_0 := by decide +kernel
theorem dksX8_init_1 : cX8_init.data.toList.drop 24 = dktX8_init_1 := dk_seg dksX8_init_0 24 rfl rfl
theorem dksX8_init_2 : cX8_init.data.toList.drop 48 = dktX8_init_2 := dk_seg dksX8_init_1 24 rfl rfl
theorem dksX8_init_3 : cX8_init.data.toList.drop 72 = dktX8_init_3 := dk_seg dksX8_init_2 24 rfl rfl
theorem dksX8_init_4 : cX8_init.data.toList.drop 95 = dktX8_init_4 := dk_seg dksX8_init_3 23 rfl rfl
theorem dksX8_init_5 : cX8_init.data.toList.drop 119 = dktX8_init_5 := dk_seg dksX8_init_4 24 rfl rfl
theorem dksX8_init_6 : cX8_init.data.toList.drop 143 = dktX8_init_6 := dk_seg dksX8_init_5 24 rfl rfl
theorem dksX8_init_7 : cX8_init.data.toList.drop 167 = dktX8_init_7 := dk_seg dksX8_init_6 24 rfl rfl
theorem dksX8_init_8 : cX8_init.data.toList.drop 191 = dktX8_init_8 := dk_seg dksX8_init_7 24 rfl rfl
theorem dksX8_init_9 : cX8_init.data.toList.drop 215 = dktX8_init_9 := dk_seg dksX8_init_8 24 rfl rfl
theorem dksX8_init_10 : cX8_init.data.toList.drop 238 = dktX8_init_10 := dk_seg dksX8_init_9 23 rfl rfl
theorem dksX8_init_11 : cX8_init.data.toList.drop 262 = dktX8_init_11 := dk_seg dksX8_init_10 24 rfl rfl
theorem dksX8_init_12 : cX8_init.data.toList.drop 284 = dktX8_init_12 := dk_seg dksX8_init_11 22 rfl rfl
theorem dksX8_init_13 : cX8_init.data.toList.drop 307 = dktX8_init_13 := dk_seg dksX8_init_12 23 rfl rfl
theorem dX8_init_0 : decode cX8_init 0 = .ok (.aload_n 0, 1) := dk_42 (dk_at dksX8_init_0 0 rfl rfl)
theorem dX8_init_1 : decode cX8_init 1 = .ok (.invokespecial 1, 3) := dk_183 0 1 (dk_at dksX8_init_0 1 rfl rfl)
theorem dX8_init_4 : decode cX8_init 4 = .ok (.aload_n 0, 1) := dk_42 (dk_at dksX8_init_0 4 rfl rfl)
theorem dX8_init_5 : decode cX8_init 5 = .ok (.sipush 840, 3) := dk_17 3 72 (dk_at dksX8_init_0 5 rfl rfl)
theorem dX8_init_8 : decode cX8_init 8 = .ok (.newarray .int, 2) := dk_188_10 (dk_at dksX8_init_0 8 rfl rfl)
theorem dX8_init_10 : decode cX8_init 10 = .ok (.putfield 7, 3) := dk_181 0 7 (dk_at dksX8_init_0 10 rfl rfl)
theorem dX8_init_13 : decode cX8_init 13 = .ok (.aload_n 0, 1) := dk_42 (dk_at dksX8_init_0 13 rfl rfl)
theorem dX8_init_14 : decode cX8_init 14 = .ok (.bipush 8, 2) := dk_16 8 (dk_at dksX8_init_0 14 rfl rfl)
theorem dX8_init_16 : decode cX8_init 16 = .ok (.newarray .int, 2) := dk_188_10 (dk_at dksX8_init_0 16 rfl rfl)
theorem dX8_init_18 : decode cX8_init 18 = .ok (.putfield 13, 3) := dk_181 0 13 (dk_at dksX8_init_0 18 rfl rfl)
theorem dX8_init_21 : decode cX8_init 21 = .ok (.aload_n 0, 1) := dk_42 (dk_at dksX8_init_0 21 rfl rfl)
theorem dX8_init_22 : decode cX8_init 22 = .ok (.bipush 8, 2) := dk_16 8 (dk_at dksX8_init_0 22 rfl rfl)
theorem dX8_init_24 : decode cX8_init 24 = .ok (.newarray .int, 2) := dk_188_10 (dk_at dksX8_init_1 0 rfl rfl)
theorem dX8_init_26 : decode cX8_init 26 = .ok (.putfield 16, 3) := dk_181 0 16 (dk_at dksX8_init_1 2 rfl rfl)
theorem dX8_init_29 : decode cX8_init 29 = .ok (.aload_n 0, 1) := dk_42 (dk_at dksX8_init_1 5 rfl rfl)
theorem dX8_init_30 : decode cX8_init 30 = .ok (.bipush 8, 2) := dk_16 8 (dk_at dksX8_init_1 6 rfl rfl)
theorem dX8_init_32 : decode cX8_init 32 = .ok (.newarray .int, 2) := dk_188_10 (dk_at dksX8_init_1 8 rfl rfl)
theorem dX8_init_34 : decode cX8_init 34 = .ok (.putfield 19, 3) := dk_181 0 19 (dk_at dksX8_init_1 10 rfl rfl)
theorem dX8_init_37 : decode cX8_init 37 = .ok (.aload_n 0, 1) := dk_42 (dk_at dksX8_init_1 13 rfl rfl)
theorem dX8_init_38 : decode cX8_init 38 = .ok (.bipush 8, 2) := dk_16 8 (dk_at dksX8_init_1 14 rfl rfl)
theorem dX8_init_40 : decode cX8_init 40 = .ok (.newarray .int, 2) := dk_188_10 (dk_at dksX8_init_1 16 rfl rfl)
theorem dX8_init_42 : decode cX8_init 42 = .ok (.putfield 22, 3) := dk_181 0 22 (dk_at dksX8_init_1 18 rfl rfl)
theorem dX8_init_45 : decode cX8_init 45 = .ok (.aload_n 0, 1) := dk_42 (dk_at dksX8_init_1 21 rfl rfl)
theorem dX8_init_46 : decode cX8_init 46 = .ok (.bipush 8, 2) := dk_16 8 (dk_at dksX8_init_1 22 rfl rfl)
theorem dX8_init_48 : decode cX8_init 48 = .ok (.newarray .int, 2) := dk_188_10 (dk_at dksX8_init_2 0 rfl rfl)
theorem dX8_init_50 : decode cX8_init 50 = .ok (.putfield 25, 3) := dk_181 0 25 (dk_at dksX8_init_2 2 rfl rfl)
theorem dX8_init_53 : decode cX8_init 53 = .ok (.aload_n 0, 1) := dk_42 (dk_at dksX8_init_2 5 rfl rfl)
theorem dX8_init_54 : decode cX8_init 54 = .ok (.bipush 8, 2) := dk_16 8 (dk_at dksX8_init_2 6 rfl rfl)
theorem dX8_init_56 : decode cX8_init 56 = .ok (.newarray .int, 2) := dk_188_10 (dk_at dksX8_init_2 8 rfl rfl)
theorem dX8_init_58 : decode cX8_init 58 = .ok (.putfield 28, 3) := dk_181 0 28 (dk_at dksX8_init_2 10 rfl rfl)
theorem dX8_init_61 : decode cX8_init 61 = .ok (.aload_n 0, 1) := dk_42 (dk_at dksX8_init_2 13 rfl rfl)
theorem dX8_init_62 : decode cX8_init 62 = .ok (.bipush 8, 2) := dk_16 8 (dk_at dksX8_init_2 14 rfl rfl)
theorem dX8_init_64 : decode cX8_init 64 = .ok (.newarray .long, 2) := dk_188_11 (dk_at dksX8_init_2 16 rfl rfl)
theorem dX8_init_66 : decode cX8_init 66 = .ok (.putfield 31, 3) := dk_181 0 31 (dk_at dksX8_init_2 18 rfl rfl)
theorem dX8_init_69 : decode cX8_init 69 = .ok (.aload_n 0, 1) := dk_42 (dk_at dksX8_init_2 21 rfl rfl)
theorem dX8_init_70 : decode cX8_init 70 = .ok (.bipush 6, 2) := dk_16 6 (dk_at dksX8_init_2 22 rfl rfl)
theorem dX8_init_72 : decode cX8_init 72 = .ok (.newarray .int, 2) := dk_188_10 (dk_at dksX8_init_3 0 rfl rfl)
theorem dX8_init_74 : decode cX8_init 74 = .ok (.putfield 35, 3) := dk_181 0 35 (dk_at dksX8_init_3 2 rfl rfl)
theorem dX8_init_77 : decode cX8_init 77 = .ok (.aload_n 0, 1) := dk_42 (dk_at dksX8_init_3 5 rfl rfl)
theorem dX8_init_78 : decode cX8_init 78 = .ok (.sipush 700, 3) := dk_17 2 188 (dk_at dksX8_init_3 6 rfl rfl)
theorem dX8_init_81 : decode cX8_init 81 = .ok (.newarray .byte, 2) := dk_188_8 (dk_at dksX8_init_3 9 rfl rfl)
theorem dX8_init_83 : decode cX8_init 83 = .ok (.putfield 38, 3) := dk_181 0 38 (dk_at dksX8_init_3 11 rfl rfl)
theorem dX8_init_86 : decode cX8_init 86 = .ok (.aload_n 0, 1) := dk_42 (dk_at dksX8_init_3 14 rfl rfl)
theorem dX8_init_87 : decode cX8_init 87 = .ok (.bipush 60, 2) := dk_16 60 (dk_at dksX8_init_3 15 rfl rfl)
theorem dX8_init_89 : decode cX8_init 89 = .ok (.newarray .char, 2) := dk_188_5 (dk_at dksX8_init_3 17 rfl rfl)
theorem dX8_init_91 : decode cX8_init 91 = .ok (.putfield 42, 3) := dk_181 0 42 (dk_at dksX8_init_3 19 rfl rfl)
theorem dX8_init_94 : decode cX8_init 94 = .ok (.aload_n 0, 1) := dk_42 (dk_at dksX8_init_3 22 rfl rfl)
theorem dX8_init_95 : decode cX8_init 95 = .ok (.bipush 48, 2) := dk_16 48 (dk_at dksX8_init_4 0 rfl rfl)
theorem dX8_init_97 : decode cX8_init 97 = .ok (.newarray .int, 2) := dk_188_10 (dk_at dksX8_init_4 2 rfl rfl)
theorem dX8_init_99 : decode cX8_init 99 = .ok (.putfield 46, 3) := dk_181 0 46 (dk_at dksX8_init_4 4 rfl rfl)
theorem dX8_init_102 : decode cX8_init 102 = .ok (.aload_n 0, 1) := dk_42 (dk_at dksX8_init_4 7 rfl rfl)
theorem dX8_init_103 : decode cX8_init 103 = .ok (.bipush 8, 2) := dk_16 8 (dk_at dksX8_init_4 8 rfl rfl)
theorem dX8_init_105 : decode cX8_init 105 = .ok (.newarray .long, 2) := dk_188_11 (dk_at dksX8_init_4 10 rfl rfl)
theorem dX8_init_107 : decode cX8_init 107 = .ok (.putfield 49, 3) := dk_181 0 49 (dk_at dksX8_init_4 12 rfl rfl)
theorem dX8_init_110 : decode cX8_init 110 = .ok (.aload_n 0, 1) := dk_42 (dk_at dksX8_init_4 15 rfl rfl)
theorem dX8_init_111 : decode cX8_init 111 = .ok (.bipush 6, 2) := dk_16 6 (dk_at dksX8_init_4 16 rfl rfl)
theorem dX8_init_113 : decode cX8_init 113 = .ok (.newarray .int, 2) := dk_188_10 (dk_at dksX8_init_4 18 rfl rfl)
theorem dX8_init_115 : decode cX8_init 115 = .ok (.putfield 52, 3) := dk_181 0 52 (dk_at dksX8_init_4 20 rfl rfl)
theorem dX8_init_118 : decode cX8_init 118 = .ok (.aload_n 0, 1) := dk_42 (dk_at dksX8_init_4 23 rfl rfl)
theorem dX8_init_119 : decode cX8_init 119 = .ok (.bipush 20, 2) := dk_16 20 (dk_at dksX8_init_5 0 rfl rfl)
theorem dX8_init_121 : decode cX8_init 121 = .ok (.newarray .int, 2) := dk_188_10 (dk_at dksX8_init_5 2 rfl rfl)
theorem dX8_init_123 : decode cX8_init 123 = .ok (.putfield 55, 3) := dk_181 0 55 (dk_at dksX8_init_5 4 rfl rfl)
theorem dX8_init_126 : decode cX8_init 126 = .ok (.aload_n 0, 1) := dk_42 (dk_at dksX8_init_5 7 rfl rfl)
theorem dX8_init_127 : decode cX8_init 127 = .ok (.bipush 20, 2) := dk_16 20 (dk_at dksX8_init_5 8 rfl rfl)
theorem dX8_init_129 : decode cX8_init 129 = .ok (.newarray .int, 2) := dk_188_10 (dk_at dksX8_init_5 10 rfl rfl)
theorem dX8_init_131 : decode cX8_init 131 = .ok (.putfield 58, 3) := dk_181 0 58 (dk_at dksX8_init_5 12 rfl rfl)
theorem dX8_init_134 : decode cX8_init 134 = .ok (.aload_n 0, 1) := dk_42 (dk_at dksX8_init_5 15 rfl rfl)
theorem dX8_init_135 : decode cX8_init 135 = .ok (.bipush 20, 2) := dk_16 20 (dk_at dksX8_init_5 16 rfl rfl)
theorem dX8_init_137 : decode cX8_init 137 = .ok (.newarray .int, 2) := dk_188_10 (dk_at dksX8_init_5 18 rfl rfl)
theorem dX8_init_139 : decode cX8_init 139 = .ok (.putfield 61, 3) := dk_181 0 61 (dk_at dksX8_init_5 20 rfl rfl)
theorem dX8_init_142 : decode cX8_init 142 = .ok (.aload_n 0, 1) := dk_42 (dk_at dksX8_init_5 23 rfl rfl)
theorem dX8_init_143 : decode cX8_init 143 = .ok (.bipush 20, 2) := dk_16 20 (dk_at dksX8_init_6 0 rfl rfl)
theorem dX8_init_145 : decode cX8_init 145 = .ok (.newarray .int, 2) := dk_188_10 (dk_at dksX8_init_6 2 rfl rfl)
theorem dX8_init_147 : decode cX8_init 147 = .ok (.putfield 64, 3) := dk_181 0 64 (dk_at dksX8_init_6 4 rfl rfl)
theorem dX8_init_150 : decode cX8_init 150 = .ok (.aload_n 0, 1) := dk_42 (dk_at dksX8_init_6 7 rfl rfl)
theorem dX8_init_151 : decode cX8_init 151 = .ok (.bipush 20, 2) := dk_16 20 (dk_at dksX8_init_6 8 rfl rfl)
theorem dX8_init_153 : decode cX8_init 153 = .ok (.newarray .int, 2) := dk_188_10 (dk_at dksX8_init_6 10 rfl rfl)
theorem dX8_init_155 : decode cX8_init 155 = .ok (.putfield 67, 3) := dk_181 0 67 (dk_at dksX8_init_6 12 rfl rfl)
theorem dX8_init_158 : decode cX8_init 158 = .ok (.aload_n 0, 1) := dk_42 (dk_at dksX8_init_6 15 rfl rfl)
theorem dX8_init_159 : decode cX8_init 159 = .ok (.bipush 20, 2) := dk_16 20 (dk_at dksX8_init_6 16 rfl rfl)
theorem dX8_init_161 : decode cX8_init 161 = .ok (.newarray .int, 2) := dk_188_10 (dk_at dksX8_init_6 18 rfl rfl)
theorem dX8_init_163 : decode cX8_init 163 = .ok (.putfield 70, 3) := dk_181 0 70 (dk_at dksX8_init_6 20 rfl rfl)
theorem dX8_init_166 : decode cX8_init 166 = .ok (.aload_n 0, 1) := dk_42 (dk_at dksX8_init_6 23 rfl rfl)
theorem dX8_init_167 : decode cX8_init 167 = .ok (.bipush 20, 2) := dk_16 20 (dk_at dksX8_init_7 0 rfl rfl)
theorem dX8_init_169 : decode cX8_init 169 = .ok (.newarray .int, 2) := dk_188_10 (dk_at dksX8_init_7 2 rfl rfl)
theorem dX8_init_171 : decode cX8_init 171 = .ok (.putfield 73, 3) := dk_181 0 73 (dk_at dksX8_init_7 4 rfl rfl)
theorem dX8_init_174 : decode cX8_init 174 = .ok (.aload_n 0, 1) := dk_42 (dk_at dksX8_init_7 7 rfl rfl)
theorem dX8_init_175 : decode cX8_init 175 = .ok (.bipush 20, 2) := dk_16 20 (dk_at dksX8_init_7 8 rfl rfl)
theorem dX8_init_177 : decode cX8_init 177 = .ok (.newarray .int, 2) := dk_188_10 (dk_at dksX8_init_7 10 rfl rfl)
theorem dX8_init_179 : decode cX8_init 179 = .ok (.putfield 76, 3) := dk_181 0 76 (dk_at dksX8_init_7 12 rfl rfl)
theorem dX8_init_182 : decode cX8_init 182 = .ok (.aload_n 0, 1) := dk_42 (dk_at dksX8_init_7 15 rfl rfl)
theorem dX8_init_183 : decode cX8_init 183 = .ok (.bipush 20, 2) := dk_16 20 (dk_at dksX8_init_7 16 rfl rfl)
theorem dX8_init_185 : decode cX8_init 185 = .ok (.newarray .int, 2) := dk_188_10 (dk_at dksX8_init_7 18 rfl rfl)
theorem dX8_init_187 : decode cX8_init 187 = .ok (.putfield 79, 3) := dk_181 0 79 (dk_at dksX8_init_7 20 rfl rfl)
theorem dX8_init_190 : decode cX8_init 190 = .ok (.aload_n 0, 1) := dk_42 (dk_at dksX8_init_7 23 rfl rfl)
theorem dX8_init_191 : decode cX8_init 191 = .ok (.bipush 20, 2) := dk_16 20 (dk_at dksX8_init_8 0 rfl rfl)
theorem dX8_init_193 : decode cX8_init 193 = .ok (.newarray .int, 2) := dk_188_10 (dk_at dksX8_init_8 2 rfl rfl)
theorem dX8_init_195 : decode cX8_init 195 = .ok (.putfield 82, 3) := dk_181 0 82 (dk_at dksX8_init_8 4 rfl rfl)
theorem dX8_init_198 : decode cX8_init 198 = .ok (.aload_n 0, 1) := dk_42 (dk_at dksX8_init_8 7 rfl rfl)
theorem dX8_init_199 : decode cX8_init 199 = .ok (.bipush 20, 2) := dk_16 20 (dk_at dksX8_init_8 8 rfl rfl)
theorem dX8_init_201 : decode cX8_init 201 = .ok (.newarray .int, 2) := dk_188_10 (dk_at dksX8_init_8 10 rfl rfl)
theorem dX8_init_203 : decode cX8_init 203 = .ok (.putfield 85, 3) := dk_181 0 85 (dk_at dksX8_init_8 12 rfl rfl)
theorem dX8_init_206 : decode cX8_init 206 = .ok (.aload_n 0, 1) := dk_42 (dk_at dksX8_init_8 15 rfl rfl)
theorem dX8_init_207 : decode cX8_init 207 = .ok (.iconst 3, 1) := dk_6 (dk_at dksX8_init_8 16 rfl rfl)
theorem dX8_init_208 : decode cX8_init 208 = .ok (.newarray .int, 2) := dk_188_10 (dk_at dksX8_init_8 17 rfl rfl)
theorem dX8_init_210 : decode cX8_init 210 = .ok (.putfield 88, 3) := dk_181 0 88 (dk_at dksX8_init_8 19 rfl rfl)
theorem dX8_init_213 : decode cX8_init 213 = .ok (.aload_n 0, 1) := dk_42 (dk_at dksX8_init_8 22 rfl rfl)
theorem dX8_init_214 : decode cX8_init 214 = .ok (.iconst 3, 1) := dk_6 (dk_at dksX8_init_8 23 rfl rfl)
theorem dX8_init_215 : decode cX8_init 215 = .ok (.newarray .int, 2) := dk_188_10 (dk_at dksX8_init_9 0 rfl rfl)
theorem dX8_init_217 : decode cX8_init 217 = .ok (.putfield 91, 3) := dk_181 0 91 (dk_at dksX8_init_9 2 rfl rfl)
theorem dX8_init_220 : decode cX8_init 220 = .ok (.aload_n 0, 1) := dk_42 (dk_at dksX8_init_9 5 rfl rfl)
theorem dX8_init_221 : decode cX8_init 221 = .ok (.iconst 3, 1) := dk_6 (dk_at dksX8_init_9 6 rfl rfl)
theorem dX8_init_222 : decode cX8_init 222 = .ok (.newarray .int, 2) := dk_188_10 (dk_at dksX8_init_9 7 rfl rfl)
theorem dX8_init_224 : decode cX8_init 224 = .ok (.putfield 94, 3) := dk_181 0 94 (dk_at dksX8_init_9 9 rfl rfl)
theorem dX8_init_227 : decode cX8_init 227 = .ok (.aload_n 0, 1) := dk_42 (dk_at dksX8_init_9 12 rfl rfl)
theorem dX8_init_228 : decode cX8_init 228 = .ok (.iconst 3, 1) := dk_6 (dk_at dksX8_init_9 13 rfl rfl)
theorem dX8_init_229 : decode cX8_init 229 = .ok (.newarray .int, 2) := dk_188_10 (dk_at dksX8_init_9 14 rfl rfl)
theorem dX8_init_231 : decode cX8_init 231 = .ok (.putfield 97, 3) := dk_181 0 97 (dk_at dksX8_init_9 16 rfl rfl)
theorem dX8_init_234 : decode cX8_init 234 = .ok (.aload_n 0, 1) := dk_42 (dk_at dksX8_init_9 19 rfl rfl)
theorem dX8_init_235 : decode cX8_init 235 = .ok (.iconst 4, 1) := dk_7 (dk_at dksX8_init_9 20 rfl rfl)
theorem dX8_init_236 : decode cX8_init 236 = .ok (.newarray .int, 2) := dk_188_10 (dk_at dksX8_init_9 21 rfl rfl)
theorem dX8_init_238 : decode cX8_init 238 = .ok (.putfield 100, 3) := dk_181 0 100 (dk_at dksX8_init_10 0 rfl rfl)
theorem dX8_init_241 : decode cX8_init 241 = .ok (.aload_n 0, 1) := dk_42 (dk_at dksX8_init_10 3 rfl rfl)
theorem dX8_init_242 : decode cX8_init 242 = .ok (.iconst 4, 1) := dk_7 (dk_at dksX8_init_10 4 rfl rfl)
theorem dX8_init_243 : decode cX8_init 243 = .ok (.newarray .int, 2) := dk_188_10 (dk_at dksX8_init_10 5 rfl rfl)
theorem dX8_init_245 : decode cX8_init 245 = .ok (.putfield 103, 3) := dk_181 0 103 (dk_at dksX8_init_10 7 rfl rfl)
theorem dX8_init_248 : decode cX8_init 248 = .ok (.aload_n 0, 1) := dk_42 (dk_at dksX8_init_10 10 rfl rfl)
theorem dX8_init_249 : decode cX8_init 249 = .ok (.iconst 4, 1) := dk_7 (dk_at dksX8_init_10 11 rfl rfl)
theorem dX8_init_250 : decode cX8_init 250 = .ok (.newarray .int, 2) := dk_188_10 (dk_at dksX8_init_10 12 rfl rfl)
theorem dX8_init_252 : decode cX8_init 252 = .ok (.putfield 106, 3) := dk_181 0 106 (dk_at dksX8_init_10 14 rfl rfl)
theorem dX8_init_255 : decode cX8_init 255 = .ok (.aload_n 0, 1) := dk_42 (dk_at dksX8_init_10 17 rfl rfl)
theorem dX8_init_256 : decode cX8_init 256 = .ok (.iconst 4, 1) := dk_7 (dk_at dksX8_init_10 18 rfl rfl)
theorem dX8_init_257 : decode cX8_init 257 = .ok (.newarray .int, 2) := dk_188_10 (dk_at dksX8_init_10 19 rfl rfl)
theorem dX8_init_259 : decode cX8_init 259 = .ok (.putfield 109, 3) := dk_181 0 109 (dk_at dksX8_init_10 21 rfl rfl)
theorem dX8_init_262 : decode cX8_init 262 = .ok (.aload_n 0, 1) := dk_42 (dk_at dksX8_init_11 0 rfl rfl)
theorem dX8_init_263 : decode cX8_init 263 = .ok (.iconst 4, 1) := dk_7 (dk_at dksX8_init_11 1 rfl rfl)
theorem dX8_init_264 : decode cX8_init 264 = .ok (.newarray .int, 2) := dk_188_10 (dk_at dksX8_init_11 2 rfl rfl)
theorem dX8_init_266 : decode cX8_init 266 = .ok (.putfield 112, 3) := dk_181 0 112 (dk_at dksX8_init_11 4 rfl rfl)
theorem dX8_init_269 : decode cX8_init 269 = .ok (.aload_n 0, 1) := dk_42 (dk_at dksX8_init_11 7 rfl rfl)
theorem dX8_init_270 : decode cX8_init 270 = .ok (.sipush 5760, 3) := dk_17 22 128 (dk_at dksX8_init_11 8 rfl rfl)
theorem dX8_init_273 : decode cX8_init 273 = .ok (.newarray .int, 2) := dk_188_10 (dk_at dksX8_init_11 11 rfl rfl)
theorem dX8_init_275 : decode cX8_init 275 = .ok (.putfield 115, 3) := dk_181 0 115 (dk_at dksX8_init_11 13 rfl rfl)
theorem dX8_init_278 : decode cX8_init 278 = .ok (.aload_n 0, 1) := dk_42 (dk_at dksX8_init_11 16 rfl rfl)
theorem dX8_init_279 : decode cX8_init 279 = .ok (.sipush 5760, 3) := dk_17 22 128 (dk_at dksX8_init_11 17 rfl rfl)
theorem dX8_init_282 : decode cX8_init 282 = .ok (.newarray .int, 2) := dk_188_10 (dk_at dksX8_init_11 20 rfl rfl)
theorem dX8_init_284 : decode cX8_init 284 = .ok (.putfield 118, 3) := dk_181 0 118 (dk_at dksX8_init_12 0 rfl rfl)
theorem dX8_init_287 : decode cX8_init 287 = .ok (.aload_n 0, 1) := dk_42 (dk_at dksX8_init_12 3 rfl rfl)
theorem dX8_init_288 : decode cX8_init 288 = .ok (.sipush 1440, 3) := dk_17 5 160 (dk_at dksX8_init_12 4 rfl rfl)
theorem dX8_init_291 : decode cX8_init 291 = .ok (.newarray .int, 2) := dk_188_10 (dk_at dksX8_init_12 7 rfl rfl)
theorem dX8_init_293 : decode cX8_init 293 = .ok (.putfield 121, 3) := dk_181 0 121 (dk_at dksX8_init_12 9 rfl rfl)
theorem dX8_init_296 : decode cX8_init 296 = .ok (.aload_n 0, 1) := dk_42 (dk_at dksX8_init_12 12 rfl rfl)
theorem dX8_init_297 : decode cX8_init 297 = .ok (.sipush 1440, 3) := dk_17 5 160 (dk_at dksX8_init_12 13 rfl rfl)
theorem dX8_init_300 : decode cX8_init 300 = .ok (.newarray .int, 2) := dk_188_10 (dk_at dksX8_init_12 16 rfl rfl)
theorem dX8_init_302 : decode cX8_init 302 = .ok (.putfield 124, 3) := dk_181 0 124 (dk_at dksX8_init_12 18 rfl rfl)
theorem dX8_init_305 : decode cX8_init 305 = .ok (.aload_n 0, 1) := dk_42 (dk_at dksX8_init_12 21 rfl rfl)
theorem dX8_init_306 : decode cX8_init 306 = .ok (.iconst (-1), 1) := dk_2 (dk_at dksX8_init_12 22 rfl rfl)
theorem dX8_init_307 : decode cX8_init 307 = .ok (.putfield 127, 3) := dk_181 0 127 (dk_at dksX8_init_13 0 rfl rfl)
theorem dX8_init_310 : decode cX8_init 310 = .ok (.aload_n 0, 1) := dk_42 (dk_at dksX8_init_13 3 rfl rfl)
theorem dX8_init_311 : decode cX8_init 311 = .ok (.invokevirtual 131, 3) := dk_182 0 131 (dk_at dksX8_init_13 4 rfl rfl)
theorem dX8_init_314 : decode cX8_init 314 = .ok (.aload_n 0, 1) := dk_42 (dk_at dksX8_init_13 7 rfl rfl)
theorem dX8_init_315 : decode cX8_init 315 = .ok (.invokevirtual 134, 3) := dk_182 0 134 (dk_at dksX8_init_13 8 rfl rfl)
theorem dX8_init_318 : decode cX8_init 318 = .ok (.return_, 1) := dk_177 (dk_at dksX8_init_13 11 rfl rfl)
abbrev cX8_beginReading : ByteArray := prog_13_method_36_code
def yX8_beginReading : MethodName := ⟨RX8, "beginReading", "()V"⟩
def dkwX8_beginReading_3 : List UInt8 := [8, 79, 42, 180, 0, 7, 16, 76, 16, 10, 79, 177]
abbrev dktX8_beginReading_3 : List UInt8 := dkwX8_beginReading_3 ++ []
def dkwX8_beginReading_2 : List UInt8 := [4, 79, 42, 180, 0, 7, 16, 73, 8, 79, 42, 180, 0, 7, 16, 74, 7, 79, 42, 180, 0, 7, 16, 75]
abbrev dktX8_beginReading_2 : List UInt8 := dkwX8_beginReading_2 ++ dktX8_beginReading_3
def dkwX8_beginReading_1 : List UInt8 := [27, 96, 3, 79, 132, 1, 1, 167, 255, 237, 42, 180, 0, 7, 16, 70, 4, 79, 42, 180, 0, 7, 16, 71]
abbrev dktX8_beginReading_1 : List UInt8 := dkwX8_beginReading_1 ++ dktX8_beginReading_2
def dkwX8_beginReading_0 : List UInt8 := [42, 3, 181, 0, 240, 42, 3, 181, 0, 243, 3, 60, 27, 16, 70, 162, 0, 19, 42, 180, 0, 7, 16, 70]
abbrev dktX8_beginReading_0 : List UInt8 := dkwX8_beginReading_0 ++ dktX8_beginReading_1
theorem dksX8_beginReading_0 : cX8_beginReading.data.toList.drop 0 = dktX8_beginReading_0 := by decide +kernel
theorem dksX8_beginReading_1 : cX8_beginReading.data.toList.drop 24 = dktX8_beginReading_1 := dk_seg dksX8_beginReading_0 24 rfl rfl
theorem dksX8_beginReading_2 : cX8_beginReading.data.toList.drop 48 = dktX8_beginReading_2 := dk_seg dksX8_beginReading_1 24 rfl rfl
theorem dksX8_beginReading_3 : cX8_beginReading.data.toList.drop 72 = dktX8_beginReading_3 := dk_seg dksX8_beginReading_2 24 rfl rfl
theorem dX8_beginReading_0 : decode cX8_beginReading 0 = .ok (.aload_n 0, 1) := dk_42 (dk_at dksX8_beginReading_0 0 rfl rfl)
theorem dX8_beginReading_1 : decode cX8_beginReading 1 = .ok (.iconst 0, 1) := dk_3 (dk_at dksX8_beginReading_0 1 rfl rfl)
theorem dX8_beginReading_2 : decode cX8_beginReading 2 = .ok (.putfield 240, 3) := dk_181 0 240 (dk_at dksX8_beginReading_0 2 rfl rfl)
theorem dX8_beginReading_5 : decode cX8_beginReading 5 = .ok (.aload_n 0, 1) := dk_42 (dk_at dksX8_beginReading_0 5 rfl rfl)
theorem dX8_beginReading_6 : decode cX8_beginReading 6 = .ok (.iconst 0, 1) := dk_3 (dk_at dksX8_beginReading_0 6 rfl rfl)
theorem dX8_beginReading_7 : decode cX8_beginReading 7 = .ok (.putfield 243, 3) := dk_181 0 243 (dk_at dksX8_beginReading_0 7 rfl rfl)
theorem dX8_beginReading_10 : decode cX8_beginReading 10 = .ok (.iconst 0, 1) := dk_3 (dk_at dksX8_beginReading_0 10 rfl rfl)
theorem dX8_beginReading_11 : decode cX8_beginReading 11 = .ok (.istore_n 1, 1) := dk_60 (dk_at dksX8_beginReading_0 11 rfl rfl)
theorem dX8_beginReading_12 : decode cX8_beginReading 12 = .ok (.iload_n 1, 1) := dk_27 (dk_at dksX8_beginReading_0 12 rfl rfl)
theorem dX8_beginReading_13 : decode cX8_beginReading 13 = .ok (.bipush 70, 2) := dk_16 70 (dk_at dksX8_beginReading_0 13 rfl rfl)
theorem dX8_beginReading_15 : decode cX8_beginReading 15 = .ok (.if_icmp .ge 19, 3) := dk_162 0 19 (dk_at dksX8_beginReading_0 15 rfl rfl)
theorem dX8_beginReading_18 : decode cX8_beginReading 18 = .ok (.aload_n 0, 1) := dk_42 (dk_at dksX8_beginReading_0 18 rfl rfl)
theorem dX8_beginReading_19 : decode cX8_beginReading 19 = .ok (.getfield 7, 3) := dk_180 0 7 (dk_at dksX8_beginReading_0 19 rfl rfl)
theorem dX8_beginReading_22 : decode cX8_beginReading 22 = .ok (.bipush 70, 2) := dk_16 70 (dk_at dksX8_beginReading_0 22 rfl rfl)
theorem dX8_beginReading_24 : decode cX8_beginReading 24 = .ok (.iload_n 1, 1) := dk_27 (dk_at dksX8_beginReading_1 0 rfl rfl)
theorem dX8_beginReading_25 : decode cX8_beginReading 25 = .ok (.iadd, 1) := dk_96 (dk_at dksX8_beginReading_1 1 rfl rfl)
theorem dX8_beginReading_26 : decode cX8_beginReading 26 = .ok (.iconst 0, 1) := dk_3 (dk_at dksX8_beginReading_1 2 rfl rfl)
theorem dX8_beginReading_27 : decode cX8_beginReading 27 = .ok (.iastore, 1) := dk_79 (dk_at dksX8_beginReading_1 3 rfl rfl)
theorem dX8_beginReading_28 : decode cX8_beginReading 28 = .ok (.iinc 1 1, 3) := dk_132 1 1 (dk_at dksX8_beginReading_1 4 rfl rfl)
theorem dX8_beginReading_31 : decode cX8_beginReading 31 = .ok (.goto (-19), 3) := dk_167 255 237 (dk_at dksX8_beginReading_1 7 rfl rfl)
theorem dX8_beginReading_34 : decode cX8_beginReading 34 = .ok (.aload_n 0, 1) := dk_42 (dk_at dksX8_beginReading_1 10 rfl rfl)
theorem dX8_beginReading_35 : decode cX8_beginReading 35 = .ok (.getfield 7, 3) := dk_180 0 7 (dk_at dksX8_beginReading_1 11 rfl rfl)
theorem dX8_beginReading_38 : decode cX8_beginReading 38 = .ok (.bipush 70, 2) := dk_16 70 (dk_at dksX8_beginReading_1 14 rfl rfl)
theorem dX8_beginReading_40 : decode cX8_beginReading 40 = .ok (.iconst 1, 1) := dk_4 (dk_at dksX8_beginReading_1 16 rfl rfl)
theorem dX8_beginReading_41 : decode cX8_beginReading 41 = .ok (.iastore, 1) := dk_79 (dk_at dksX8_beginReading_1 17 rfl rfl)
theorem dX8_beginReading_42 : decode cX8_beginReading 42 = .ok (.aload_n 0, 1) := dk_42 (dk_at dksX8_beginReading_1 18 rfl rfl)
theorem dX8_beginReading_43 : decode cX8_beginReading 43 = .ok (.getfield 7, 3) := dk_180 0 7 (dk_at dksX8_beginReading_1 19 rfl rfl)
theorem dX8_beginReading_46 : decode cX8_beginReading 46 = .ok (.bipush 71, 2) := dk_16 71 (dk_at dksX8_beginReading_1 22 rfl rfl)
theorem dX8_beginReading_48 : decode cX8_beginReading 48 = .ok (.iconst 1, 1) := dk_4 (dk_at dksX8_beginReading_2 0 rfl rfl)
theorem dX8_beginReading_49 : decode cX8_beginReading 49 = .ok (.iastore, 1) := dk_79 (dk_at dksX8_beginReading_2 1 rfl rfl)
theorem dX8_beginReading_50 : decode cX8_beginReading 50 = .ok (.aload_n 0, 1) := dk_42 (dk_at dksX8_beginReading_2 2 rfl rfl)
theorem dX8_beginReading_51 : decode cX8_beginReading 51 = .ok (.getfield 7, 3) := dk_180 0 7 (dk_at dksX8_beginReading_2 3 rfl rfl)
theorem dX8_beginReading_54 : decode cX8_beginReading 54 = .ok (.bipush 73, 2) := dk_16 73 (dk_at dksX8_beginReading_2 6 rfl rfl)
theorem dX8_beginReading_56 : decode cX8_beginReading 56 = .ok (.iconst 5, 1) := dk_8 (dk_at dksX8_beginReading_2 8 rfl rfl)
theorem dX8_beginReading_57 : decode cX8_beginReading 57 = .ok (.iastore, 1) := dk_79 (dk_at dksX8_beginReading_2 9 rfl rfl)
theorem dX8_beginReading_58 : decode cX8_beginReading 58 = .ok (.aload_n 0, 1) := dk_42 (dk_at dksX8_beginReading_2 10 rfl rfl)
theorem dX8_beginReading_59 : decode cX8_beginReading 59 = .ok (.getfield 7, 3) := dk_180 0 7 (dk_at dksX8_beginReading_2 11 rfl rfl)
theorem dX8_beginReading_62 : decode cX8_beginReading 62 = .ok (.bipush 74, 2) := dk_16 74 (dk_at dksX8_beginReading_2 14 rfl rfl)
theorem dX8_beginReading_64 : decode cX8_beginReading 64 = .ok (.iconst 4, 1) := dk_7 (dk_at dksX8_beginReading_2 16 rfl rfl)
theorem dX8_beginReading_65 : decode cX8_beginReading 65 = .ok (.iastore, 1) := dk_79 (dk_at dksX8_beginReading_2 17 rfl rfl)
theorem dX8_beginReading_66 : decode cX8_beginReading 66 = .ok (.aload_n 0, 1) := dk_42 (dk_at dksX8_beginReading_2 18 rfl rfl)
theorem dX8_beginReading_67 : decode cX8_beginReading 67 = .ok (.getfield 7, 3) := dk_180 0 7 (dk_at dksX8_beginReading_2 19 rfl rfl)
theorem dX8_beginReading_70 : decode cX8_beginReading 70 = .ok (.bipush 75, 2) := dk_16 75 (dk_at dksX8_beginReading_2 22 rfl rfl)
theorem dX8_beginReading_72 : decode cX8_beginReading 72 = .ok (.iconst 5, 1) := dk_8 (dk_at dksX8_beginReading_3 0 rfl rfl)
theorem dX8_beginReading_73 : decode cX8_beginReading 73 = .ok (.iastore, 1) := dk_79 (dk_at dksX8_beginReading_3 1 rfl rfl)
theorem dX8_beginReading_74 : decode cX8_beginReading 74 = .ok (.aload_n 0, 1) := dk_42 (dk_at dksX8_beginReading_3 2 rfl rfl)
theorem dX8_beginReading_75 : decode cX8_beginReading 75 = .ok (.getfield 7, 3) := dk_180 0 7 (dk_at dksX8_beginReading_3 3 rfl rfl)
theorem dX8_beginReading_78 : decode cX8_beginReading 78 = .ok (.bipush 76, 2) := dk_16 76 (dk_at dksX8_beginReading_3 6 rfl rfl)
theorem dX8_beginReading_80 : decode cX8_beginReading 80 = .ok (.bipush 10, 2) := dk_16 10 (dk_at dksX8_beginReading_3 8 rfl rfl)
theorem dX8_beginReading_82 : decode cX8_beginReading 82 = .ok (.iastore, 1) := dk_79 (dk_at dksX8_beginReading_3 10 rfl rfl)
theorem dX8_beginReading_83 : decode cX8_beginReading 83 = .ok (.return_, 1) := dk_177 (dk_at dksX8_beginReading_3 11 rfl rfl)
abbrev cX8_keepReading : ByteArray := prog_13_method_37_code
def yX8_keepReading : MethodName := ⟨RX8, "keepReading", "()V"⟩
def dkwX8_keepReading_7 : List UInt8 := [79, 132, 1, 1, 167, 255, 233, 42, 4, 3, 182, 0, 246, 42, 3, 181, 0, 250, 42, 3, 181, 0, 253, 177]
abbrev dktX8_keepReading_7 : List UInt8 := dkwX8_keepReading_7 ++ []
def dkwX8_keepReading_6 : List UInt8 := [167, 255, 133, 3, 60, 27, 42, 180, 0, 158, 162, 0, 21, 42, 180, 0, 35, 27, 42, 180, 0, 52, 27, 46]
abbrev dktX8_keepReading_6 : List UInt8 := dkwX8_keepReading_6 ++ dktX8_keepReading_7
def dkwX8_keepReading_5 : List UInt8 := [7, 96, 46, 79, 42, 180, 0, 28, 27, 42, 180, 0, 46, 16, 6, 27, 104, 8, 96, 46, 79, 132, 1, 1]
abbrev dktX8_keepReading_5 : List UInt8 := dkwX8_keepReading_5 ++ dktX8_keepReading_6
def dkwX8_keepReading_4 : List UInt8 := [180, 0, 46, 16, 6, 27, 104, 6, 96, 46, 79, 42, 180, 0, 25, 27, 42, 180, 0, 46, 16, 6, 27, 104]
abbrev dktX8_keepReading_4 : List UInt8 := dkwX8_keepReading_4 ++ dktX8_keepReading_5
def dkwX8_keepReading_3 : List UInt8 := [180, 0, 19, 27, 42, 180, 0, 46, 16, 6, 27, 104, 5, 96, 46, 79, 42, 180, 0, 22, 27, 42]
abbrev dktX8_keepReading_3 : List UInt8 := dkwX8_keepReading_3 ++ dktX8_keepReading_4
def dkwX8_keepReading_2 : List UInt8 := [16, 6, 27, 104, 46, 79, 42, 180, 0, 16, 27, 42, 180, 0, 46, 16, 6, 27, 104, 4, 96, 46, 79, 42]
abbrev dktX8_keepReading_2 : List UInt8 := dkwX8_keepReading_2 ++ dktX8_keepReading_3
def dkwX8_keepReading_1 : List UInt8 := [162, 0, 121, 42, 180, 0, 31, 27, 42, 180, 0, 49, 27, 47, 80, 42, 180, 0, 13, 27, 42, 180, 0, 46]
abbrev dktX8_keepReading_1 : List UInt8 := dkwX8_keepReading_1 ++ dktX8_keepReading_2
def dkwX8_keepReading_0 : List UInt8 := [42, 42, 180, 0, 240, 181, 0, 155, 42, 42, 180, 0, 243, 181, 0, 158, 3, 60, 27, 42, 180, 0, 155]
abbrev dktX8_keepReading_0 : List UInt8 := dkwX8_keepReading_0 ++ dktX8_keepReading_1
theorem dksX8_keepReading_0 : cX8_keepReading.data.toList.drop 0 = dktX8_keepReading_0 := by decide +kernel
theorem dksX8_keepReading_1 : cX8_keepReading.data.toList.drop 23 = dktX8_keepReading_1 := dk_seg dksX8_keepReading_0 23 rfl rfl
theorem dksX8_keepReading_2 : cX8_keepReading.data.toList.drop 47 = dktX8_keepReading_2 := dk_seg dksX8_keepReading_1 24 rfl rfl
theorem dksX8_keepReading_3 : cX8_keepReading.data.toList.drop 71 = dktX8_keepReading_3 := dk_seg dksX8_keepReading_2 24 rfl rfl
theorem dksX8_keepReading_4 : cX8_keepReading.data.toList.drop 93 = dktX8_keepReading_4 := dk_seg dksX8_keepReading_3 22 rfl rfl
theorem dksX8_keepReading_5 : cX8_keepReading.data.toList.drop 117 = dktX8_keepReading_5 := dk_seg dksX8_keepReading_4 24 rfl rfl
theorem dksX8_keepReading_6 : cX8_keepReading.data.toList.drop 141 = dktX8_keepReading_6 := dk_seg dksX8_keepReading_5 24 rfl rfl
theorem dksX8_keepReading_7 : cX8_keepReading.data.toList.drop 165 = dktX8_keepReading_7 := dk_seg dksX8_keepReading_6 24 rfl rfl
theorem dX8_keepReading_0 : decode cX8_keepReading 0 = .ok (.aload_n 0, 1) := dk_42 (dk_at dksX8_keepReading_0 0 rfl rfl)
theorem dX8_keepReading_1 : decode cX8_keepReading 1 = .ok (.aload_n 0, 1) := dk_42 (dk_at dksX8_keepReading_0 1 rfl rfl)
theorem dX8_keepReading_2 : decode cX8_keepReading 2 = .ok (.getfield 240, 3) := dk_180 0 240 (dk_at dksX8_keepReading_0 2 rfl rfl)
theorem dX8_keepReading_5 : decode cX8_keepReading 5 = .ok (.putfield 155, 3) := dk_181 0 155 (dk_at dksX8_keepReading_0 5 rfl rfl)
theorem dX8_keepReading_8 : decode cX8_keepReading 8 = .ok (.aload_n 0, 1) := dk_42 (dk_at dksX8_keepReading_0 8 rfl rfl)
theorem dX8_keepReading_9 : decode cX8_keepReading 9 = .ok (.aload_n 0, 1) := dk_42 (dk_at dksX8_keepReading_0 9 rfl rfl)
theorem dX8_keepReading_10 : decode cX8_keepReading 10 = .ok (.getfield 243, 3) := dk_180 0 243 (dk_at dksX8_keepReading_0 10 rfl rfl)
theorem dX8_keepReading_13 : decode cX8_keepReading 13 = .ok (.putfield 158, 3) := dk_181 0 158 (dk_at dksX8_keepReading_0 13 rfl rfl)
theorem dX8_keepReading_16 : decode cX8_keepReading 16 = .ok (.iconst 0, 1) := dk_3 (dk_at dksX8_keepReading_0 16 rfl rfl)
theorem dX8_keepReading_17 : decode cX8_keepReading 17 = .ok (.istore_n 1, 1) := dk_60 (dk_at dksX8_keepReading_0 17 rfl rfl)
theorem dX8_keepReading_18 : decode cX8_keepReading 18 = .ok (.iload_n 1, 1) := dk_27 (dk_at dksX8_keepReading_0 18 rfl rfl)
theorem dX8_keepReading_19 : decode cX8_keepReading 19 = .ok (.aload_n 0, 1) := dk_42 (dk_at dksX8_keepReading_0 19 rfl rfl)
theorem dX8_keepReading_20 : decode cX8_keepReading 20 = .ok (.getfield 155, 3) := dk_180 0 155 (dk_at dksX8_keepReading_0 20 rfl rfl)
theorem dX8_keepReading_23 : decode cX8_keepReading 23 = .ok (.if_icmp .ge 121, 3) := dk_162 0 121 (dk_at dksX8_keepReading_1 0 rfl rfl)
theorem dX8_keepReading_26 : decode cX8_keepReading 26 = .ok (.aload_n 0, 1) := dk_42 (dk_at dksX8_keepReading_1 3 rfl rfl)
theorem dX8_keepReading_27 : decode cX8_keepReading 27 = .ok (.getfield 31, 3) := dk_180 0 31 (dk_at dksX8_keepReading_1 4 rfl rfl)
theorem dX8_keepReading_30 : decode cX8_keepReading 30 = .ok (.iload_n 1, 1) := dk_27 (dk_at dksX8_keepReading_1 7 rfl rfl)
theorem dX8_keepReading_31 : decode cX8_keepReading 31 = .ok (.aload_n 0, 1) := dk_42 (dk_at dksX8_keepReading_1 8 rfl rfl)
theorem dX8_keepReading_32 : decode cX8_keepReading 32 = .ok (.getfield 49, 3) := dk_180 0 49 (dk_at dksX8_keepReading_1 9 rfl rfl)
theorem dX8_keepReading_35 : decode cX8_keepReading 35 = .ok (.iload_n 1, 1) := dk_27 (dk_at dksX8_keepReading_1 12 rfl rfl)
theorem dX8_keepReading_36 : decode cX8_keepReading 36 = .ok (.laload, 1) := dk_47 (dk_at dksX8_keepReading_1 13 rfl rfl)
theorem dX8_keepReading_37 : decode cX8_keepReading 37 = .ok (.lastore, 1) := dk_80 (dk_at dksX8_keepReading_1 14 rfl rfl)
theorem dX8_keepReading_38 : decode cX8_keepReading 38 = .ok (.aload_n 0, 1) := dk_42 (dk_at dksX8_keepReading_1 15 rfl rfl)
theorem dX8_keepReading_39 : decode cX8_keepReading 39 = .ok (.getfield 13, 3) := dk_180 0 13 (dk_at dksX8_keepReading_1 16 rfl rfl)
theorem dX8_keepReading_42 : decode cX8_keepReading 42 = .ok (.iload_n 1, 1) := dk_27 (dk_at dksX8_keepReading_1 19 rfl rfl)
theorem dX8_keepReading_43 : decode cX8_keepReading 43 = .ok (.aload_n 0, 1) := dk_42 (dk_at dksX8_keepReading_1 20 rfl rfl)
theorem dX8_keepReading_44 : decode cX8_keepReading 44 = .ok (.getfield 46, 3) := dk_180 0 46 (dk_at dksX8_keepReading_1 21 rfl rfl)
theorem dX8_keepReading_47 : decode cX8_keepReading 47 = .ok (.bipush 6, 2) := dk_16 6 (dk_at dksX8_keepReading_2 0 rfl rfl)
theorem dX8_keepReading_49 : decode cX8_keepReading 49 = .ok (.iload_n 1, 1) := dk_27 (dk_at dksX8_keepReading_2 2 rfl rfl)
theorem dX8_keepReading_50 : decode cX8_keepReading 50 = .ok (.imul, 1) := dk_104 (dk_at dksX8_keepReading_2 3 rfl rfl)
theorem dX8_keepReading_51 : decode cX8_keepReading 51 = .ok (.iaload, 1) := dk_46 (dk_at dksX8_keepReading_2 4 rfl rfl)
theorem dX8_keepReading_52 : decode cX8_keepReading 52 = .ok (.iastore, 1) := dk_79 (dk_at dksX8_keepReading_2 5 rfl rfl)
theorem dX8_keepReading_53 : decode cX8_keepReading 53 = .ok (.aload_n 0, 1) := dk_42 (dk_at dksX8_keepReading_2 6 rfl rfl)
theorem dX8_keepReading_54 : decode cX8_keepReading 54 = .ok (.getfield 16, 3) := dk_180 0 16 (dk_at dksX8_keepReading_2 7 rfl rfl)
theorem dX8_keepReading_57 : decode cX8_keepReading 57 = .ok (.iload_n 1, 1) := dk_27 (dk_at dksX8_keepReading_2 10 rfl rfl)
theorem dX8_keepReading_58 : decode cX8_keepReading 58 = .ok (.aload_n 0, 1) := dk_42 (dk_at dksX8_keepReading_2 11 rfl rfl)
theorem dX8_keepReading_59 : decode cX8_keepReading 59 = .ok (.getfield 46, 3) := dk_180 0 46 (dk_at dksX8_keepReading_2 12 rfl rfl)
theorem dX8_keepReading_62 : decode cX8_keepReading 62 = .ok (.bipush 6, 2) := dk_16 6 (dk_at dksX8_keepReading_2 15 rfl rfl)
theorem dX8_keepReading_64 : decode cX8_keepReading 64 = .ok (.iload_n 1, 1) := dk_27 (dk_at dksX8_keepReading_2 17 rfl rfl)
theorem dX8_keepReading_65 : decode cX8_keepReading 65 = .ok (.imul, 1) := dk_104 (dk_at dksX8_keepReading_2 18 rfl rfl)
theorem dX8_keepReading_66 : decode cX8_keepReading 66 = .ok (.iconst 1, 1) := dk_4 (dk_at dksX8_keepReading_2 19 rfl rfl)
theorem dX8_keepReading_67 : decode cX8_keepReading 67 = .ok (.iadd, 1) := dk_96 (dk_at dksX8_keepReading_2 20 rfl rfl)
theorem dX8_keepReading_68 : decode cX8_keepReading 68 = .ok (.iaload, 1) := dk_46 (dk_at dksX8_keepReading_2 21 rfl rfl)
theorem dX8_keepReading_69 : decode cX8_keepReading 69 = .ok (.iastore, 1) := dk_79 (dk_at dksX8_keepReading_2 22 rfl rfl)
theorem dX8_keepReading_70 : decode cX8_keepReading 70 = .ok (.aload_n 0, 1) := dk_42 (dk_at dksX8_keepReading_2 23 rfl rfl)
theorem dX8_keepReading_71 : decode cX8_keepReading 71 = .ok (.getfield 19, 3) := dk_180 0 19 (dk_at dksX8_keepReading_3 0 rfl rfl)
theorem dX8_keepReading_74 : decode cX8_keepReading 74 = .ok (.iload_n 1, 1) := dk_27 (dk_at dksX8_keepReading_3 3 rfl rfl)
theorem dX8_keepReading_75 : decode cX8_keepReading 75 = .ok (.aload_n 0, 1) := dk_42 (dk_at dksX8_keepReading_3 4 rfl rfl)
theorem dX8_keepReading_76 : decode cX8_keepReading 76 = .ok (.getfield 46, 3) := dk_180 0 46 (dk_at dksX8_keepReading_3 5 rfl rfl)
theorem dX8_keepReading_79 : decode cX8_keepReading 79 = .ok (.bipush 6, 2) := dk_16 6 (dk_at dksX8_keepReading_3 8 rfl rfl)
theorem dX8_keepReading_81 : decode cX8_keepReading 81 = .ok (.iload_n 1, 1) := dk_27 (dk_at dksX8_keepReading_3 10 rfl rfl)
theorem dX8_keepReading_82 : decode cX8_keepReading 82 = .ok (.imul, 1) := dk_104 (dk_at dksX8_keepReading_3 11 rfl rfl)
theorem dX8_keepReading_83 : decode cX8_keepReading 83 = .ok (.iconst 2, 1) := dk_5 (dk_at dksX8_keepReading_3 12 rfl rfl)
theorem dX8_keepReading_84 : decode cX8_keepReading 84 = .ok (.iadd, 1) := dk_96 (dk_at dksX8_keepReading_3 13 rfl rfl)
theorem dX8_keepReading_85 : decode cX8_keepReading 85 = .ok (.iaload, 1) := dk_46 (dk_at dksX8_keepReading_3 14 rfl rfl)
theorem dX8_keepReading_86 : decode cX8_keepReading 86 = .ok (.iastore, 1) := dk_79 (dk_at dksX8_keepReading_3 15 rfl rfl)
theorem dX8_keepReading_87 : decode cX8_keepReading 87 = .ok (.aload_n 0, 1) := dk_42 (dk_at dksX8_keepReading_3 16 rfl rfl)
theorem dX8_keepReading_88 : decode cX8_keepReading 88 = .ok (.getfield 22, 3) := dk_180 0 22 (dk_at dksX8_keepReading_3 17 rfl rfl)
theorem dX8_keepReading_91 : decode cX8_keepReading 91 = .ok (.iload_n 1, 1) := dk_27 (dk_at dksX8_keepReading_3 20 rfl rfl)
theorem dX8_keepReading_92 : decode cX8_keepReading 92 = .ok (.aload_n 0, 1) := dk_42 (dk_at dksX8_keepReading_3 21 rfl rfl)
theorem dX8_keepReading_93 : decode cX8_keepReading 93 = .ok (.getfield 46, 3) := dk_180 0 46 (dk_at dksX8_keepReading_4 0 rfl rfl)
theorem dX8_keepReading_96 : decode cX8_keepReading 96 = .ok (.bipush 6, 2) := dk_16 6 (dk_at dksX8_keepReading_4 3 rfl rfl)
theorem dX8_keepReading_98 : decode cX8_keepReading 98 = .ok (.iload_n 1, 1) := dk_27 (dk_at dksX8_keepReading_4 5 rfl rfl)
theorem dX8_keepReading_99 : decode cX8_keepReading 99 = .ok (.imul, 1) := dk_104 (dk_at dksX8_keepReading_4 6 rfl rfl)
theorem dX8_keepReading_100 : decode cX8_keepReading 100 = .ok (.iconst 3, 1) := dk_6 (dk_at dksX8_keepReading_4 7 rfl rfl)
theorem dX8_keepReading_101 : decode cX8_keepReading 101 = .ok (.iadd, 1) := dk_96 (dk_at dksX8_keepReading_4 8 rfl rfl)
theorem dX8_keepReading_102 : decode cX8_keepReading 102 = .ok (.iaload, 1) := dk_46 (dk_at dksX8_keepReading_4 9 rfl rfl)
theorem dX8_keepReading_103 : decode cX8_keepReading 103 = .ok (.iastore, 1) := dk_79 (dk_at dksX8_keepReading_4 10 rfl rfl)
theorem dX8_keepReading_104 : decode cX8_keepReading 104 = .ok (.aload_n 0, 1) := dk_42 (dk_at dksX8_keepReading_4 11 rfl rfl)
theorem dX8_keepReading_105 : decode cX8_keepReading 105 = .ok (.getfield 25, 3) := dk_180 0 25 (dk_at dksX8_keepReading_4 12 rfl rfl)
theorem dX8_keepReading_108 : decode cX8_keepReading 108 = .ok (.iload_n 1, 1) := dk_27 (dk_at dksX8_keepReading_4 15 rfl rfl)
theorem dX8_keepReading_109 : decode cX8_keepReading 109 = .ok (.aload_n 0, 1) := dk_42 (dk_at dksX8_keepReading_4 16 rfl rfl)
theorem dX8_keepReading_110 : decode cX8_keepReading 110 = .ok (.getfield 46, 3) := dk_180 0 46 (dk_at dksX8_keepReading_4 17 rfl rfl)
theorem dX8_keepReading_113 : decode cX8_keepReading 113 = .ok (.bipush 6, 2) := dk_16 6 (dk_at dksX8_keepReading_4 20 rfl rfl)
theorem dX8_keepReading_115 : decode cX8_keepReading 115 = .ok (.iload_n 1, 1) := dk_27 (dk_at dksX8_keepReading_4 22 rfl rfl)
theorem dX8_keepReading_116 : decode cX8_keepReading 116 = .ok (.imul, 1) := dk_104 (dk_at dksX8_keepReading_4 23 rfl rfl)
theorem dX8_keepReading_117 : decode cX8_keepReading 117 = .ok (.iconst 4, 1) := dk_7 (dk_at dksX8_keepReading_5 0 rfl rfl)
theorem dX8_keepReading_118 : decode cX8_keepReading 118 = .ok (.iadd, 1) := dk_96 (dk_at dksX8_keepReading_5 1 rfl rfl)
theorem dX8_keepReading_119 : decode cX8_keepReading 119 = .ok (.iaload, 1) := dk_46 (dk_at dksX8_keepReading_5 2 rfl rfl)
theorem dX8_keepReading_120 : decode cX8_keepReading 120 = .ok (.iastore, 1) := dk_79 (dk_at dksX8_keepReading_5 3 rfl rfl)
theorem dX8_keepReading_121 : decode cX8_keepReading 121 = .ok (.aload_n 0, 1) := dk_42 (dk_at dksX8_keepReading_5 4 rfl rfl)
theorem dX8_keepReading_122 : decode cX8_keepReading 122 = .ok (.getfield 28, 3) := dk_180 0 28 (dk_at dksX8_keepReading_5 5 rfl rfl)
theorem dX8_keepReading_125 : decode cX8_keepReading 125 = .ok (.iload_n 1, 1) := dk_27 (dk_at dksX8_keepReading_5 8 rfl rfl)
theorem dX8_keepReading_126 : decode cX8_keepReading 126 = .ok (.aload_n 0, 1) := dk_42 (dk_at dksX8_keepReading_5 9 rfl rfl)
theorem dX8_keepReading_127 : decode cX8_keepReading 127 = .ok (.getfield 46, 3) := dk_180 0 46 (dk_at dksX8_keepReading_5 10 rfl rfl)
theorem dX8_keepReading_130 : decode cX8_keepReading 130 = .ok (.bipush 6, 2) := dk_16 6 (dk_at dksX8_keepReading_5 13 rfl rfl)
theorem dX8_keepReading_132 : decode cX8_keepReading 132 = .ok (.iload_n 1, 1) := dk_27 (dk_at dksX8_keepReading_5 15 rfl rfl)
theorem dX8_keepReading_133 : decode cX8_keepReading 133 = .ok (.imul, 1) := dk_104 (dk_at dksX8_keepReading_5 16 rfl rfl)
theorem dX8_keepReading_134 : decode cX8_keepReading 134 = .ok (.iconst 5, 1) := dk_8 (dk_at dksX8_keepReading_5 17 rfl rfl)
theorem dX8_keepReading_135 : decode cX8_keepReading 135 = .ok (.iadd, 1) := dk_96 (dk_at dksX8_keepReading_5 18 rfl rfl)
theorem dX8_keepReading_136 : decode cX8_keepReading 136 = .ok (.iaload, 1) := dk_46 (dk_at dksX8_keepReading_5 19 rfl rfl)
theorem dX8_keepReading_137 : decode cX8_keepReading 137 = .ok (.iastore, 1) := dk_79 (dk_at dksX8_keepReading_5 20 rfl rfl)
theorem dX8_keepReading_138 : decode cX8_keepReading 138 = .ok (.iinc 1 1, 3) := dk_132 1 1 (dk_at dksX8_keepReading_5 21 rfl rfl)
theorem dX8_keepReading_141 : decode cX8_keepReading 141 = .ok (.goto (-123), 3) := dk_167 255 133 (dk_at dksX8_keepReading_6 0 rfl rfl)
theorem dX8_keepReading_144 : decode cX8_keepReading 144 = .ok (.iconst 0, 1) := dk_3 (dk_at dksX8_keepReading_6 3 rfl rfl)
theorem dX8_keepReading_145 : decode cX8_keepReading 145 = .ok (.istore_n 1, 1) := dk_60 (dk_at dksX8_keepReading_6 4 rfl rfl)
theorem dX8_keepReading_146 : decode cX8_keepReading 146 = .ok (.iload_n 1, 1) := dk_27 (dk_at dksX8_keepReading_6 5 rfl rfl)
theorem dX8_keepReading_147 : decode cX8_keepReading 147 = .ok (.aload_n 0, 1) := dk_42 (dk_at dksX8_keepReading_6 6 rfl rfl)
theorem dX8_keepReading_148 : decode cX8_keepReading 148 = .ok (.getfield 158, 3) := dk_180 0 158 (dk_at dksX8_keepReading_6 7 rfl rfl)
theorem dX8_keepReading_151 : decode cX8_keepReading 151 = .ok (.if_icmp .ge 21, 3) := dk_162 0 21 (dk_at dksX8_keepReading_6 10 rfl rfl)
theorem dX8_keepReading_154 : decode cX8_keepReading 154 = .ok (.aload_n 0, 1) := dk_42 (dk_at dksX8_keepReading_6 13 rfl rfl)
theorem dX8_keepReading_155 : decode cX8_keepReading 155 = .ok (.getfield 35, 3) := dk_180 0 35 (dk_at dksX8_keepReading_6 14 rfl rfl)
theorem dX8_keepReading_158 : decode cX8_keepReading 158 = .ok (.iload_n 1, 1) := dk_27 (dk_at dksX8_keepReading_6 17 rfl rfl)
theorem dX8_keepReading_159 : decode cX8_keepReading 159 = .ok (.aload_n 0, 1) := dk_42 (dk_at dksX8_keepReading_6 18 rfl rfl)
theorem dX8_keepReading_160 : decode cX8_keepReading 160 = .ok (.getfield 52, 3) := dk_180 0 52 (dk_at dksX8_keepReading_6 19 rfl rfl)
theorem dX8_keepReading_163 : decode cX8_keepReading 163 = .ok (.iload_n 1, 1) := dk_27 (dk_at dksX8_keepReading_6 22 rfl rfl)
theorem dX8_keepReading_164 : decode cX8_keepReading 164 = .ok (.iaload, 1) := dk_46 (dk_at dksX8_keepReading_6 23 rfl rfl)
theorem dX8_keepReading_165 : decode cX8_keepReading 165 = .ok (.iastore, 1) := dk_79 (dk_at dksX8_keepReading_7 0 rfl rfl)
theorem dX8_keepReading_166 : decode cX8_keepReading 166 = .ok (.iinc 1 1, 3) := dk_132 1 1 (dk_at dksX8_keepReading_7 1 rfl rfl)
theorem dX8_keepReading_169 : decode cX8_keepReading 169 = .ok (.goto (-23), 3) := dk_167 255 233 (dk_at dksX8_keepReading_7 4 rfl rfl)
theorem dX8_keepReading_172 : decode cX8_keepReading 172 = .ok (.aload_n 0, 1) := dk_42 (dk_at dksX8_keepReading_7 7 rfl rfl)
theorem dX8_keepReading_173 : decode cX8_keepReading 173 = .ok (.iconst 1, 1) := dk_4 (dk_at dksX8_keepReading_7 8 rfl rfl)
theorem dX8_keepReading_174 : decode cX8_keepReading 174 = .ok (.iconst 0, 1) := dk_3 (dk_at dksX8_keepReading_7 9 rfl rfl)
theorem dX8_keepReading_175 : decode cX8_keepReading 175 = .ok (.invokevirtual 246, 3) := dk_182 0 246 (dk_at dksX8_keepReading_7 10 rfl rfl)
theorem dX8_keepReading_178 : decode cX8_keepReading 178 = .ok (.aload_n 0, 1) := dk_42 (dk_at dksX8_keepReading_7 13 rfl rfl)
theorem dX8_keepReading_179 : decode cX8_keepReading 179 = .ok (.iconst 0, 1) := dk_3 (dk_at dksX8_keepReading_7 14 rfl rfl)
theorem dX8_keepReading_180 : decode cX8_keepReading 180 = .ok (.putfield 250, 3) := dk_181 0 250 (dk_at dksX8_keepReading_7 15 rfl rfl)
theorem dX8_keepReading_183 : decode cX8_keepReading 183 = .ok (.aload_n 0, 1) := dk_42 (dk_at dksX8_keepReading_7 18 rfl rfl)
theorem dX8_keepReading_184 : decode cX8_keepReading 184 = .ok (.iconst 0, 1) := dk_3 (dk_at dksX8_keepReading_7 19 rfl rfl)
theorem dX8_keepReading_185 : decode cX8_keepReading 185 = .ok (.putfield 253, 3) := dk_181 0 253 (dk_at dksX8_keepReading_7 20 rfl rfl)
theorem dX8_keepReading_188 : decode cX8_keepReading 188 = .ok (.return_, 1) := dk_177 (dk_at dksX8_keepReading_7 23 rfl rfl)
abbrev cX8_copyRow : ByteArray := prog_13_method_115_code
def yX8_copyRow : MethodName := ⟨RX8, "copyRow", "(II)V"⟩
def dkwX8_copyRow_1 : List UInt8 := [27, 104, 29, 96, 46, 79, 132, 3, 1, 167, 255, 225, 177]
abbrev dktX8_copyRow_1 : List UInt8 := dkwX8_copyRow_1 ++ []
def dkwX8_copyRow_0 : List UInt8 := [3, 62, 29, 16, 70, 162, 0, 31, 42, 180, 0, 7, 16, 70, 28, 104, 29, 96, 42, 180, 0, 7, 16, 70]
abbrev dktX8_copyRow_0 : List UInt8 := dkwX8_copyRow_0 ++ dktX8_copyRow_1
theorem dksX8_copyRow_0 : cX8_copyRow.data.toList.drop 0 = dktX8_copyRow_0 := by decide +kernel
theorem dksX8_copyRow_1 : cX8_copyRow.data.toList.drop 24 = dktX8_copyRow_1 := dk_seg dksX8_copyRow_0 24 rfl rfl
theorem dX8_copyRow_0 : decode cX8_copyRow 0 = .ok (.iconst 0, 1) := dk_3 (dk_at dksX8_copyRow_0 0 rfl rfl)
theorem dX8_copyRow_1 : decode cX8_copyRow 1 = .ok (.istore_n 3, 1) := dk_62 (dk_at dksX8_copyRow_0 1 rfl rfl)
theorem dX8_copyRow_2 : decode cX8_copyRow 2 = .ok (.iload_n 3, 1) := dk_29 (dk_at dksX8_copyRow_0 2 rfl rfl)
theorem dX8_copyRow_3 : decode cX8_copyRow 3 = .ok (.bipush 70, 2) := dk_16 70 (dk_at dksX8_copyRow_0 3 rfl rfl)
theorem dX8_copyRow_5 : decode cX8_copyRow 5 = .ok (.if_icmp .ge 31, 3) := dk_162 0 31 (dk_at dksX8_copyRow_0 5 rfl rfl)
theorem dX8_copyRow_8 : decode cX8_copyRow 8 = .ok (.aload_n 0, 1) := dk_42 (dk_at dksX8_copyRow_0 8 rfl rfl)
theorem dX8_copyRow_9 : decode cX8_copyRow 9 = .ok (.getfield 7, 3) := dk_180 0 7 (dk_at dksX8_copyRow_0 9 rfl rfl)
theorem dX8_copyRow_12 : decode cX8_copyRow 12 = .ok (.bipush 70, 2) := dk_16 70 (dk_at dksX8_copyRow_0 12 rfl rfl)
theorem dX8_copyRow_14 : decode cX8_copyRow 14 = .ok (.iload_n 2, 1) := dk_28 (dk_at dksX8_copyRow_0 14 rfl rfl)
theorem dX8_copyRow_15 : decode cX8_copyRow 15 = .ok (.imul, 1) := dk_104 (dk_at dksX8_copyRow_0 15 rfl rfl)
theorem dX8_copyRow_16 : decode cX8_copyRow 16 = .ok (.iload_n 3, 1) := dk_29 (dk_at dksX8_copyRow_0 16 rfl rfl)
theorem dX8_copyRow_17 : decode cX8_copyRow 17 = .ok (.iadd, 1) := dk_96 (dk_at dksX8_copyRow_0 17 rfl rfl)
theorem dX8_copyRow_18 : decode cX8_copyRow 18 = .ok (.aload_n 0, 1) := dk_42 (dk_at dksX8_copyRow_0 18 rfl rfl)
theorem dX8_copyRow_19 : decode cX8_copyRow 19 = .ok (.getfield 7, 3) := dk_180 0 7 (dk_at dksX8_copyRow_0 19 rfl rfl)
theorem dX8_copyRow_22 : decode cX8_copyRow 22 = .ok (.bipush 70, 2) := dk_16 70 (dk_at dksX8_copyRow_0 22 rfl rfl)
theorem dX8_copyRow_24 : decode cX8_copyRow 24 = .ok (.iload_n 1, 1) := dk_27 (dk_at dksX8_copyRow_1 0 rfl rfl)
theorem dX8_copyRow_25 : decode cX8_copyRow 25 = .ok (.imul, 1) := dk_104 (dk_at dksX8_copyRow_1 1 rfl rfl)
theorem dX8_copyRow_26 : decode cX8_copyRow 26 = .ok (.iload_n 3, 1) := dk_29 (dk_at dksX8_copyRow_1 2 rfl rfl)
theorem dX8_copyRow_27 : decode cX8_copyRow 27 = .ok (.iadd, 1) := dk_96 (dk_at dksX8_copyRow_1 3 rfl rfl)
theorem dX8_copyRow_28 : decode cX8_copyRow 28 = .ok (.iaload, 1) := dk_46 (dk_at dksX8_copyRow_1 4 rfl rfl)
theorem dX8_copyRow_29 : decode cX8_copyRow 29 = .ok (.iastore, 1) := dk_79 (dk_at dksX8_copyRow_1 5 rfl rfl)
theorem dX8_copyRow_30 : decode cX8_copyRow 30 = .ok (.iinc 3 1, 3) := dk_132 3 1 (dk_at dksX8_copyRow_1 6 rfl rfl)
theorem dX8_copyRow_33 : decode cX8_copyRow 33 = .ok (.goto (-31), 3) := dk_167 255 225 (dk_at dksX8_copyRow_1 9 rfl rfl)
theorem dX8_copyRow_36 : decode cX8_copyRow 36 = .ok (.return_, 1) := dk_177 (dk_at dksX8_copyRow_1 12 rfl rfl)
abbrev cX8_thrown : ByteArray := prog_13_method_2_code
def yX8_thrown : MethodName := ⟨RX8, "thrown", "()I"⟩
theorem dX8_thrown_0 : decode cX8_thrown 0 = .ok (.aload_n 0, 1) := by decide +kernel
theorem dX8_thrown_1 : decode cX8_thrown 1 = .ok (.getfield 137, 3) := by decide +kernel
theorem dX8_thrown_4 : decode cX8_thrown 4 = .ok (.ireturn, 1) := by decide +kernel
abbrev cX8_append : ByteArray := prog_13_method_18_code
def yX8_append : MethodName := ⟨RX8, "append", "(IIIII)I"⟩
def dkwX8_append_2 : List UInt8 := [182, 0, 167, 42, 180, 0, 161, 172]
abbrev dktX8_append_2 : List UInt8 := dkwX8_append_2 ++ []
def dkwX8_append_1 : List UInt8 := [42, 27, 182, 0, 167, 42, 28, 182, 0, 167, 42, 29, 182, 0, 167, 42, 21, 4, 182, 0, 167, 42, 21, 5]
abbrev dktX8_append_1 : List UInt8 := dkwX8_append_1 ++ dktX8_append_2
def dkwX8_append_0 : List UInt8 := [42, 3, 181, 0, 137, 42, 180, 0, 161, 16, 20, 96, 17, 2, 188, 164, 0, 9, 42, 4, 182, 0, 164, 172]
abbrev dktX8_append_0 : List UInt8 := dkwX8_append_0 ++ dktX8_append_1
theorem dksX8_append_0 : cX8_append.data.toList.drop 0 = dktX8_append_0 := by decide +kernel
theorem dksX8_append_1 : cX8_append.data.toList.drop 24 = dktX8_append_1 := dk_seg dksX8_append_0 24 rfl rfl
theorem dksX8_append_2 : cX8_append.data.toList.drop 48 = dktX8_append_2 := dk_seg dksX8_append_1 24 rfl rfl
theorem dX8_append_0 : decode cX8_append 0 = .ok (.aload_n 0, 1) := dk_42 (dk_at dksX8_append_0 0 rfl rfl)
theorem dX8_append_1 : decode cX8_append 1 = .ok (.iconst 0, 1) := dk_3 (dk_at dksX8_append_0 1 rfl rfl)
theorem dX8_append_2 : decode cX8_append 2 = .ok (.putfield 137, 3) := dk_181 0 137 (dk_at dksX8_append_0 2 rfl rfl)
theorem dX8_append_5 : decode cX8_append 5 = .ok (.aload_n 0, 1) := dk_42 (dk_at dksX8_append_0 5 rfl rfl)
theorem dX8_append_6 : decode cX8_append 6 = .ok (.getfield 161, 3) := dk_180 0 161 (dk_at dksX8_append_0 6 rfl rfl)
theorem dX8_append_9 : decode cX8_append 9 = .ok (.bipush 20, 2) := dk_16 20 (dk_at dksX8_append_0 9 rfl rfl)
theorem dX8_append_11 : decode cX8_append 11 = .ok (.iadd, 1) := dk_96 (dk_at dksX8_append_0 11 rfl rfl)
theorem dX8_append_12 : decode cX8_append 12 = .ok (.sipush 700, 3) := dk_17 2 188 (dk_at dksX8_append_0 12 rfl rfl)
theorem dX8_append_15 : decode cX8_append 15 = .ok (.if_icmp .le 9, 3) := dk_164 0 9 (dk_at dksX8_append_0 15 rfl rfl)
theorem dX8_append_18 : decode cX8_append 18 = .ok (.aload_n 0, 1) := dk_42 (dk_at dksX8_append_0 18 rfl rfl)
theorem dX8_append_19 : decode cX8_append 19 = .ok (.iconst 1, 1) := dk_4 (dk_at dksX8_append_0 19 rfl rfl)
theorem dX8_append_20 : decode cX8_append 20 = .ok (.invokevirtual 164, 3) := dk_182 0 164 (dk_at dksX8_append_0 20 rfl rfl)
theorem dX8_append_23 : decode cX8_append 23 = .ok (.ireturn, 1) := dk_172 (dk_at dksX8_append_0 23 rfl rfl)
theorem dX8_append_24 : decode cX8_append 24 = .ok (.aload_n 0, 1) := dk_42 (dk_at dksX8_append_1 0 rfl rfl)
theorem dX8_append_25 : decode cX8_append 25 = .ok (.iload_n 1, 1) := dk_27 (dk_at dksX8_append_1 1 rfl rfl)
theorem dX8_append_26 : decode cX8_append 26 = .ok (.invokevirtual 167, 3) := dk_182 0 167 (dk_at dksX8_append_1 2 rfl rfl)
theorem dX8_append_29 : decode cX8_append 29 = .ok (.aload_n 0, 1) := dk_42 (dk_at dksX8_append_1 5 rfl rfl)
theorem dX8_append_30 : decode cX8_append 30 = .ok (.iload_n 2, 1) := dk_28 (dk_at dksX8_append_1 6 rfl rfl)
theorem dX8_append_31 : decode cX8_append 31 = .ok (.invokevirtual 167, 3) := dk_182 0 167 (dk_at dksX8_append_1 7 rfl rfl)
theorem dX8_append_34 : decode cX8_append 34 = .ok (.aload_n 0, 1) := dk_42 (dk_at dksX8_append_1 10 rfl rfl)
theorem dX8_append_35 : decode cX8_append 35 = .ok (.iload_n 3, 1) := dk_29 (dk_at dksX8_append_1 11 rfl rfl)
theorem dX8_append_36 : decode cX8_append 36 = .ok (.invokevirtual 167, 3) := dk_182 0 167 (dk_at dksX8_append_1 12 rfl rfl)
theorem dX8_append_39 : decode cX8_append 39 = .ok (.aload_n 0, 1) := dk_42 (dk_at dksX8_append_1 15 rfl rfl)
theorem dX8_append_40 : decode cX8_append 40 = .ok (.iload 4, 2) := dk_21 4 (dk_at dksX8_append_1 16 rfl rfl)
theorem dX8_append_42 : decode cX8_append 42 = .ok (.invokevirtual 167, 3) := dk_182 0 167 (dk_at dksX8_append_1 18 rfl rfl)
theorem dX8_append_45 : decode cX8_append 45 = .ok (.aload_n 0, 1) := dk_42 (dk_at dksX8_append_1 21 rfl rfl)
theorem dX8_append_46 : decode cX8_append 46 = .ok (.iload 5, 2) := dk_21 5 (dk_at dksX8_append_1 22 rfl rfl)
theorem dX8_append_48 : decode cX8_append 48 = .ok (.invokevirtual 167, 3) := dk_182 0 167 (dk_at dksX8_append_2 0 rfl rfl)
theorem dX8_append_51 : decode cX8_append 51 = .ok (.aload_n 0, 1) := dk_42 (dk_at dksX8_append_2 3 rfl rfl)
theorem dX8_append_52 : decode cX8_append 52 = .ok (.getfield 161, 3) := dk_180 0 161 (dk_at dksX8_append_2 4 rfl rfl)
theorem dX8_append_55 : decode cX8_append 55 = .ok (.ireturn, 1) := dk_172 (dk_at dksX8_append_2 7 rfl rfl)
abbrev cX8_fails : ByteArray := prog_13_method_3_code
def yX8_fails : MethodName := ⟨RX8, "fails", "(I)I"⟩
def dkwX8_fails_0 : List UInt8 := [42, 27, 181, 0, 137, 3, 172]
abbrev dktX8_fails_0 : List UInt8 := dkwX8_fails_0 ++ []
theorem dksX8_fails_0 : cX8_fails.data.toList.drop 0 = dktX8_fails_0 := by decide +kernel
theorem dX8_fails_0 : decode cX8_fails 0 = .ok (.aload_n 0, 1) := dk_42 (dk_at dksX8_fails_0 0 rfl rfl)
theorem dX8_fails_1 : decode cX8_fails 1 = .ok (.iload_n 1, 1) := dk_27 (dk_at dksX8_fails_0 1 rfl rfl)
theorem dX8_fails_2 : decode cX8_fails 2 = .ok (.putfield 137, 3) := dk_181 0 137 (dk_at dksX8_fails_0 2 rfl rfl)
theorem dX8_fails_5 : decode cX8_fails 5 = .ok (.iconst 0, 1) := dk_3 (dk_at dksX8_fails_0 5 rfl rfl)
theorem dX8_fails_6 : decode cX8_fails 6 = .ok (.ireturn, 1) := dk_172 (dk_at dksX8_fails_0 6 rfl rfl)
abbrev cX8_put : ByteArray := prog_13_method_17_code
def yX8_put : MethodName := ⟨RX8, "put", "(I)V"⟩
def dkwX8_put_2 : List UInt8 := [180, 0, 38, 42, 180, 0, 161, 6, 96, 27, 145, 84, 42, 89, 180, 0, 161, 7, 96, 181, 0, 161, 177]
abbrev dktX8_put_2 : List UInt8 := dkwX8_put_2 ++ []
def dkwX8_put_1 : List UInt8 := [27, 16, 16, 122, 145, 84, 42, 180, 0, 38, 42, 180, 0, 161, 5, 96, 27, 16, 8, 122, 145, 84, 42]
abbrev dktX8_put_1 : List UInt8 := dkwX8_put_1 ++ dktX8_put_2
def dkwX8_put_0 : List UInt8 := [42, 180, 0, 38, 42, 180, 0, 161, 27, 16, 24, 122, 145, 84, 42, 180, 0, 38, 42, 180, 0, 161, 4, 96]
abbrev dktX8_put_0 : List UInt8 := dkwX8_put_0 ++ dktX8_put_1
theorem dksX8_put_0 : cX8_put.data.toList.drop 0 = dktX8_put_0 := by decide +kernel
theorem dksX8_put_1 : cX8_put.data.toList.drop 24 = dktX8_put_1 := dk_seg dksX8_put_0 24 rfl rfl
theorem dksX8_put_2 : cX8_put.data.toList.drop 47 = dktX8_put_2 := dk_seg dksX8_put_1 23 rfl rfl
theorem dX8_put_0 : decode cX8_put 0 = .ok (.aload_n 0, 1) := dk_42 (dk_at dksX8_put_0 0 rfl rfl)
theorem dX8_put_1 : decode cX8_put 1 = .ok (.getfield 38, 3) := dk_180 0 38 (dk_at dksX8_put_0 1 rfl rfl)
theorem dX8_put_4 : decode cX8_put 4 = .ok (.aload_n 0, 1) := dk_42 (dk_at dksX8_put_0 4 rfl rfl)
theorem dX8_put_5 : decode cX8_put 5 = .ok (.getfield 161, 3) := dk_180 0 161 (dk_at dksX8_put_0 5 rfl rfl)
theorem dX8_put_8 : decode cX8_put 8 = .ok (.iload_n 1, 1) := dk_27 (dk_at dksX8_put_0 8 rfl rfl)
theorem dX8_put_9 : decode cX8_put 9 = .ok (.bipush 24, 2) := dk_16 24 (dk_at dksX8_put_0 9 rfl rfl)
theorem dX8_put_11 : decode cX8_put 11 = .ok (.ishr, 1) := dk_122 (dk_at dksX8_put_0 11 rfl rfl)
theorem dX8_put_12 : decode cX8_put 12 = .ok (.i2b, 1) := dk_145 (dk_at dksX8_put_0 12 rfl rfl)
theorem dX8_put_13 : decode cX8_put 13 = .ok (.bastore, 1) := dk_84 (dk_at dksX8_put_0 13 rfl rfl)
theorem dX8_put_14 : decode cX8_put 14 = .ok (.aload_n 0, 1) := dk_42 (dk_at dksX8_put_0 14 rfl rfl)
theorem dX8_put_15 : decode cX8_put 15 = .ok (.getfield 38, 3) := dk_180 0 38 (dk_at dksX8_put_0 15 rfl rfl)
theorem dX8_put_18 : decode cX8_put 18 = .ok (.aload_n 0, 1) := dk_42 (dk_at dksX8_put_0 18 rfl rfl)
theorem dX8_put_19 : decode cX8_put 19 = .ok (.getfield 161, 3) := dk_180 0 161 (dk_at dksX8_put_0 19 rfl rfl)
theorem dX8_put_22 : decode cX8_put 22 = .ok (.iconst 1, 1) := dk_4 (dk_at dksX8_put_0 22 rfl rfl)
theorem dX8_put_23 : decode cX8_put 23 = .ok (.iadd, 1) := dk_96 (dk_at dksX8_put_0 23 rfl rfl)
theorem dX8_put_24 : decode cX8_put 24 = .ok (.iload_n 1, 1) := dk_27 (dk_at dksX8_put_1 0 rfl rfl)
theorem dX8_put_25 : decode cX8_put 25 = .ok (.bipush 16, 2) := dk_16 16 (dk_at dksX8_put_1 1 rfl rfl)
theorem dX8_put_27 : decode cX8_put 27 = .ok (.ishr, 1) := dk_122 (dk_at dksX8_put_1 3 rfl rfl)
theorem dX8_put_28 : decode cX8_put 28 = .ok (.i2b, 1) := dk_145 (dk_at dksX8_put_1 4 rfl rfl)
theorem dX8_put_29 : decode cX8_put 29 = .ok (.bastore, 1) := dk_84 (dk_at dksX8_put_1 5 rfl rfl)
theorem dX8_put_30 : decode cX8_put 30 = .ok (.aload_n 0, 1) := dk_42 (dk_at dksX8_put_1 6 rfl rfl)
theorem dX8_put_31 : decode cX8_put 31 = .ok (.getfield 38, 3) := dk_180 0 38 (dk_at dksX8_put_1 7 rfl rfl)
theorem dX8_put_34 : decode cX8_put 34 = .ok (.aload_n 0, 1) := dk_42 (dk_at dksX8_put_1 10 rfl rfl)
theorem dX8_put_35 : decode cX8_put 35 = .ok (.getfield 161, 3) := dk_180 0 161 (dk_at dksX8_put_1 11 rfl rfl)
theorem dX8_put_38 : decode cX8_put 38 = .ok (.iconst 2, 1) := dk_5 (dk_at dksX8_put_1 14 rfl rfl)
theorem dX8_put_39 : decode cX8_put 39 = .ok (.iadd, 1) := dk_96 (dk_at dksX8_put_1 15 rfl rfl)
theorem dX8_put_40 : decode cX8_put 40 = .ok (.iload_n 1, 1) := dk_27 (dk_at dksX8_put_1 16 rfl rfl)
theorem dX8_put_41 : decode cX8_put 41 = .ok (.bipush 8, 2) := dk_16 8 (dk_at dksX8_put_1 17 rfl rfl)
theorem dX8_put_43 : decode cX8_put 43 = .ok (.ishr, 1) := dk_122 (dk_at dksX8_put_1 19 rfl rfl)
theorem dX8_put_44 : decode cX8_put 44 = .ok (.i2b, 1) := dk_145 (dk_at dksX8_put_1 20 rfl rfl)
theorem dX8_put_45 : decode cX8_put 45 = .ok (.bastore, 1) := dk_84 (dk_at dksX8_put_1 21 rfl rfl)
theorem dX8_put_46 : decode cX8_put 46 = .ok (.aload_n 0, 1) := dk_42 (dk_at dksX8_put_1 22 rfl rfl)
theorem dX8_put_47 : decode cX8_put 47 = .ok (.getfield 38, 3) := dk_180 0 38 (dk_at dksX8_put_2 0 rfl rfl)
theorem dX8_put_50 : decode cX8_put 50 = .ok (.aload_n 0, 1) := dk_42 (dk_at dksX8_put_2 3 rfl rfl)
theorem dX8_put_51 : decode cX8_put 51 = .ok (.getfield 161, 3) := dk_180 0 161 (dk_at dksX8_put_2 4 rfl rfl)
theorem dX8_put_54 : decode cX8_put 54 = .ok (.iconst 3, 1) := dk_6 (dk_at dksX8_put_2 7 rfl rfl)
theorem dX8_put_55 : decode cX8_put 55 = .ok (.iadd, 1) := dk_96 (dk_at dksX8_put_2 8 rfl rfl)
theorem dX8_put_56 : decode cX8_put 56 = .ok (.iload_n 1, 1) := dk_27 (dk_at dksX8_put_2 9 rfl rfl)
theorem dX8_put_57 : decode cX8_put 57 = .ok (.i2b, 1) := dk_145 (dk_at dksX8_put_2 10 rfl rfl)
theorem dX8_put_58 : decode cX8_put 58 = .ok (.bastore, 1) := dk_84 (dk_at dksX8_put_2 11 rfl rfl)
theorem dX8_put_59 : decode cX8_put 59 = .ok (.aload_n 0, 1) := dk_42 (dk_at dksX8_put_2 12 rfl rfl)
theorem dX8_put_60 : decode cX8_put 60 = .ok (.dup, 1) := dk_89 (dk_at dksX8_put_2 13 rfl rfl)
theorem dX8_put_61 : decode cX8_put 61 = .ok (.getfield 161, 3) := dk_180 0 161 (dk_at dksX8_put_2 14 rfl rfl)
theorem dX8_put_64 : decode cX8_put 64 = .ok (.iconst 4, 1) := dk_7 (dk_at dksX8_put_2 17 rfl rfl)
theorem dX8_put_65 : decode cX8_put 65 = .ok (.iadd, 1) := dk_96 (dk_at dksX8_put_2 18 rfl rfl)
theorem dX8_put_66 : decode cX8_put 66 = .ok (.putfield 161, 3) := dk_181 0 161 (dk_at dksX8_put_2 19 rfl rfl)
theorem dX8_put_69 : decode cX8_put 69 = .ok (.return_, 1) := dk_177 (dk_at dksX8_put_2 22 rfl rfl)
abbrev cX8_truncate : ByteArray := prog_13_method_19_code
def yX8_truncate : MethodName := ⟨RX8, "truncate", "(I)V"⟩
def dkwX8_truncate_1 : List UInt8 := [27, 181, 0, 161, 177]
abbrev dktX8_truncate_1 : List UInt8 := dkwX8_truncate_1 ++ []
def dkwX8_truncate_0 : List UInt8 := [42, 3, 181, 0, 137, 27, 3, 42, 180, 0, 161, 184, 0, 151, 154, 0, 9, 42, 4, 181, 0, 137, 177, 42]
abbrev dktX8_truncate_0 : List UInt8 := dkwX8_truncate_0 ++ dktX8_truncate_1
theorem dksX8_truncate_0 : cX8_truncate.data.toList.drop 0 = dktX8_truncate_0 := by decide +kernel
theorem dksX8_truncate_1 : cX8_truncate.data.toList.drop 24 = dktX8_truncate_1 := dk_seg dksX8_truncate_0 24 rfl rfl
theorem dX8_truncate_0 : decode cX8_truncate 0 = .ok (.aload_n 0, 1) := dk_42 (dk_at dksX8_truncate_0 0 rfl rfl)
theorem dX8_truncate_1 : decode cX8_truncate 1 = .ok (.iconst 0, 1) := dk_3 (dk_at dksX8_truncate_0 1 rfl rfl)
theorem dX8_truncate_2 : decode cX8_truncate 2 = .ok (.putfield 137, 3) := dk_181 0 137 (dk_at dksX8_truncate_0 2 rfl rfl)
theorem dX8_truncate_5 : decode cX8_truncate 5 = .ok (.iload_n 1, 1) := dk_27 (dk_at dksX8_truncate_0 5 rfl rfl)
theorem dX8_truncate_6 : decode cX8_truncate 6 = .ok (.iconst 0, 1) := dk_3 (dk_at dksX8_truncate_0 6 rfl rfl)
theorem dX8_truncate_7 : decode cX8_truncate 7 = .ok (.aload_n 0, 1) := dk_42 (dk_at dksX8_truncate_0 7 rfl rfl)
theorem dX8_truncate_8 : decode cX8_truncate 8 = .ok (.getfield 161, 3) := dk_180 0 161 (dk_at dksX8_truncate_0 8 rfl rfl)
theorem dX8_truncate_11 : decode cX8_truncate 11 = .ok (.invokestatic 151, 3) := dk_184 0 151 (dk_at dksX8_truncate_0 11 rfl rfl)
theorem dX8_truncate_14 : decode cX8_truncate 14 = .ok (.ifCond .ne 9, 3) := dk_154 0 9 (dk_at dksX8_truncate_0 14 rfl rfl)
theorem dX8_truncate_17 : decode cX8_truncate 17 = .ok (.aload_n 0, 1) := dk_42 (dk_at dksX8_truncate_0 17 rfl rfl)
theorem dX8_truncate_18 : decode cX8_truncate 18 = .ok (.iconst 1, 1) := dk_4 (dk_at dksX8_truncate_0 18 rfl rfl)
theorem dX8_truncate_19 : decode cX8_truncate 19 = .ok (.putfield 137, 3) := dk_181 0 137 (dk_at dksX8_truncate_0 19 rfl rfl)
theorem dX8_truncate_22 : decode cX8_truncate 22 = .ok (.return_, 1) := dk_177 (dk_at dksX8_truncate_0 22 rfl rfl)
theorem dX8_truncate_23 : decode cX8_truncate 23 = .ok (.aload_n 0, 1) := dk_42 (dk_at dksX8_truncate_0 23 rfl rfl)
theorem dX8_truncate_24 : decode cX8_truncate 24 = .ok (.iload_n 1, 1) := dk_27 (dk_at dksX8_truncate_1 0 rfl rfl)
theorem dX8_truncate_25 : decode cX8_truncate 25 = .ok (.putfield 161, 3) := dk_181 0 161 (dk_at dksX8_truncate_1 1 rfl rfl)
theorem dX8_truncate_28 : decode cX8_truncate 28 = .ok (.return_, 1) := dk_177 (dk_at dksX8_truncate_1 4 rfl rfl)
abbrev cX8_isIn : ByteArray := prog_13_method_4_code
def yX8_isIn : MethodName := ⟨RX8, "isIn", "(III)Z"⟩
def dkwX8_isIn_0 : List UInt8 := [26, 27, 161, 0, 12, 26, 28, 163, 0, 7, 4, 167, 0, 4, 3, 172]
abbrev dktX8_isIn_0 : List UInt8 := dkwX8_isIn_0 ++ []
theorem dksX8_isIn_0 : cX8_isIn.data.toList.drop 0 = dktX8_isIn_0 := by decide +kernel
theorem dX8_isIn_0 : decode cX8_isIn 0 = .ok (.iload_n 0, 1) := dk_26 (dk_at dksX8_isIn_0 0 rfl rfl)
theorem dX8_isIn_1 : decode cX8_isIn 1 = .ok (.iload_n 1, 1) := dk_27 (dk_at dksX8_isIn_0 1 rfl rfl)
theorem dX8_isIn_2 : decode cX8_isIn 2 = .ok (.if_icmp .lt 12, 3) := dk_161 0 12 (dk_at dksX8_isIn_0 2 rfl rfl)
theorem dX8_isIn_5 : decode cX8_isIn 5 = .ok (.iload_n 0, 1) := dk_26 (dk_at dksX8_isIn_0 5 rfl rfl)
theorem dX8_isIn_6 : decode cX8_isIn 6 = .ok (.iload_n 2, 1) := dk_28 (dk_at dksX8_isIn_0 6 rfl rfl)
theorem dX8_isIn_7 : decode cX8_isIn 7 = .ok (.if_icmp .gt 7, 3) := dk_163 0 7 (dk_at dksX8_isIn_0 7 rfl rfl)
theorem dX8_isIn_10 : decode cX8_isIn 10 = .ok (.iconst 1, 1) := dk_4 (dk_at dksX8_isIn_0 10 rfl rfl)
theorem dX8_isIn_11 : decode cX8_isIn 11 = .ok (.goto 4, 3) := dk_167 0 4 (dk_at dksX8_isIn_0 11 rfl rfl)
theorem dX8_isIn_14 : decode cX8_isIn 14 = .ok (.iconst 0, 1) := dk_3 (dk_at dksX8_isIn_0 14 rfl rfl)
theorem dX8_isIn_15 : decode cX8_isIn 15 = .ok (.ireturn, 1) := dk_172 (dk_at dksX8_isIn_0 15 rfl rfl)
abbrev cX8_load : ByteArray := prog_13_method_46_code
def yX8_load : MethodName := ⟨RX8, "load", "()I"⟩
def dkwX8_load_3 : List UInt8 := [154, 0, 9, 42, 4, 182, 0, 164, 172, 42, 182, 0, 134, 42, 182, 0, 147, 172]
abbrev dktX8_load_3 : List UInt8 := dkwX8_load_3 ++ []
def dkwX8_load_2 : List UInt8 := [153, 0, 10, 42, 182, 1, 41, 167, 255, 238, 42, 42, 180, 0, 213, 181, 0, 127, 42, 182, 0, 216]
abbrev dktX8_load_2 : List UInt8 := dkwX8_load_2 ++ dktX8_load_3
def dkwX8_load_1 : List UInt8 := [2, 181, 0, 213, 42, 182, 0, 131, 42, 182, 0, 220, 42, 182, 0, 216, 153, 0, 17, 42, 180, 0, 192]
abbrev dktX8_load_1 : List UInt8 := dkwX8_load_1 ++ dktX8_load_2
def dkwX8_load_0 : List UInt8 := [42, 3, 181, 0, 137, 42, 42, 180, 0, 161, 181, 0, 171, 42, 3, 181, 0, 161, 42, 3, 181, 0, 181, 42]
abbrev dktX8_load_0 : List UInt8 := dkwX8_load_0 ++ dktX8_load_1
theorem dksX8_load_0 : cX8_load.data.toList.drop 0 = dktX8_load_0 := by decide +kernel
theorem dksX8_load_1 : cX8_load.data.toList.drop 24 = dktX8_load_1 := dk_seg dksX8_load_0 24 rfl rfl
theorem dksX8_load_2 : cX8_load.data.toList.drop 47 = dktX8_load_2 := dk_seg dksX8_load_1 23 rfl rfl
theorem dksX8_load_3 : cX8_load.data.toList.drop 69 = dktX8_load_3 := dk_seg dksX8_load_2 22 rfl rfl
theorem dX8_load_0 : decode cX8_load 0 = .ok (.aload_n 0, 1) := dk_42 (dk_at dksX8_load_0 0 rfl rfl)
theorem dX8_load_1 : decode cX8_load 1 = .ok (.iconst 0, 1) := dk_3 (dk_at dksX8_load_0 1 rfl rfl)
theorem dX8_load_2 : decode cX8_load 2 = .ok (.putfield 137, 3) := dk_181 0 137 (dk_at dksX8_load_0 2 rfl rfl)
theorem dX8_load_5 : decode cX8_load 5 = .ok (.aload_n 0, 1) := dk_42 (dk_at dksX8_load_0 5 rfl rfl)
theorem dX8_load_6 : decode cX8_load 6 = .ok (.aload_n 0, 1) := dk_42 (dk_at dksX8_load_0 6 rfl rfl)
theorem dX8_load_7 : decode cX8_load 7 = .ok (.getfield 161, 3) := dk_180 0 161 (dk_at dksX8_load_0 7 rfl rfl)
theorem dX8_load_10 : decode cX8_load 10 = .ok (.putfield 171, 3) := dk_181 0 171 (dk_at dksX8_load_0 10 rfl rfl)
theorem dX8_load_13 : decode cX8_load 13 = .ok (.aload_n 0, 1) := dk_42 (dk_at dksX8_load_0 13 rfl rfl)
theorem dX8_load_14 : decode cX8_load 14 = .ok (.iconst 0, 1) := dk_3 (dk_at dksX8_load_0 14 rfl rfl)
theorem dX8_load_15 : decode cX8_load 15 = .ok (.putfield 161, 3) := dk_181 0 161 (dk_at dksX8_load_0 15 rfl rfl)
theorem dX8_load_18 : decode cX8_load 18 = .ok (.aload_n 0, 1) := dk_42 (dk_at dksX8_load_0 18 rfl rfl)
theorem dX8_load_19 : decode cX8_load 19 = .ok (.iconst 0, 1) := dk_3 (dk_at dksX8_load_0 19 rfl rfl)
theorem dX8_load_20 : decode cX8_load 20 = .ok (.putfield 181, 3) := dk_181 0 181 (dk_at dksX8_load_0 20 rfl rfl)
theorem dX8_load_23 : decode cX8_load 23 = .ok (.aload_n 0, 1) := dk_42 (dk_at dksX8_load_0 23 rfl rfl)
theorem dX8_load_24 : decode cX8_load 24 = .ok (.iconst (-1), 1) := dk_2 (dk_at dksX8_load_1 0 rfl rfl)
theorem dX8_load_25 : decode cX8_load 25 = .ok (.putfield 213, 3) := dk_181 0 213 (dk_at dksX8_load_1 1 rfl rfl)
theorem dX8_load_28 : decode cX8_load 28 = .ok (.aload_n 0, 1) := dk_42 (dk_at dksX8_load_1 4 rfl rfl)
theorem dX8_load_29 : decode cX8_load 29 = .ok (.invokevirtual 131, 3) := dk_182 0 131 (dk_at dksX8_load_1 5 rfl rfl)
theorem dX8_load_32 : decode cX8_load 32 = .ok (.aload_n 0, 1) := dk_42 (dk_at dksX8_load_1 8 rfl rfl)
theorem dX8_load_33 : decode cX8_load 33 = .ok (.invokevirtual 220, 3) := dk_182 0 220 (dk_at dksX8_load_1 9 rfl rfl)
theorem dX8_load_36 : decode cX8_load 36 = .ok (.aload_n 0, 1) := dk_42 (dk_at dksX8_load_1 12 rfl rfl)
theorem dX8_load_37 : decode cX8_load 37 = .ok (.invokevirtual 216, 3) := dk_182 0 216 (dk_at dksX8_load_1 13 rfl rfl)
theorem dX8_load_40 : decode cX8_load 40 = .ok (.ifCond .eq 17, 3) := dk_153 0 17 (dk_at dksX8_load_1 16 rfl rfl)
theorem dX8_load_43 : decode cX8_load 43 = .ok (.aload_n 0, 1) := dk_42 (dk_at dksX8_load_1 19 rfl rfl)
theorem dX8_load_44 : decode cX8_load 44 = .ok (.getfield 192, 3) := dk_180 0 192 (dk_at dksX8_load_1 20 rfl rfl)
theorem dX8_load_47 : decode cX8_load 47 = .ok (.ifCond .eq 10, 3) := dk_153 0 10 (dk_at dksX8_load_2 0 rfl rfl)
theorem dX8_load_50 : decode cX8_load 50 = .ok (.aload_n 0, 1) := dk_42 (dk_at dksX8_load_2 3 rfl rfl)
theorem dX8_load_51 : decode cX8_load 51 = .ok (.invokevirtual 297, 3) := dk_182 1 41 (dk_at dksX8_load_2 4 rfl rfl)
theorem dX8_load_54 : decode cX8_load 54 = .ok (.goto (-18), 3) := dk_167 255 238 (dk_at dksX8_load_2 7 rfl rfl)
theorem dX8_load_57 : decode cX8_load 57 = .ok (.aload_n 0, 1) := dk_42 (dk_at dksX8_load_2 10 rfl rfl)
theorem dX8_load_58 : decode cX8_load 58 = .ok (.aload_n 0, 1) := dk_42 (dk_at dksX8_load_2 11 rfl rfl)
theorem dX8_load_59 : decode cX8_load 59 = .ok (.getfield 213, 3) := dk_180 0 213 (dk_at dksX8_load_2 12 rfl rfl)
theorem dX8_load_62 : decode cX8_load 62 = .ok (.putfield 127, 3) := dk_181 0 127 (dk_at dksX8_load_2 15 rfl rfl)
theorem dX8_load_65 : decode cX8_load 65 = .ok (.aload_n 0, 1) := dk_42 (dk_at dksX8_load_2 18 rfl rfl)
theorem dX8_load_66 : decode cX8_load 66 = .ok (.invokevirtual 216, 3) := dk_182 0 216 (dk_at dksX8_load_2 19 rfl rfl)
theorem dX8_load_69 : decode cX8_load 69 = .ok (.ifCond .ne 9, 3) := dk_154 0 9 (dk_at dksX8_load_3 0 rfl rfl)
theorem dX8_load_72 : decode cX8_load 72 = .ok (.aload_n 0, 1) := dk_42 (dk_at dksX8_load_3 3 rfl rfl)
theorem dX8_load_73 : decode cX8_load 73 = .ok (.iconst 1, 1) := dk_4 (dk_at dksX8_load_3 4 rfl rfl)
theorem dX8_load_74 : decode cX8_load 74 = .ok (.invokevirtual 164, 3) := dk_182 0 164 (dk_at dksX8_load_3 5 rfl rfl)
theorem dX8_load_77 : decode cX8_load 77 = .ok (.ireturn, 1) := dk_172 (dk_at dksX8_load_3 8 rfl rfl)
theorem dX8_load_78 : decode cX8_load 78 = .ok (.aload_n 0, 1) := dk_42 (dk_at dksX8_load_3 9 rfl rfl)
theorem dX8_load_79 : decode cX8_load 79 = .ok (.invokevirtual 134, 3) := dk_182 0 134 (dk_at dksX8_load_3 10 rfl rfl)
theorem dX8_load_82 : decode cX8_load 82 = .ok (.aload_n 0, 1) := dk_42 (dk_at dksX8_load_3 13 rfl rfl)
theorem dX8_load_83 : decode cX8_load 83 = .ok (.invokevirtual 147, 3) := dk_182 0 147 (dk_at dksX8_load_3 14 rfl rfl)
theorem dX8_load_86 : decode cX8_load 86 = .ok (.ireturn, 1) := dk_172 (dk_at dksX8_load_3 17 rfl rfl)
abbrev cX8_readToken : ByteArray := prog_13_method_26_code
def yX8_readToken : MethodName := ⟨RX8, "readToken", "()V"⟩
def dkwX8_readToken_5 : List UInt8 := [4, 96, 181, 0, 181, 177]
abbrev dktX8_readToken_5 : List UInt8 := dkwX8_readToken_5 ++ []
def dkwX8_readToken_4 : List UInt8 := [180, 0, 181, 182, 0, 174, 16, 59, 160, 0, 7, 6, 167, 0, 4, 7, 181, 0, 192, 42, 89, 180, 0, 181]
abbrev dktX8_readToken_4 : List UInt8 := dkwX8_readToken_4 ++ dktX8_readToken_5
def dkwX8_readToken_3 : List UInt8 := [182, 0, 207, 177, 42, 42, 180, 0, 181, 182, 0, 198, 153, 0, 8, 42, 182, 0, 210, 177, 42, 42, 42]
abbrev dktX8_readToken_3 : List UInt8 := dkwX8_readToken_3 ++ dktX8_readToken_4
def dkwX8_readToken_2 : List UInt8 := [180, 0, 171, 161, 0, 9, 42, 3, 181, 0, 192, 177, 42, 42, 180, 0, 181, 182, 0, 184, 153, 0, 8, 42]
abbrev dktX8_readToken_2 : List UInt8 := dkwX8_readToken_2 ++ dktX8_readToken_3
def dkwX8_readToken_1 : List UInt8 := [180, 0, 181, 4, 96, 181, 0, 181, 167, 255, 224, 42, 42, 180, 0, 181, 181, 0, 204, 42, 180, 0, 181, 42]
abbrev dktX8_readToken_1 : List UInt8 := dkwX8_readToken_1 ++ dktX8_readToken_2
def dkwX8_readToken_0 : List UInt8 := [42, 180, 0, 181, 42, 180, 0, 171, 162, 0, 27, 42, 42, 180, 0, 181, 182, 0, 201, 153, 0, 16, 42, 89]
abbrev dktX8_readToken_0 : List UInt8 := dkwX8_readToken_0 ++ dktX8_readToken_1
theorem dksX8_readToken_0 : cX8_readToken.data.toList.drop 0 = dktX8_readToken_0 := by decide +kernel
theorem dksX8_readToken_1 : cX8_readToken.data.toList.drop 24 = dktX8_readToken_1 := dk_seg dksX8_readToken_0 24 rfl rfl
theorem dksX8_readToken_2 : cX8_readToken.data.toList.drop 48 = dktX8_readToken_2 := dk_seg dksX8_readToken_1 24 rfl rfl
theorem dksX8_readToken_3 : cX8_readToken.data.toList.drop 72 = dktX8_readToken_3 := dk_seg dksX8_readToken_2 24 rfl rfl
theorem dksX8_readToken_4 : cX8_readToken.data.toList.drop 95 = dktX8_readToken_4 := dk_seg dksX8_readToken_3 23 rfl rfl
theorem dksX8_readToken_5 : cX8_readToken.data.toList.drop 119 = dktX8_readToken_5 := dk_seg dksX8_readToken_4 24 rfl rfl
theorem dX8_readToken_0 : decode cX8_readToken 0 = .ok (.aload_n 0, 1) := dk_42 (dk_at dksX8_readToken_0 0 rfl rfl)
theorem dX8_readToken_1 : decode cX8_readToken 1 = .ok (.getfield 181, 3) := dk_180 0 181 (dk_at dksX8_readToken_0 1 rfl rfl)
theorem dX8_readToken_4 : decode cX8_readToken 4 = .ok (.aload_n 0, 1) := dk_42 (dk_at dksX8_readToken_0 4 rfl rfl)
theorem dX8_readToken_5 : decode cX8_readToken 5 = .ok (.getfield 171, 3) := dk_180 0 171 (dk_at dksX8_readToken_0 5 rfl rfl)
theorem dX8_readToken_8 : decode cX8_readToken 8 = .ok (.if_icmp .ge 27, 3) := dk_162 0 27 (dk_at dksX8_readToken_0 8 rfl rfl)
theorem dX8_readToken_11 : decode cX8_readToken 11 = .ok (.aload_n 0, 1) := dk_42 (dk_at dksX8_readToken_0 11 rfl rfl)
theorem dX8_readToken_12 : decode cX8_readToken 12 = .ok (.aload_n 0, 1) := dk_42 (dk_at dksX8_readToken_0 12 rfl rfl)
theorem dX8_readToken_13 : decode cX8_readToken 13 = .ok (.getfield 181, 3) := dk_180 0 181 (dk_at dksX8_readToken_0 13 rfl rfl)
theorem dX8_readToken_16 : decode cX8_readToken 16 = .ok (.invokevirtual 201, 3) := dk_182 0 201 (dk_at dksX8_readToken_0 16 rfl rfl)
theorem dX8_readToken_19 : decode cX8_readToken 19 = .ok (.ifCond .eq 16, 3) := dk_153 0 16 (dk_at dksX8_readToken_0 19 rfl rfl)
theorem dX8_readToken_22 : decode cX8_readToken 22 = .ok (.aload_n 0, 1) := dk_42 (dk_at dksX8_readToken_0 22 rfl rfl)
theorem dX8_readToken_23 : decode cX8_readToken 23 = .ok (.dup, 1) := dk_89 (dk_at dksX8_readToken_0 23 rfl rfl)
theorem dX8_readToken_24 : decode cX8_readToken 24 = .ok (.getfield 181, 3) := dk_180 0 181 (dk_at dksX8_readToken_1 0 rfl rfl)
theorem dX8_readToken_27 : decode cX8_readToken 27 = .ok (.iconst 1, 1) := dk_4 (dk_at dksX8_readToken_1 3 rfl rfl)
theorem dX8_readToken_28 : decode cX8_readToken 28 = .ok (.iadd, 1) := dk_96 (dk_at dksX8_readToken_1 4 rfl rfl)
theorem dX8_readToken_29 : decode cX8_readToken 29 = .ok (.putfield 181, 3) := dk_181 0 181 (dk_at dksX8_readToken_1 5 rfl rfl)
theorem dX8_readToken_32 : decode cX8_readToken 32 = .ok (.goto (-32), 3) := dk_167 255 224 (dk_at dksX8_readToken_1 8 rfl rfl)
theorem dX8_readToken_35 : decode cX8_readToken 35 = .ok (.aload_n 0, 1) := dk_42 (dk_at dksX8_readToken_1 11 rfl rfl)
theorem dX8_readToken_36 : decode cX8_readToken 36 = .ok (.aload_n 0, 1) := dk_42 (dk_at dksX8_readToken_1 12 rfl rfl)
theorem dX8_readToken_37 : decode cX8_readToken 37 = .ok (.getfield 181, 3) := dk_180 0 181 (dk_at dksX8_readToken_1 13 rfl rfl)
theorem dX8_readToken_40 : decode cX8_readToken 40 = .ok (.putfield 204, 3) := dk_181 0 204 (dk_at dksX8_readToken_1 16 rfl rfl)
theorem dX8_readToken_43 : decode cX8_readToken 43 = .ok (.aload_n 0, 1) := dk_42 (dk_at dksX8_readToken_1 19 rfl rfl)
theorem dX8_readToken_44 : decode cX8_readToken 44 = .ok (.getfield 181, 3) := dk_180 0 181 (dk_at dksX8_readToken_1 20 rfl rfl)
theorem dX8_readToken_47 : decode cX8_readToken 47 = .ok (.aload_n 0, 1) := dk_42 (dk_at dksX8_readToken_1 23 rfl rfl)
theorem dX8_readToken_48 : decode cX8_readToken 48 = .ok (.getfield 171, 3) := dk_180 0 171 (dk_at dksX8_readToken_2 0 rfl rfl)
theorem dX8_readToken_51 : decode cX8_readToken 51 = .ok (.if_icmp .lt 9, 3) := dk_161 0 9 (dk_at dksX8_readToken_2 3 rfl rfl)
theorem dX8_readToken_54 : decode cX8_readToken 54 = .ok (.aload_n 0, 1) := dk_42 (dk_at dksX8_readToken_2 6 rfl rfl)
theorem dX8_readToken_55 : decode cX8_readToken 55 = .ok (.iconst 0, 1) := dk_3 (dk_at dksX8_readToken_2 7 rfl rfl)
theorem dX8_readToken_56 : decode cX8_readToken 56 = .ok (.putfield 192, 3) := dk_181 0 192 (dk_at dksX8_readToken_2 8 rfl rfl)
theorem dX8_readToken_59 : decode cX8_readToken 59 = .ok (.return_, 1) := dk_177 (dk_at dksX8_readToken_2 11 rfl rfl)
theorem dX8_readToken_60 : decode cX8_readToken 60 = .ok (.aload_n 0, 1) := dk_42 (dk_at dksX8_readToken_2 12 rfl rfl)
theorem dX8_readToken_61 : decode cX8_readToken 61 = .ok (.aload_n 0, 1) := dk_42 (dk_at dksX8_readToken_2 13 rfl rfl)
theorem dX8_readToken_62 : decode cX8_readToken 62 = .ok (.getfield 181, 3) := dk_180 0 181 (dk_at dksX8_readToken_2 14 rfl rfl)
theorem dX8_readToken_65 : decode cX8_readToken 65 = .ok (.invokevirtual 184, 3) := dk_182 0 184 (dk_at dksX8_readToken_2 17 rfl rfl)
theorem dX8_readToken_68 : decode cX8_readToken 68 = .ok (.ifCond .eq 8, 3) := dk_153 0 8 (dk_at dksX8_readToken_2 20 rfl rfl)
theorem dX8_readToken_71 : decode cX8_readToken 71 = .ok (.aload_n 0, 1) := dk_42 (dk_at dksX8_readToken_2 23 rfl rfl)
theorem dX8_readToken_72 : decode cX8_readToken 72 = .ok (.invokevirtual 207, 3) := dk_182 0 207 (dk_at dksX8_readToken_3 0 rfl rfl)
theorem dX8_readToken_75 : decode cX8_readToken 75 = .ok (.return_, 1) := dk_177 (dk_at dksX8_readToken_3 3 rfl rfl)
theorem dX8_readToken_76 : decode cX8_readToken 76 = .ok (.aload_n 0, 1) := dk_42 (dk_at dksX8_readToken_3 4 rfl rfl)
theorem dX8_readToken_77 : decode cX8_readToken 77 = .ok (.aload_n 0, 1) := dk_42 (dk_at dksX8_readToken_3 5 rfl rfl)
theorem dX8_readToken_78 : decode cX8_readToken 78 = .ok (.getfield 181, 3) := dk_180 0 181 (dk_at dksX8_readToken_3 6 rfl rfl)
theorem dX8_readToken_81 : decode cX8_readToken 81 = .ok (.invokevirtual 198, 3) := dk_182 0 198 (dk_at dksX8_readToken_3 9 rfl rfl)
theorem dX8_readToken_84 : decode cX8_readToken 84 = .ok (.ifCond .eq 8, 3) := dk_153 0 8 (dk_at dksX8_readToken_3 12 rfl rfl)
theorem dX8_readToken_87 : decode cX8_readToken 87 = .ok (.aload_n 0, 1) := dk_42 (dk_at dksX8_readToken_3 15 rfl rfl)
theorem dX8_readToken_88 : decode cX8_readToken 88 = .ok (.invokevirtual 210, 3) := dk_182 0 210 (dk_at dksX8_readToken_3 16 rfl rfl)
theorem dX8_readToken_91 : decode cX8_readToken 91 = .ok (.return_, 1) := dk_177 (dk_at dksX8_readToken_3 19 rfl rfl)
theorem dX8_readToken_92 : decode cX8_readToken 92 = .ok (.aload_n 0, 1) := dk_42 (dk_at dksX8_readToken_3 20 rfl rfl)
theorem dX8_readToken_93 : decode cX8_readToken 93 = .ok (.aload_n 0, 1) := dk_42 (dk_at dksX8_readToken_3 21 rfl rfl)
theorem dX8_readToken_94 : decode cX8_readToken 94 = .ok (.aload_n 0, 1) := dk_42 (dk_at dksX8_readToken_3 22 rfl rfl)
theorem dX8_readToken_95 : decode cX8_readToken 95 = .ok (.getfield 181, 3) := dk_180 0 181 (dk_at dksX8_readToken_4 0 rfl rfl)
theorem dX8_readToken_98 : decode cX8_readToken 98 = .ok (.invokevirtual 174, 3) := dk_182 0 174 (dk_at dksX8_readToken_4 3 rfl rfl)
theorem dX8_readToken_101 : decode cX8_readToken 101 = .ok (.bipush 59, 2) := dk_16 59 (dk_at dksX8_readToken_4 6 rfl rfl)
theorem dX8_readToken_103 : decode cX8_readToken 103 = .ok (.if_icmp .ne 7, 3) := dk_160 0 7 (dk_at dksX8_readToken_4 8 rfl rfl)
theorem dX8_readToken_106 : decode cX8_readToken 106 = .ok (.iconst 3, 1) := dk_6 (dk_at dksX8_readToken_4 11 rfl rfl)
theorem dX8_readToken_107 : decode cX8_readToken 107 = .ok (.goto 4, 3) := dk_167 0 4 (dk_at dksX8_readToken_4 12 rfl rfl)
theorem dX8_readToken_110 : decode cX8_readToken 110 = .ok (.iconst 4, 1) := dk_7 (dk_at dksX8_readToken_4 15 rfl rfl)
theorem dX8_readToken_111 : decode cX8_readToken 111 = .ok (.putfield 192, 3) := dk_181 0 192 (dk_at dksX8_readToken_4 16 rfl rfl)
theorem dX8_readToken_114 : decode cX8_readToken 114 = .ok (.aload_n 0, 1) := dk_42 (dk_at dksX8_readToken_4 19 rfl rfl)
theorem dX8_readToken_115 : decode cX8_readToken 115 = .ok (.dup, 1) := dk_89 (dk_at dksX8_readToken_4 20 rfl rfl)
theorem dX8_readToken_116 : decode cX8_readToken 116 = .ok (.getfield 181, 3) := dk_180 0 181 (dk_at dksX8_readToken_4 21 rfl rfl)
theorem dX8_readToken_119 : decode cX8_readToken 119 = .ok (.iconst 1, 1) := dk_4 (dk_at dksX8_readToken_5 0 rfl rfl)
theorem dX8_readToken_120 : decode cX8_readToken 120 = .ok (.iadd, 1) := dk_96 (dk_at dksX8_readToken_5 1 rfl rfl)
theorem dX8_readToken_121 : decode cX8_readToken 121 = .ok (.putfield 181, 3) := dk_181 0 181 (dk_at dksX8_readToken_5 2 rfl rfl)
theorem dX8_readToken_124 : decode cX8_readToken 124 = .ok (.return_, 1) := dk_177 (dk_at dksX8_readToken_5 5 rfl rfl)
abbrev cX8_isBlank : ByteArray := prog_13_method_23_code
def yX8_isBlank : MethodName := ⟨RX8, "isBlank", "(I)Z"⟩
def dkwX8_isBlank_1 : List UInt8 := [3, 172]
abbrev dktX8_isBlank_1 : List UInt8 := dkwX8_isBlank_1 ++ []
def dkwX8_isBlank_0 : List UInt8 := [42, 27, 182, 0, 174, 16, 32, 159, 0, 13, 42, 27, 182, 0, 174, 16, 10, 160, 0, 7, 4, 167, 0, 4]
abbrev dktX8_isBlank_0 : List UInt8 := dkwX8_isBlank_0 ++ dktX8_isBlank_1
theorem dksX8_isBlank_0 : cX8_isBlank.data.toList.drop 0 = dktX8_isBlank_0 := by decide +kernel
theorem dksX8_isBlank_1 : cX8_isBlank.data.toList.drop 24 = dktX8_isBlank_1 := dk_seg dksX8_isBlank_0 24 rfl rfl
theorem dX8_isBlank_0 : decode cX8_isBlank 0 = .ok (.aload_n 0, 1) := dk_42 (dk_at dksX8_isBlank_0 0 rfl rfl)
theorem dX8_isBlank_1 : decode cX8_isBlank 1 = .ok (.iload_n 1, 1) := dk_27 (dk_at dksX8_isBlank_0 1 rfl rfl)
theorem dX8_isBlank_2 : decode cX8_isBlank 2 = .ok (.invokevirtual 174, 3) := dk_182 0 174 (dk_at dksX8_isBlank_0 2 rfl rfl)
theorem dX8_isBlank_5 : decode cX8_isBlank 5 = .ok (.bipush 32, 2) := dk_16 32 (dk_at dksX8_isBlank_0 5 rfl rfl)
theorem dX8_isBlank_7 : decode cX8_isBlank 7 = .ok (.if_icmp .eq 13, 3) := dk_159 0 13 (dk_at dksX8_isBlank_0 7 rfl rfl)
theorem dX8_isBlank_10 : decode cX8_isBlank 10 = .ok (.aload_n 0, 1) := dk_42 (dk_at dksX8_isBlank_0 10 rfl rfl)
theorem dX8_isBlank_11 : decode cX8_isBlank 11 = .ok (.iload_n 1, 1) := dk_27 (dk_at dksX8_isBlank_0 11 rfl rfl)
theorem dX8_isBlank_12 : decode cX8_isBlank 12 = .ok (.invokevirtual 174, 3) := dk_182 0 174 (dk_at dksX8_isBlank_0 12 rfl rfl)
theorem dX8_isBlank_15 : decode cX8_isBlank 15 = .ok (.bipush 10, 2) := dk_16 10 (dk_at dksX8_isBlank_0 15 rfl rfl)
theorem dX8_isBlank_17 : decode cX8_isBlank 17 = .ok (.if_icmp .ne 7, 3) := dk_160 0 7 (dk_at dksX8_isBlank_0 17 rfl rfl)
theorem dX8_isBlank_20 : decode cX8_isBlank 20 = .ok (.iconst 1, 1) := dk_4 (dk_at dksX8_isBlank_0 20 rfl rfl)
theorem dX8_isBlank_21 : decode cX8_isBlank 21 = .ok (.goto 4, 3) := dk_167 0 4 (dk_at dksX8_isBlank_0 21 rfl rfl)
theorem dX8_isBlank_24 : decode cX8_isBlank 24 = .ok (.iconst 0, 1) := dk_3 (dk_at dksX8_isBlank_1 0 rfl rfl)
theorem dX8_isBlank_25 : decode cX8_isBlank 25 = .ok (.ireturn, 1) := dk_172 (dk_at dksX8_isBlank_1 1 rfl rfl)
abbrev cX8_byteAt : ByteArray := prog_13_method_20_code
def yX8_byteAt : MethodName := ⟨RX8, "byteAt", "(I)I"⟩
def dkwX8_byteAt_0 : List UInt8 := [27, 42, 180, 0, 171, 162, 0, 12, 42, 180, 0, 38, 27, 51, 167, 0, 4, 3, 172]
abbrev dktX8_byteAt_0 : List UInt8 := dkwX8_byteAt_0 ++ []
theorem dksX8_byteAt_0 : cX8_byteAt.data.toList.drop 0 = dktX8_byteAt_0 := by decide +kernel
theorem dX8_byteAt_0 : decode cX8_byteAt 0 = .ok (.iload_n 1, 1) := dk_27 (dk_at dksX8_byteAt_0 0 rfl rfl)
theorem dX8_byteAt_1 : decode cX8_byteAt 1 = .ok (.aload_n 0, 1) := dk_42 (dk_at dksX8_byteAt_0 1 rfl rfl)
theorem dX8_byteAt_2 : decode cX8_byteAt 2 = .ok (.getfield 171, 3) := dk_180 0 171 (dk_at dksX8_byteAt_0 2 rfl rfl)
theorem dX8_byteAt_5 : decode cX8_byteAt 5 = .ok (.if_icmp .ge 12, 3) := dk_162 0 12 (dk_at dksX8_byteAt_0 5 rfl rfl)
theorem dX8_byteAt_8 : decode cX8_byteAt 8 = .ok (.aload_n 0, 1) := dk_42 (dk_at dksX8_byteAt_0 8 rfl rfl)
theorem dX8_byteAt_9 : decode cX8_byteAt 9 = .ok (.getfield 38, 3) := dk_180 0 38 (dk_at dksX8_byteAt_0 9 rfl rfl)
theorem dX8_byteAt_12 : decode cX8_byteAt 12 = .ok (.iload_n 1, 1) := dk_27 (dk_at dksX8_byteAt_0 12 rfl rfl)
theorem dX8_byteAt_13 : decode cX8_byteAt 13 = .ok (.baload, 1) := dk_51 (dk_at dksX8_byteAt_0 13 rfl rfl)
theorem dX8_byteAt_14 : decode cX8_byteAt 14 = .ok (.goto 4, 3) := dk_167 0 4 (dk_at dksX8_byteAt_0 14 rfl rfl)
theorem dX8_byteAt_17 : decode cX8_byteAt 17 = .ok (.iconst 0, 1) := dk_3 (dk_at dksX8_byteAt_0 17 rfl rfl)
theorem dX8_byteAt_18 : decode cX8_byteAt 18 = .ok (.ireturn, 1) := dk_172 (dk_at dksX8_byteAt_0 18 rfl rfl)
abbrev cX8_isLetter : ByteArray := prog_13_method_21_code
def yX8_isLetter : MethodName := ⟨RX8, "isLetter", "(I)Z"⟩
def dkwX8_isLetter_0 : List UInt8 := [42, 27, 182, 0, 174, 16, 97, 16, 122, 184, 0, 151, 172]
abbrev dktX8_isLetter_0 : List UInt8 := dkwX8_isLetter_0 ++ []
theorem dksX8_isLetter_0 : cX8_isLetter.data.toList.drop 0 = dktX8_isLetter_0 := by decide +kernel
theorem dX8_isLetter_0 : decode cX8_isLetter 0 = .ok (.aload_n 0, 1) := dk_42 (dk_at dksX8_isLetter_0 0 rfl rfl)
theorem dX8_isLetter_1 : decode cX8_isLetter 1 = .ok (.iload_n 1, 1) := dk_27 (dk_at dksX8_isLetter_0 1 rfl rfl)
theorem dX8_isLetter_2 : decode cX8_isLetter 2 = .ok (.invokevirtual 174, 3) := dk_182 0 174 (dk_at dksX8_isLetter_0 2 rfl rfl)
theorem dX8_isLetter_5 : decode cX8_isLetter 5 = .ok (.bipush 97, 2) := dk_16 97 (dk_at dksX8_isLetter_0 5 rfl rfl)
theorem dX8_isLetter_7 : decode cX8_isLetter 7 = .ok (.bipush 122, 2) := dk_16 122 (dk_at dksX8_isLetter_0 7 rfl rfl)
theorem dX8_isLetter_9 : decode cX8_isLetter 9 = .ok (.invokestatic 151, 3) := dk_184 0 151 (dk_at dksX8_isLetter_0 9 rfl rfl)
theorem dX8_isLetter_12 : decode cX8_isLetter 12 = .ok (.ireturn, 1) := dk_172 (dk_at dksX8_isLetter_0 12 rfl rfl)
abbrev cX8_readWord : ByteArray := prog_13_method_24_code
def yX8_readWord : MethodName := ⟨RX8, "readWord", "()V"⟩
def dkwX8_readWord_3 : List UInt8 := [164, 0, 7, 7, 167, 0, 4, 4, 181, 0, 192, 177]
abbrev dktX8_readWord_3 : List UInt8 := dkwX8_readWord_3 ++ []
def dkwX8_readWord_2 : List UInt8 := [97, 181, 0, 177, 132, 1, 1, 42, 89, 180, 0, 181, 4, 96, 181, 0, 181, 167, 255, 198, 42, 27, 16, 10]
abbrev dktX8_readWord_2 : List UInt8 := dkwX8_readWord_2 ++ dktX8_readWord_3
def dkwX8_readWord_1 : List UInt8 := [42, 20, 0, 188, 42, 180, 0, 177, 105, 42, 42, 180, 0, 181, 182, 0, 174, 133, 97, 20, 0, 190, 101, 10]
abbrev dktX8_readWord_1 : List UInt8 := dkwX8_readWord_1 ++ dktX8_readWord_2
def dkwX8_readWord_0 : List UInt8 := [42, 9, 181, 0, 177, 3, 60, 42, 42, 180, 0, 181, 182, 0, 184, 153, 0, 53, 27, 16, 10, 162, 0, 31]
abbrev dktX8_readWord_0 : List UInt8 := dkwX8_readWord_0 ++ dktX8_readWord_1
theorem dksX8_readWord_0 : cX8_readWord.data.toList.drop 0 = dktX8_readWord_0 := by decide +kernel
theorem dksX8_readWord_1 : cX8_readWord.data.toList.drop 24 = dktX8_readWord_1 := dk_seg dksX8_readWord_0 24 rfl rfl
theorem dksX8_readWord_2 : cX8_readWord.data.toList.drop 48 = dktX8_readWord_2 := dk_seg dksX8_readWord_1 24 rfl rfl
theorem dksX8_readWord_3 : cX8_readWord.data.toList.drop 72 = dktX8_readWord_3 := dk_seg dksX8_readWord_2 24 rfl rfl
theorem dX8_readWord_0 : decode cX8_readWord 0 = .ok (.aload_n 0, 1) := dk_42 (dk_at dksX8_readWord_0 0 rfl rfl)
theorem dX8_readWord_1 : decode cX8_readWord 1 = .ok (.lconst 0, 1) := dk_9 (dk_at dksX8_readWord_0 1 rfl rfl)
theorem dX8_readWord_2 : decode cX8_readWord 2 = .ok (.putfield 177, 3) := dk_181 0 177 (dk_at dksX8_readWord_0 2 rfl rfl)
theorem dX8_readWord_5 : decode cX8_readWord 5 = .ok (.iconst 0, 1) := dk_3 (dk_at dksX8_readWord_0 5 rfl rfl)
theorem dX8_readWord_6 : decode cX8_readWord 6 = .ok (.istore_n 1, 1) := dk_60 (dk_at dksX8_readWord_0 6 rfl rfl)
theorem dX8_readWord_7 : decode cX8_readWord 7 = .ok (.aload_n 0, 1) := dk_42 (dk_at dksX8_readWord_0 7 rfl rfl)
theorem dX8_readWord_8 : decode cX8_readWord 8 = .ok (.aload_n 0, 1) := dk_42 (dk_at dksX8_readWord_0 8 rfl rfl)
theorem dX8_readWord_9 : decode cX8_readWord 9 = .ok (.getfield 181, 3) := dk_180 0 181 (dk_at dksX8_readWord_0 9 rfl rfl)
theorem dX8_readWord_12 : decode cX8_readWord 12 = .ok (.invokevirtual 184, 3) := dk_182 0 184 (dk_at dksX8_readWord_0 12 rfl rfl)
theorem dX8_readWord_15 : decode cX8_readWord 15 = .ok (.ifCond .eq 53, 3) := dk_153 0 53 (dk_at dksX8_readWord_0 15 rfl rfl)
theorem dX8_readWord_18 : decode cX8_readWord 18 = .ok (.iload_n 1, 1) := dk_27 (dk_at dksX8_readWord_0 18 rfl rfl)
theorem dX8_readWord_19 : decode cX8_readWord 19 = .ok (.bipush 10, 2) := dk_16 10 (dk_at dksX8_readWord_0 19 rfl rfl)
theorem dX8_readWord_21 : decode cX8_readWord 21 = .ok (.if_icmp .ge 31, 3) := dk_162 0 31 (dk_at dksX8_readWord_0 21 rfl rfl)
theorem dX8_readWord_24 : decode cX8_readWord 24 = .ok (.aload_n 0, 1) := dk_42 (dk_at dksX8_readWord_1 0 rfl rfl)
theorem dX8_readWord_25 : decode cX8_readWord 25 = .ok (.ldc2_w 188, 3) := dk_20 0 188 (dk_at dksX8_readWord_1 1 rfl rfl)
theorem dX8_readWord_28 : decode cX8_readWord 28 = .ok (.aload_n 0, 1) := dk_42 (dk_at dksX8_readWord_1 4 rfl rfl)
theorem dX8_readWord_29 : decode cX8_readWord 29 = .ok (.getfield 177, 3) := dk_180 0 177 (dk_at dksX8_readWord_1 5 rfl rfl)
theorem dX8_readWord_32 : decode cX8_readWord 32 = .ok (.lmul, 1) := dk_105 (dk_at dksX8_readWord_1 8 rfl rfl)
theorem dX8_readWord_33 : decode cX8_readWord 33 = .ok (.aload_n 0, 1) := dk_42 (dk_at dksX8_readWord_1 9 rfl rfl)
theorem dX8_readWord_34 : decode cX8_readWord 34 = .ok (.aload_n 0, 1) := dk_42 (dk_at dksX8_readWord_1 10 rfl rfl)
theorem dX8_readWord_35 : decode cX8_readWord 35 = .ok (.getfield 181, 3) := dk_180 0 181 (dk_at dksX8_readWord_1 11 rfl rfl)
theorem dX8_readWord_38 : decode cX8_readWord 38 = .ok (.invokevirtual 174, 3) := dk_182 0 174 (dk_at dksX8_readWord_1 14 rfl rfl)
theorem dX8_readWord_41 : decode cX8_readWord 41 = .ok (.i2l, 1) := dk_133 (dk_at dksX8_readWord_1 17 rfl rfl)
theorem dX8_readWord_42 : decode cX8_readWord 42 = .ok (.ladd, 1) := dk_97 (dk_at dksX8_readWord_1 18 rfl rfl)
theorem dX8_readWord_43 : decode cX8_readWord 43 = .ok (.ldc2_w 190, 3) := dk_20 0 190 (dk_at dksX8_readWord_1 19 rfl rfl)
theorem dX8_readWord_46 : decode cX8_readWord 46 = .ok (.lsub, 1) := dk_101 (dk_at dksX8_readWord_1 22 rfl rfl)
theorem dX8_readWord_47 : decode cX8_readWord 47 = .ok (.lconst 1, 1) := dk_10 (dk_at dksX8_readWord_1 23 rfl rfl)
theorem dX8_readWord_48 : decode cX8_readWord 48 = .ok (.ladd, 1) := dk_97 (dk_at dksX8_readWord_2 0 rfl rfl)
theorem dX8_readWord_49 : decode cX8_readWord 49 = .ok (.putfield 177, 3) := dk_181 0 177 (dk_at dksX8_readWord_2 1 rfl rfl)
theorem dX8_readWord_52 : decode cX8_readWord 52 = .ok (.iinc 1 1, 3) := dk_132 1 1 (dk_at dksX8_readWord_2 4 rfl rfl)
theorem dX8_readWord_55 : decode cX8_readWord 55 = .ok (.aload_n 0, 1) := dk_42 (dk_at dksX8_readWord_2 7 rfl rfl)
theorem dX8_readWord_56 : decode cX8_readWord 56 = .ok (.dup, 1) := dk_89 (dk_at dksX8_readWord_2 8 rfl rfl)
theorem dX8_readWord_57 : decode cX8_readWord 57 = .ok (.getfield 181, 3) := dk_180 0 181 (dk_at dksX8_readWord_2 9 rfl rfl)
theorem dX8_readWord_60 : decode cX8_readWord 60 = .ok (.iconst 1, 1) := dk_4 (dk_at dksX8_readWord_2 12 rfl rfl)
theorem dX8_readWord_61 : decode cX8_readWord 61 = .ok (.iadd, 1) := dk_96 (dk_at dksX8_readWord_2 13 rfl rfl)
theorem dX8_readWord_62 : decode cX8_readWord 62 = .ok (.putfield 181, 3) := dk_181 0 181 (dk_at dksX8_readWord_2 14 rfl rfl)
theorem dX8_readWord_65 : decode cX8_readWord 65 = .ok (.goto (-58), 3) := dk_167 255 198 (dk_at dksX8_readWord_2 17 rfl rfl)
theorem dX8_readWord_68 : decode cX8_readWord 68 = .ok (.aload_n 0, 1) := dk_42 (dk_at dksX8_readWord_2 20 rfl rfl)
theorem dX8_readWord_69 : decode cX8_readWord 69 = .ok (.iload_n 1, 1) := dk_27 (dk_at dksX8_readWord_2 21 rfl rfl)
theorem dX8_readWord_70 : decode cX8_readWord 70 = .ok (.bipush 10, 2) := dk_16 10 (dk_at dksX8_readWord_2 22 rfl rfl)
theorem dX8_readWord_72 : decode cX8_readWord 72 = .ok (.if_icmp .le 7, 3) := dk_164 0 7 (dk_at dksX8_readWord_3 0 rfl rfl)
theorem dX8_readWord_75 : decode cX8_readWord 75 = .ok (.iconst 4, 1) := dk_7 (dk_at dksX8_readWord_3 3 rfl rfl)
theorem dX8_readWord_76 : decode cX8_readWord 76 = .ok (.goto 4, 3) := dk_167 0 4 (dk_at dksX8_readWord_3 4 rfl rfl)
theorem dX8_readWord_79 : decode cX8_readWord 79 = .ok (.iconst 1, 1) := dk_4 (dk_at dksX8_readWord_3 7 rfl rfl)
theorem dX8_readWord_80 : decode cX8_readWord 80 = .ok (.putfield 192, 3) := dk_181 0 192 (dk_at dksX8_readWord_3 8 rfl rfl)
theorem dX8_readWord_83 : decode cX8_readWord 83 = .ok (.return_, 1) := dk_177 (dk_at dksX8_readWord_3 11 rfl rfl)
abbrev cX8_isDigit : ByteArray := prog_13_method_22_code
def yX8_isDigit : MethodName := ⟨RX8, "isDigit", "(I)Z"⟩
def dkwX8_isDigit_0 : List UInt8 := [42, 27, 182, 0, 174, 16, 48, 16, 57, 184, 0, 151, 172]
abbrev dktX8_isDigit_0 : List UInt8 := dkwX8_isDigit_0 ++ []
theorem dksX8_isDigit_0 : cX8_isDigit.data.toList.drop 0 = dktX8_isDigit_0 := by decide +kernel
theorem dX8_isDigit_0 : decode cX8_isDigit 0 = .ok (.aload_n 0, 1) := dk_42 (dk_at dksX8_isDigit_0 0 rfl rfl)
theorem dX8_isDigit_1 : decode cX8_isDigit 1 = .ok (.iload_n 1, 1) := dk_27 (dk_at dksX8_isDigit_0 1 rfl rfl)
theorem dX8_isDigit_2 : decode cX8_isDigit 2 = .ok (.invokevirtual 174, 3) := dk_182 0 174 (dk_at dksX8_isDigit_0 2 rfl rfl)
theorem dX8_isDigit_5 : decode cX8_isDigit 5 = .ok (.bipush 48, 2) := dk_16 48 (dk_at dksX8_isDigit_0 5 rfl rfl)
theorem dX8_isDigit_7 : decode cX8_isDigit 7 = .ok (.bipush 57, 2) := dk_16 57 (dk_at dksX8_isDigit_0 7 rfl rfl)
theorem dX8_isDigit_9 : decode cX8_isDigit 9 = .ok (.invokestatic 151, 3) := dk_184 0 151 (dk_at dksX8_isDigit_0 9 rfl rfl)
theorem dX8_isDigit_12 : decode cX8_isDigit 12 = .ok (.ireturn, 1) := dk_172 (dk_at dksX8_isDigit_0 12 rfl rfl)
abbrev cX8_readNumber : ByteArray := prog_13_method_25_code
def yX8_readNumber : MethodName := ⟨RX8, "readNumber", "()V"⟩
def dkwX8_readNumber_3 : List UInt8 := [167, 0, 4, 5, 181, 0, 192, 177]
abbrev dktX8_readNumber_3 : List UInt8 := dkwX8_readNumber_3 ++ []
def dkwX8_readNumber_2 : List UInt8 := [132, 1, 1, 42, 89, 180, 0, 181, 4, 96, 181, 0, 181, 167, 255, 204, 42, 27, 7, 164, 0, 7, 7]
abbrev dktX8_readNumber_2 : List UInt8 := dkwX8_readNumber_2 ++ dktX8_readNumber_3
def dkwX8_readNumber_1 : List UInt8 := [16, 10, 42, 180, 0, 195, 104, 42, 42, 180, 0, 181, 182, 0, 174, 96, 16, 48, 100, 181, 0, 195]
abbrev dktX8_readNumber_1 : List UInt8 := dkwX8_readNumber_1 ++ dktX8_readNumber_2
def dkwX8_readNumber_0 : List UInt8 := [42, 3, 181, 0, 195, 3, 60, 42, 42, 180, 0, 181, 182, 0, 198, 153, 0, 47, 27, 7, 162, 0, 26, 42]
abbrev dktX8_readNumber_0 : List UInt8 := dkwX8_readNumber_0 ++ dktX8_readNumber_1
theorem dksX8_readNumber_0 : cX8_readNumber.data.toList.drop 0 = dktX8_readNumber_0 := by decide +kernel
theorem dksX8_readNumber_1 : cX8_readNumber.data.toList.drop 24 = dktX8_readNumber_1 := dk_seg dksX8_readNumber_0 24 rfl rfl
theorem dksX8_readNumber_2 : cX8_readNumber.data.toList.drop 46 = dktX8_readNumber_2 := dk_seg dksX8_readNumber_1 22 rfl rfl
theorem dksX8_readNumber_3 : cX8_readNumber.data.toList.drop 69 = dktX8_readNumber_3 := dk_seg dksX8_readNumber_2 23 rfl rfl
theorem dX8_readNumber_0 : decode cX8_readNumber 0 = .ok (.aload_n 0, 1) := dk_42 (dk_at dksX8_readNumber_0 0 rfl rfl)
theorem dX8_readNumber_1 : decode cX8_readNumber 1 = .ok (.iconst 0, 1) := dk_3 (dk_at dksX8_readNumber_0 1 rfl rfl)
theorem dX8_readNumber_2 : decode cX8_readNumber 2 = .ok (.putfield 195, 3) := dk_181 0 195 (dk_at dksX8_readNumber_0 2 rfl rfl)
theorem dX8_readNumber_5 : decode cX8_readNumber 5 = .ok (.iconst 0, 1) := dk_3 (dk_at dksX8_readNumber_0 5 rfl rfl)
theorem dX8_readNumber_6 : decode cX8_readNumber 6 = .ok (.istore_n 1, 1) := dk_60 (dk_at dksX8_readNumber_0 6 rfl rfl)
theorem dX8_readNumber_7 : decode cX8_readNumber 7 = .ok (.aload_n 0, 1) := dk_42 (dk_at dksX8_readNumber_0 7 rfl rfl)
theorem dX8_readNumber_8 : decode cX8_readNumber 8 = .ok (.aload_n 0, 1) := dk_42 (dk_at dksX8_readNumber_0 8 rfl rfl)
theorem dX8_readNumber_9 : decode cX8_readNumber 9 = .ok (.getfield 181, 3) := dk_180 0 181 (dk_at dksX8_readNumber_0 9 rfl rfl)
theorem dX8_readNumber_12 : decode cX8_readNumber 12 = .ok (.invokevirtual 198, 3) := dk_182 0 198 (dk_at dksX8_readNumber_0 12 rfl rfl)
theorem dX8_readNumber_15 : decode cX8_readNumber 15 = .ok (.ifCond .eq 47, 3) := dk_153 0 47 (dk_at dksX8_readNumber_0 15 rfl rfl)
theorem dX8_readNumber_18 : decode cX8_readNumber 18 = .ok (.iload_n 1, 1) := dk_27 (dk_at dksX8_readNumber_0 18 rfl rfl)
theorem dX8_readNumber_19 : decode cX8_readNumber 19 = .ok (.iconst 4, 1) := dk_7 (dk_at dksX8_readNumber_0 19 rfl rfl)
theorem dX8_readNumber_20 : decode cX8_readNumber 20 = .ok (.if_icmp .ge 26, 3) := dk_162 0 26 (dk_at dksX8_readNumber_0 20 rfl rfl)
theorem dX8_readNumber_23 : decode cX8_readNumber 23 = .ok (.aload_n 0, 1) := dk_42 (dk_at dksX8_readNumber_0 23 rfl rfl)
theorem dX8_readNumber_24 : decode cX8_readNumber 24 = .ok (.bipush 10, 2) := dk_16 10 (dk_at dksX8_readNumber_1 0 rfl rfl)
theorem dX8_readNumber_26 : decode cX8_readNumber 26 = .ok (.aload_n 0, 1) := dk_42 (dk_at dksX8_readNumber_1 2 rfl rfl)
theorem dX8_readNumber_27 : decode cX8_readNumber 27 = .ok (.getfield 195, 3) := dk_180 0 195 (dk_at dksX8_readNumber_1 3 rfl rfl)
theorem dX8_readNumber_30 : decode cX8_readNumber 30 = .ok (.imul, 1) := dk_104 (dk_at dksX8_readNumber_1 6 rfl rfl)
theorem dX8_readNumber_31 : decode cX8_readNumber 31 = .ok (.aload_n 0, 1) := dk_42 (dk_at dksX8_readNumber_1 7 rfl rfl)
theorem dX8_readNumber_32 : decode cX8_readNumber 32 = .ok (.aload_n 0, 1) := dk_42 (dk_at dksX8_readNumber_1 8 rfl rfl)
theorem dX8_readNumber_33 : decode cX8_readNumber 33 = .ok (.getfield 181, 3) := dk_180 0 181 (dk_at dksX8_readNumber_1 9 rfl rfl)
theorem dX8_readNumber_36 : decode cX8_readNumber 36 = .ok (.invokevirtual 174, 3) := dk_182 0 174 (dk_at dksX8_readNumber_1 12 rfl rfl)
theorem dX8_readNumber_39 : decode cX8_readNumber 39 = .ok (.iadd, 1) := dk_96 (dk_at dksX8_readNumber_1 15 rfl rfl)
theorem dX8_readNumber_40 : decode cX8_readNumber 40 = .ok (.bipush 48, 2) := dk_16 48 (dk_at dksX8_readNumber_1 16 rfl rfl)
theorem dX8_readNumber_42 : decode cX8_readNumber 42 = .ok (.isub, 1) := dk_100 (dk_at dksX8_readNumber_1 18 rfl rfl)
theorem dX8_readNumber_43 : decode cX8_readNumber 43 = .ok (.putfield 195, 3) := dk_181 0 195 (dk_at dksX8_readNumber_1 19 rfl rfl)
theorem dX8_readNumber_46 : decode cX8_readNumber 46 = .ok (.iinc 1 1, 3) := dk_132 1 1 (dk_at dksX8_readNumber_2 0 rfl rfl)
theorem dX8_readNumber_49 : decode cX8_readNumber 49 = .ok (.aload_n 0, 1) := dk_42 (dk_at dksX8_readNumber_2 3 rfl rfl)
theorem dX8_readNumber_50 : decode cX8_readNumber 50 = .ok (.dup, 1) := dk_89 (dk_at dksX8_readNumber_2 4 rfl rfl)
theorem dX8_readNumber_51 : decode cX8_readNumber 51 = .ok (.getfield 181, 3) := dk_180 0 181 (dk_at dksX8_readNumber_2 5 rfl rfl)
theorem dX8_readNumber_54 : decode cX8_readNumber 54 = .ok (.iconst 1, 1) := dk_4 (dk_at dksX8_readNumber_2 8 rfl rfl)
theorem dX8_readNumber_55 : decode cX8_readNumber 55 = .ok (.iadd, 1) := dk_96 (dk_at dksX8_readNumber_2 9 rfl rfl)
theorem dX8_readNumber_56 : decode cX8_readNumber 56 = .ok (.putfield 181, 3) := dk_181 0 181 (dk_at dksX8_readNumber_2 10 rfl rfl)
theorem dX8_readNumber_59 : decode cX8_readNumber 59 = .ok (.goto (-52), 3) := dk_167 255 204 (dk_at dksX8_readNumber_2 13 rfl rfl)
theorem dX8_readNumber_62 : decode cX8_readNumber 62 = .ok (.aload_n 0, 1) := dk_42 (dk_at dksX8_readNumber_2 16 rfl rfl)
theorem dX8_readNumber_63 : decode cX8_readNumber 63 = .ok (.iload_n 1, 1) := dk_27 (dk_at dksX8_readNumber_2 17 rfl rfl)
theorem dX8_readNumber_64 : decode cX8_readNumber 64 = .ok (.iconst 4, 1) := dk_7 (dk_at dksX8_readNumber_2 18 rfl rfl)
theorem dX8_readNumber_65 : decode cX8_readNumber 65 = .ok (.if_icmp .le 7, 3) := dk_164 0 7 (dk_at dksX8_readNumber_2 19 rfl rfl)
theorem dX8_readNumber_68 : decode cX8_readNumber 68 = .ok (.iconst 4, 1) := dk_7 (dk_at dksX8_readNumber_2 22 rfl rfl)
theorem dX8_readNumber_69 : decode cX8_readNumber 69 = .ok (.goto 4, 3) := dk_167 0 4 (dk_at dksX8_readNumber_3 0 rfl rfl)
theorem dX8_readNumber_72 : decode cX8_readNumber 72 = .ok (.iconst 2, 1) := dk_5 (dk_at dksX8_readNumber_3 3 rfl rfl)
theorem dX8_readNumber_73 : decode cX8_readNumber 73 = .ok (.putfield 192, 3) := dk_181 0 192 (dk_at dksX8_readNumber_3 4 rfl rfl)
theorem dX8_readNumber_76 : decode cX8_readNumber 76 = .ok (.return_, 1) := dk_177 (dk_at dksX8_readNumber_3 7 rfl rfl)
abbrev cX8_isWell : ByteArray := prog_13_method_27_code
def yX8_isWell : MethodName := ⟨RX8, "isWell", "()Z"⟩
def dkwX8_isWell_0 : List UInt8 := [42, 180, 0, 213, 2, 160, 0, 7, 4, 167, 0, 4, 3, 172]
abbrev dktX8_isWell_0 : List UInt8 := dkwX8_isWell_0 ++ []
theorem dksX8_isWell_0 : cX8_isWell.data.toList.drop 0 = dktX8_isWell_0 := by decide +kernel
theorem dX8_isWell_0 : decode cX8_isWell 0 = .ok (.aload_n 0, 1) := dk_42 (dk_at dksX8_isWell_0 0 rfl rfl)
theorem dX8_isWell_1 : decode cX8_isWell 1 = .ok (.getfield 213, 3) := dk_180 0 213 (dk_at dksX8_isWell_0 1 rfl rfl)
theorem dX8_isWell_4 : decode cX8_isWell 4 = .ok (.iconst (-1), 1) := dk_2 (dk_at dksX8_isWell_0 4 rfl rfl)
theorem dX8_isWell_5 : decode cX8_isWell 5 = .ok (.if_icmp .ne 7, 3) := dk_160 0 7 (dk_at dksX8_isWell_0 5 rfl rfl)
theorem dX8_isWell_8 : decode cX8_isWell 8 = .ok (.iconst 1, 1) := dk_4 (dk_at dksX8_isWell_0 8 rfl rfl)
theorem dX8_isWell_9 : decode cX8_isWell 9 = .ok (.goto 4, 3) := dk_167 0 4 (dk_at dksX8_isWell_0 9 rfl rfl)
theorem dX8_isWell_12 : decode cX8_isWell 12 = .ok (.iconst 0, 1) := dk_3 (dk_at dksX8_isWell_0 12 rfl rfl)
theorem dX8_isWell_13 : decode cX8_isWell 13 = .ok (.ireturn, 1) := dk_172 (dk_at dksX8_isWell_0 13 rfl rfl)
abbrev cX8_readStatement : ByteArray := prog_13_method_45_code
def yX8_readStatement : MethodName := ⟨RX8, "readStatement", "()V"⟩
def dkwX8_readStatement_6 : List UInt8 := [3, 182, 1, 0, 42, 182, 1, 4, 177]
abbrev dktX8_readStatement_6 : List UInt8 := dkwX8_readStatement_6 ++ []
def dkwX8_readStatement_5 : List UInt8 := [182, 1, 38, 167, 0, 8, 42, 3, 182, 1, 0, 42, 42, 180, 0, 192, 6, 160, 0, 7, 4, 167, 0, 4]
abbrev dktX8_readStatement_5 : List UInt8 := dkwX8_readStatement_5 ++ dktX8_readStatement_6
def dkwX8_readStatement_4 : List UInt8 := [153, 0, 10, 42, 182, 1, 32, 167, 0, 27, 42, 182, 1, 35, 2, 159, 0, 14, 42, 42, 182, 1, 35]
abbrev dktX8_readStatement_4 : List UInt8 := dkwX8_readStatement_4 ++ dktX8_readStatement_5
def dkwX8_readStatement_3 : List UInt8 := [167, 0, 57, 42, 16, 112, 16, 111, 16, 108, 16, 105, 16, 99, 16, 121, 3, 184, 0, 229, 182, 0, 233]
abbrev dktX8_readStatement_3 : List UInt8 := dkwX8_readStatement_3 ++ dktX8_readStatement_4
def dkwX8_readStatement_2 : List UInt8 := [16, 97, 16, 116, 16, 99, 16, 104, 3, 3, 184, 0, 229, 182, 0, 233, 153, 0, 10, 42, 182, 1, 29]
abbrev dktX8_readStatement_2 : List UInt8 := dkwX8_readStatement_2 ++ dktX8_readStatement_3
def dkwX8_readStatement_1 : List UInt8 := [42, 182, 1, 23, 167, 0, 100, 42, 182, 0, 237, 153, 0, 10, 42, 182, 1, 26, 167, 0, 86, 42, 16, 98]
abbrev dktX8_readStatement_1 : List UInt8 := dkwX8_readStatement_1 ++ dktX8_readStatement_2
def dkwX8_readStatement_0 : List UInt8 := [42, 16, 112, 16, 114, 16, 111, 16, 100, 16, 117, 16, 99, 16, 116, 184, 0, 229, 182, 0, 233, 153, 0, 10]
abbrev dktX8_readStatement_0 : List UInt8 := dkwX8_readStatement_0 ++ dktX8_readStatement_1
theorem dksX8_readStatement_0 : cX8_readStatement.data.toList.drop 0 = dktX8_readStatement_0 := by decide +kernel
theorem dksX8_readStatement_1 : cX8_readStatement.data.toList.drop 24 = dktX8_readStatement_1 := dk_seg dksX8_readStatement_0 24 rfl rfl
theorem dksX8_readStatement_2 : cX8_readStatement.data.toList.drop 48 = dktX8_readStatement_2 := dk_seg dksX8_readStatement_1 24 rfl rfl
theorem dksX8_readStatement_3 : cX8_readStatement.data.toList.drop 71 = dktX8_readStatement_3 := dk_seg dksX8_readStatement_2 23 rfl rfl
theorem dksX8_readStatement_4 : cX8_readStatement.data.toList.drop 94 = dktX8_readStatement_4 := dk_seg dksX8_readStatement_3 23 rfl rfl
theorem dksX8_readStatement_5 : cX8_readStatement.data.toList.drop 117 = dktX8_readStatement_5 := dk_seg dksX8_readStatement_4 23 rfl rfl
theorem dksX8_readStatement_6 : cX8_readStatement.data.toList.drop 141 = dktX8_readStatement_6 := dk_seg dksX8_readStatement_5 24 rfl rfl
theorem dX8_readStatement_0 : decode cX8_readStatement 0 = .ok (.aload_n 0, 1) := dk_42 (dk_at dksX8_readStatement_0 0 rfl rfl)
theorem dX8_readStatement_1 : decode cX8_readStatement 1 = .ok (.bipush 112, 2) := dk_16 112 (dk_at dksX8_readStatement_0 1 rfl rfl)
theorem dX8_readStatement_3 : decode cX8_readStatement 3 = .ok (.bipush 114, 2) := dk_16 114 (dk_at dksX8_readStatement_0 3 rfl rfl)
theorem dX8_readStatement_5 : decode cX8_readStatement 5 = .ok (.bipush 111, 2) := dk_16 111 (dk_at dksX8_readStatement_0 5 rfl rfl)
theorem dX8_readStatement_7 : decode cX8_readStatement 7 = .ok (.bipush 100, 2) := dk_16 100 (dk_at dksX8_readStatement_0 7 rfl rfl)
theorem dX8_readStatement_9 : decode cX8_readStatement 9 = .ok (.bipush 117, 2) := dk_16 117 (dk_at dksX8_readStatement_0 9 rfl rfl)
theorem dX8_readStatement_11 : decode cX8_readStatement 11 = .ok (.bipush 99, 2) := dk_16 99 (dk_at dksX8_readStatement_0 11 rfl rfl)
theorem dX8_readStatement_13 : decode cX8_readStatement 13 = .ok (.bipush 116, 2) := dk_16 116 (dk_at dksX8_readStatement_0 13 rfl rfl)
theorem dX8_readStatement_15 : decode cX8_readStatement 15 = .ok (.invokestatic 229, 3) := dk_184 0 229 (dk_at dksX8_readStatement_0 15 rfl rfl)
theorem dX8_readStatement_18 : decode cX8_readStatement 18 = .ok (.invokevirtual 233, 3) := dk_182 0 233 (dk_at dksX8_readStatement_0 18 rfl rfl)
theorem dX8_readStatement_21 : decode cX8_readStatement 21 = .ok (.ifCond .eq 10, 3) := dk_153 0 10 (dk_at dksX8_readStatement_0 21 rfl rfl)
theorem dX8_readStatement_24 : decode cX8_readStatement 24 = .ok (.aload_n 0, 1) := dk_42 (dk_at dksX8_readStatement_1 0 rfl rfl)
theorem dX8_readStatement_25 : decode cX8_readStatement 25 = .ok (.invokevirtual 279, 3) := dk_182 1 23 (dk_at dksX8_readStatement_1 1 rfl rfl)
theorem dX8_readStatement_28 : decode cX8_readStatement 28 = .ok (.goto 100, 3) := dk_167 0 100 (dk_at dksX8_readStatement_1 4 rfl rfl)
theorem dX8_readStatement_31 : decode cX8_readStatement 31 = .ok (.aload_n 0, 1) := dk_42 (dk_at dksX8_readStatement_1 7 rfl rfl)
theorem dX8_readStatement_32 : decode cX8_readStatement 32 = .ok (.invokevirtual 237, 3) := dk_182 0 237 (dk_at dksX8_readStatement_1 8 rfl rfl)
theorem dX8_readStatement_35 : decode cX8_readStatement 35 = .ok (.ifCond .eq 10, 3) := dk_153 0 10 (dk_at dksX8_readStatement_1 11 rfl rfl)
theorem dX8_readStatement_38 : decode cX8_readStatement 38 = .ok (.aload_n 0, 1) := dk_42 (dk_at dksX8_readStatement_1 14 rfl rfl)
theorem dX8_readStatement_39 : decode cX8_readStatement 39 = .ok (.invokevirtual 282, 3) := dk_182 1 26 (dk_at dksX8_readStatement_1 15 rfl rfl)
theorem dX8_readStatement_42 : decode cX8_readStatement 42 = .ok (.goto 86, 3) := dk_167 0 86 (dk_at dksX8_readStatement_1 18 rfl rfl)
theorem dX8_readStatement_45 : decode cX8_readStatement 45 = .ok (.aload_n 0, 1) := dk_42 (dk_at dksX8_readStatement_1 21 rfl rfl)
theorem dX8_readStatement_46 : decode cX8_readStatement 46 = .ok (.bipush 98, 2) := dk_16 98 (dk_at dksX8_readStatement_1 22 rfl rfl)
theorem dX8_readStatement_48 : decode cX8_readStatement 48 = .ok (.bipush 97, 2) := dk_16 97 (dk_at dksX8_readStatement_2 0 rfl rfl)
theorem dX8_readStatement_50 : decode cX8_readStatement 50 = .ok (.bipush 116, 2) := dk_16 116 (dk_at dksX8_readStatement_2 2 rfl rfl)
theorem dX8_readStatement_52 : decode cX8_readStatement 52 = .ok (.bipush 99, 2) := dk_16 99 (dk_at dksX8_readStatement_2 4 rfl rfl)
theorem dX8_readStatement_54 : decode cX8_readStatement 54 = .ok (.bipush 104, 2) := dk_16 104 (dk_at dksX8_readStatement_2 6 rfl rfl)
theorem dX8_readStatement_56 : decode cX8_readStatement 56 = .ok (.iconst 0, 1) := dk_3 (dk_at dksX8_readStatement_2 8 rfl rfl)
theorem dX8_readStatement_57 : decode cX8_readStatement 57 = .ok (.iconst 0, 1) := dk_3 (dk_at dksX8_readStatement_2 9 rfl rfl)
theorem dX8_readStatement_58 : decode cX8_readStatement 58 = .ok (.invokestatic 229, 3) := dk_184 0 229 (dk_at dksX8_readStatement_2 10 rfl rfl)
theorem dX8_readStatement_61 : decode cX8_readStatement 61 = .ok (.invokevirtual 233, 3) := dk_182 0 233 (dk_at dksX8_readStatement_2 13 rfl rfl)
theorem dX8_readStatement_64 : decode cX8_readStatement 64 = .ok (.ifCond .eq 10, 3) := dk_153 0 10 (dk_at dksX8_readStatement_2 16 rfl rfl)
theorem dX8_readStatement_67 : decode cX8_readStatement 67 = .ok (.aload_n 0, 1) := dk_42 (dk_at dksX8_readStatement_2 19 rfl rfl)
theorem dX8_readStatement_68 : decode cX8_readStatement 68 = .ok (.invokevirtual 285, 3) := dk_182 1 29 (dk_at dksX8_readStatement_2 20 rfl rfl)
theorem dX8_readStatement_71 : decode cX8_readStatement 71 = .ok (.goto 57, 3) := dk_167 0 57 (dk_at dksX8_readStatement_3 0 rfl rfl)
theorem dX8_readStatement_74 : decode cX8_readStatement 74 = .ok (.aload_n 0, 1) := dk_42 (dk_at dksX8_readStatement_3 3 rfl rfl)
theorem dX8_readStatement_75 : decode cX8_readStatement 75 = .ok (.bipush 112, 2) := dk_16 112 (dk_at dksX8_readStatement_3 4 rfl rfl)
theorem dX8_readStatement_77 : decode cX8_readStatement 77 = .ok (.bipush 111, 2) := dk_16 111 (dk_at dksX8_readStatement_3 6 rfl rfl)
theorem dX8_readStatement_79 : decode cX8_readStatement 79 = .ok (.bipush 108, 2) := dk_16 108 (dk_at dksX8_readStatement_3 8 rfl rfl)
theorem dX8_readStatement_81 : decode cX8_readStatement 81 = .ok (.bipush 105, 2) := dk_16 105 (dk_at dksX8_readStatement_3 10 rfl rfl)
theorem dX8_readStatement_83 : decode cX8_readStatement 83 = .ok (.bipush 99, 2) := dk_16 99 (dk_at dksX8_readStatement_3 12 rfl rfl)
theorem dX8_readStatement_85 : decode cX8_readStatement 85 = .ok (.bipush 121, 2) := dk_16 121 (dk_at dksX8_readStatement_3 14 rfl rfl)
theorem dX8_readStatement_87 : decode cX8_readStatement 87 = .ok (.iconst 0, 1) := dk_3 (dk_at dksX8_readStatement_3 16 rfl rfl)
theorem dX8_readStatement_88 : decode cX8_readStatement 88 = .ok (.invokestatic 229, 3) := dk_184 0 229 (dk_at dksX8_readStatement_3 17 rfl rfl)
theorem dX8_readStatement_91 : decode cX8_readStatement 91 = .ok (.invokevirtual 233, 3) := dk_182 0 233 (dk_at dksX8_readStatement_3 20 rfl rfl)
theorem dX8_readStatement_94 : decode cX8_readStatement 94 = .ok (.ifCond .eq 10, 3) := dk_153 0 10 (dk_at dksX8_readStatement_4 0 rfl rfl)
theorem dX8_readStatement_97 : decode cX8_readStatement 97 = .ok (.aload_n 0, 1) := dk_42 (dk_at dksX8_readStatement_4 3 rfl rfl)
theorem dX8_readStatement_98 : decode cX8_readStatement 98 = .ok (.invokevirtual 288, 3) := dk_182 1 32 (dk_at dksX8_readStatement_4 4 rfl rfl)
theorem dX8_readStatement_101 : decode cX8_readStatement 101 = .ok (.goto 27, 3) := dk_167 0 27 (dk_at dksX8_readStatement_4 7 rfl rfl)
theorem dX8_readStatement_104 : decode cX8_readStatement 104 = .ok (.aload_n 0, 1) := dk_42 (dk_at dksX8_readStatement_4 10 rfl rfl)
theorem dX8_readStatement_105 : decode cX8_readStatement 105 = .ok (.invokevirtual 291, 3) := dk_182 1 35 (dk_at dksX8_readStatement_4 11 rfl rfl)
theorem dX8_readStatement_108 : decode cX8_readStatement 108 = .ok (.iconst (-1), 1) := dk_2 (dk_at dksX8_readStatement_4 14 rfl rfl)
theorem dX8_readStatement_109 : decode cX8_readStatement 109 = .ok (.if_icmp .eq 14, 3) := dk_159 0 14 (dk_at dksX8_readStatement_4 15 rfl rfl)
theorem dX8_readStatement_112 : decode cX8_readStatement 112 = .ok (.aload_n 0, 1) := dk_42 (dk_at dksX8_readStatement_4 18 rfl rfl)
theorem dX8_readStatement_113 : decode cX8_readStatement 113 = .ok (.aload_n 0, 1) := dk_42 (dk_at dksX8_readStatement_4 19 rfl rfl)
theorem dX8_readStatement_114 : decode cX8_readStatement 114 = .ok (.invokevirtual 291, 3) := dk_182 1 35 (dk_at dksX8_readStatement_4 20 rfl rfl)
theorem dX8_readStatement_117 : decode cX8_readStatement 117 = .ok (.invokevirtual 294, 3) := dk_182 1 38 (dk_at dksX8_readStatement_5 0 rfl rfl)
theorem dX8_readStatement_120 : decode cX8_readStatement 120 = .ok (.goto 8, 3) := dk_167 0 8 (dk_at dksX8_readStatement_5 3 rfl rfl)
theorem dX8_readStatement_123 : decode cX8_readStatement 123 = .ok (.aload_n 0, 1) := dk_42 (dk_at dksX8_readStatement_5 6 rfl rfl)
theorem dX8_readStatement_124 : decode cX8_readStatement 124 = .ok (.iconst 0, 1) := dk_3 (dk_at dksX8_readStatement_5 7 rfl rfl)
theorem dX8_readStatement_125 : decode cX8_readStatement 125 = .ok (.invokevirtual 256, 3) := dk_182 1 0 (dk_at dksX8_readStatement_5 8 rfl rfl)
theorem dX8_readStatement_128 : decode cX8_readStatement 128 = .ok (.aload_n 0, 1) := dk_42 (dk_at dksX8_readStatement_5 11 rfl rfl)
theorem dX8_readStatement_129 : decode cX8_readStatement 129 = .ok (.aload_n 0, 1) := dk_42 (dk_at dksX8_readStatement_5 12 rfl rfl)
theorem dX8_readStatement_130 : decode cX8_readStatement 130 = .ok (.getfield 192, 3) := dk_180 0 192 (dk_at dksX8_readStatement_5 13 rfl rfl)
theorem dX8_readStatement_133 : decode cX8_readStatement 133 = .ok (.iconst 3, 1) := dk_6 (dk_at dksX8_readStatement_5 16 rfl rfl)
theorem dX8_readStatement_134 : decode cX8_readStatement 134 = .ok (.if_icmp .ne 7, 3) := dk_160 0 7 (dk_at dksX8_readStatement_5 17 rfl rfl)
theorem dX8_readStatement_137 : decode cX8_readStatement 137 = .ok (.iconst 1, 1) := dk_4 (dk_at dksX8_readStatement_5 20 rfl rfl)
theorem dX8_readStatement_138 : decode cX8_readStatement 138 = .ok (.goto 4, 3) := dk_167 0 4 (dk_at dksX8_readStatement_5 21 rfl rfl)
theorem dX8_readStatement_141 : decode cX8_readStatement 141 = .ok (.iconst 0, 1) := dk_3 (dk_at dksX8_readStatement_6 0 rfl rfl)
theorem dX8_readStatement_142 : decode cX8_readStatement 142 = .ok (.invokevirtual 256, 3) := dk_182 1 0 (dk_at dksX8_readStatement_6 1 rfl rfl)
theorem dX8_readStatement_145 : decode cX8_readStatement 145 = .ok (.aload_n 0, 1) := dk_42 (dk_at dksX8_readStatement_6 4 rfl rfl)
theorem dX8_readStatement_146 : decode cX8_readStatement 146 = .ok (.invokevirtual 260, 3) := dk_182 1 4 (dk_at dksX8_readStatement_6 5 rfl rfl)
theorem dX8_readStatement_149 : decode cX8_readStatement 149 = .ok (.return_, 1) := dk_177 (dk_at dksX8_readStatement_6 8 rfl rfl)
abbrev cX8_spelled : ByteArray := prog_13_method_31_code
def yX8_spelled : MethodName := ⟨RX8, "spelled", "(IIIIIII)J"⟩
def dkwX8_spelled_1 : List UInt8 := [184, 0, 225, 21, 5, 184, 0, 225, 21, 6, 184, 0, 225, 173]
abbrev dktX8_spelled_1 : List UInt8 := dkwX8_spelled_1 ++ []
def dkwX8_spelled_0 : List UInt8 := [9, 26, 184, 0, 225, 27, 184, 0, 225, 28, 184, 0, 225, 29, 184, 0, 225, 55, 7, 22, 7, 21, 4]
abbrev dktX8_spelled_0 : List UInt8 := dkwX8_spelled_0 ++ dktX8_spelled_1
theorem dksX8_spelled_0 : cX8_spelled.data.toList.drop 0 = dktX8_spelled_0 := by decide +kernel
theorem dksX8_spelled_1 : cX8_spelled.data.toList.drop 23 = dktX8_spelled_1 := dk_seg dksX8_spelled_0 23 rfl rfl
theorem dX8_spelled_0 : decode cX8_spelled 0 = .ok (.lconst 0, 1) := dk_9 (dk_at dksX8_spelled_0 0 rfl rfl)
theorem dX8_spelled_1 : decode cX8_spelled 1 = .ok (.iload_n 0, 1) := dk_26 (dk_at dksX8_spelled_0 1 rfl rfl)
theorem dX8_spelled_2 : decode cX8_spelled 2 = .ok (.invokestatic 225, 3) := dk_184 0 225 (dk_at dksX8_spelled_0 2 rfl rfl)
theorem dX8_spelled_5 : decode cX8_spelled 5 = .ok (.iload_n 1, 1) := dk_27 (dk_at dksX8_spelled_0 5 rfl rfl)
theorem dX8_spelled_6 : decode cX8_spelled 6 = .ok (.invokestatic 225, 3) := dk_184 0 225 (dk_at dksX8_spelled_0 6 rfl rfl)
theorem dX8_spelled_9 : decode cX8_spelled 9 = .ok (.iload_n 2, 1) := dk_28 (dk_at dksX8_spelled_0 9 rfl rfl)
theorem dX8_spelled_10 : decode cX8_spelled 10 = .ok (.invokestatic 225, 3) := dk_184 0 225 (dk_at dksX8_spelled_0 10 rfl rfl)
theorem dX8_spelled_13 : decode cX8_spelled 13 = .ok (.iload_n 3, 1) := dk_29 (dk_at dksX8_spelled_0 13 rfl rfl)
theorem dX8_spelled_14 : decode cX8_spelled 14 = .ok (.invokestatic 225, 3) := dk_184 0 225 (dk_at dksX8_spelled_0 14 rfl rfl)
theorem dX8_spelled_17 : decode cX8_spelled 17 = .ok (.lstore 7, 2) := dk_55 7 (dk_at dksX8_spelled_0 17 rfl rfl)
theorem dX8_spelled_19 : decode cX8_spelled 19 = .ok (.lload 7, 2) := dk_22 7 (dk_at dksX8_spelled_0 19 rfl rfl)
theorem dX8_spelled_21 : decode cX8_spelled 21 = .ok (.iload 4, 2) := dk_21 4 (dk_at dksX8_spelled_0 21 rfl rfl)
theorem dX8_spelled_23 : decode cX8_spelled 23 = .ok (.invokestatic 225, 3) := dk_184 0 225 (dk_at dksX8_spelled_1 0 rfl rfl)
theorem dX8_spelled_26 : decode cX8_spelled 26 = .ok (.iload 5, 2) := dk_21 5 (dk_at dksX8_spelled_1 3 rfl rfl)
theorem dX8_spelled_28 : decode cX8_spelled 28 = .ok (.invokestatic 225, 3) := dk_184 0 225 (dk_at dksX8_spelled_1 5 rfl rfl)
theorem dX8_spelled_31 : decode cX8_spelled 31 = .ok (.iload 6, 2) := dk_21 6 (dk_at dksX8_spelled_1 8 rfl rfl)
theorem dX8_spelled_33 : decode cX8_spelled 33 = .ok (.invokestatic 225, 3) := dk_184 0 225 (dk_at dksX8_spelled_1 10 rfl rfl)
theorem dX8_spelled_36 : decode cX8_spelled 36 = .ok (.lreturn, 1) := dk_173 (dk_at dksX8_spelled_1 13 rfl rfl)
abbrev cX8_more : ByteArray := prog_13_method_30_code
def yX8_more : MethodName := ⟨RX8, "more", "(JI)J"⟩
def dkwX8_more_0 : List UInt8 := [28, 154, 0, 7, 30, 167, 0, 15, 20, 0, 188, 30, 105, 28, 133, 97, 20, 0, 223, 101, 173]
abbrev dktX8_more_0 : List UInt8 := dkwX8_more_0 ++ []
theorem dksX8_more_0 : cX8_more.data.toList.drop 0 = dktX8_more_0 := by decide +kernel
theorem dX8_more_0 : decode cX8_more 0 = .ok (.iload_n 2, 1) := dk_28 (dk_at dksX8_more_0 0 rfl rfl)
theorem dX8_more_1 : decode cX8_more 1 = .ok (.ifCond .ne 7, 3) := dk_154 0 7 (dk_at dksX8_more_0 1 rfl rfl)
theorem dX8_more_4 : decode cX8_more 4 = .ok (.lload_n 0, 1) := dk_30 (dk_at dksX8_more_0 4 rfl rfl)
theorem dX8_more_5 : decode cX8_more 5 = .ok (.goto 15, 3) := dk_167 0 15 (dk_at dksX8_more_0 5 rfl rfl)
theorem dX8_more_8 : decode cX8_more 8 = .ok (.ldc2_w 188, 3) := dk_20 0 188 (dk_at dksX8_more_0 8 rfl rfl)
theorem dX8_more_11 : decode cX8_more 11 = .ok (.lload_n 0, 1) := dk_30 (dk_at dksX8_more_0 11 rfl rfl)
theorem dX8_more_12 : decode cX8_more 12 = .ok (.lmul, 1) := dk_105 (dk_at dksX8_more_0 12 rfl rfl)
theorem dX8_more_13 : decode cX8_more 13 = .ok (.iload_n 2, 1) := dk_28 (dk_at dksX8_more_0 13 rfl rfl)
theorem dX8_more_14 : decode cX8_more 14 = .ok (.i2l, 1) := dk_133 (dk_at dksX8_more_0 14 rfl rfl)
theorem dX8_more_15 : decode cX8_more 15 = .ok (.ladd, 1) := dk_97 (dk_at dksX8_more_0 15 rfl rfl)
theorem dX8_more_16 : decode cX8_more 16 = .ok (.ldc2_w 223, 3) := dk_20 0 223 (dk_at dksX8_more_0 16 rfl rfl)
theorem dX8_more_19 : decode cX8_more 19 = .ok (.lsub, 1) := dk_101 (dk_at dksX8_more_0 19 rfl rfl)
theorem dX8_more_20 : decode cX8_more 20 = .ok (.lreturn, 1) := dk_173 (dk_at dksX8_more_0 20 rfl rfl)
abbrev cX8_isWord : ByteArray := prog_13_method_32_code
def yX8_isWord : MethodName := ⟨RX8, "isWord", "(J)Z"⟩
def dkwX8_isWord_0 : List UInt8 := [42, 180, 0, 192, 4, 160, 0, 16, 42, 180, 0, 177, 31, 148, 154, 0, 7, 4, 167, 0, 4, 3, 172]
abbrev dktX8_isWord_0 : List UInt8 := dkwX8_isWord_0 ++ []
theorem dksX8_isWord_0 : cX8_isWord.data.toList.drop 0 = dktX8_isWord_0 := by decide +kernel
theorem dX8_isWord_0 : decode cX8_isWord 0 = .ok (.aload_n 0, 1) := dk_42 (dk_at dksX8_isWord_0 0 rfl rfl)
theorem dX8_isWord_1 : decode cX8_isWord 1 = .ok (.getfield 192, 3) := dk_180 0 192 (dk_at dksX8_isWord_0 1 rfl rfl)
theorem dX8_isWord_4 : decode cX8_isWord 4 = .ok (.iconst 1, 1) := dk_4 (dk_at dksX8_isWord_0 4 rfl rfl)
theorem dX8_isWord_5 : decode cX8_isWord 5 = .ok (.if_icmp .ne 16, 3) := dk_160 0 16 (dk_at dksX8_isWord_0 5 rfl rfl)
theorem dX8_isWord_8 : decode cX8_isWord 8 = .ok (.aload_n 0, 1) := dk_42 (dk_at dksX8_isWord_0 8 rfl rfl)
theorem dX8_isWord_9 : decode cX8_isWord 9 = .ok (.getfield 177, 3) := dk_180 0 177 (dk_at dksX8_isWord_0 9 rfl rfl)
theorem dX8_isWord_12 : decode cX8_isWord 12 = .ok (.lload_n 1, 1) := dk_31 (dk_at dksX8_isWord_0 12 rfl rfl)
theorem dX8_isWord_13 : decode cX8_isWord 13 = .ok (.lcmp, 1) := dk_148 (dk_at dksX8_isWord_0 13 rfl rfl)
theorem dX8_isWord_14 : decode cX8_isWord 14 = .ok (.ifCond .ne 7, 3) := dk_154 0 7 (dk_at dksX8_isWord_0 14 rfl rfl)
theorem dX8_isWord_17 : decode cX8_isWord 17 = .ok (.iconst 1, 1) := dk_4 (dk_at dksX8_isWord_0 17 rfl rfl)
theorem dX8_isWord_18 : decode cX8_isWord 18 = .ok (.goto 4, 3) := dk_167 0 4 (dk_at dksX8_isWord_0 18 rfl rfl)
theorem dX8_isWord_21 : decode cX8_isWord 21 = .ok (.iconst 0, 1) := dk_3 (dk_at dksX8_isWord_0 21 rfl rfl)
theorem dX8_isWord_22 : decode cX8_isWord 22 = .ok (.ireturn, 1) := dk_172 (dk_at dksX8_isWord_0 22 rfl rfl)
abbrev cX8_readProduct : ByteArray := prog_13_method_40_code
def yX8_readProduct : MethodName := ⟨RX8, "readProduct", "()V"⟩
def dkwX8_readProduct_8 : List UInt8 := [177]
abbrev dktX8_readProduct_8 : List UInt8 := dkwX8_readProduct_8 ++ []
def dkwX8_readProduct_7 : List UInt8 := [17, 1, 44, 182, 1, 10, 79, 42, 182, 0, 216, 153, 0, 13, 42, 89, 180, 0, 240, 4, 96, 181, 0, 240]
abbrev dktX8_readProduct_7 : List UInt8 := dkwX8_readProduct_7 ++ dktX8_readProduct_8
def dkwX8_readProduct_6 : List UInt8 := [180, 0, 46, 27, 7, 96, 42, 4, 16, 120, 182, 1, 10, 79, 42, 180, 0, 46, 27, 8, 96, 42, 16, 100]
abbrev dktX8_readProduct_6 : List UInt8 := dkwX8_readProduct_6 ++ dktX8_readProduct_7
def dkwX8_readProduct_5 : List UInt8 := [17, 0, 240, 182, 1, 10, 79, 42, 180, 0, 46, 27, 6, 96, 42, 3, 16, 120, 182, 1, 10, 79, 42]
abbrev dktX8_readProduct_5 : List UInt8 := dkwX8_readProduct_5 ++ dktX8_readProduct_6
def dkwX8_readProduct_4 : List UInt8 := [180, 0, 46, 27, 4, 96, 42, 4, 16, 60, 182, 1, 10, 79, 42, 180, 0, 46, 27, 5, 96, 42, 4]
abbrev dktX8_readProduct_4 : List UInt8 := dkwX8_readProduct_4 ++ dktX8_readProduct_5
def dkwX8_readProduct_3 : List UInt8 := [180, 0, 177, 80, 42, 182, 0, 220, 42, 180, 0, 46, 27, 42, 3, 16, 9, 182, 1, 10, 79, 42]
abbrev dktX8_readProduct_3 : List UInt8 := dkwX8_readProduct_3 ++ dktX8_readProduct_4
def dkwX8_readProduct_2 : List UInt8 := [182, 0, 216, 154, 0, 4, 177, 16, 6, 42, 180, 0, 240, 104, 60, 42, 180, 0, 49, 42, 180, 0, 240, 42]
abbrev dktX8_readProduct_2 : List UInt8 := dkwX8_readProduct_2 ++ dktX8_readProduct_3
def dkwX8_readProduct_1 : List UInt8 := [180, 0, 192, 4, 160, 0, 15, 42, 182, 1, 7, 2, 160, 0, 7, 4, 167, 0, 4, 3, 182, 1, 0, 42]
abbrev dktX8_readProduct_1 : List UInt8 := dkwX8_readProduct_1 ++ dktX8_readProduct_2
def dkwX8_readProduct_0 : List UInt8 := [42, 42, 180, 0, 240, 16, 8, 162, 0, 7, 4, 167, 0, 4, 3, 182, 1, 0, 42, 182, 1, 4, 42, 42]
abbrev dktX8_readProduct_0 : List UInt8 := dkwX8_readProduct_0 ++ dktX8_readProduct_1
theorem dksX8_readProduct_0 : cX8_readProduct.data.toList.drop 0 = dktX8_readProduct_0 := by decide +kernel
theorem dksX8_readProduct_1 : cX8_readProduct.data.toList.drop 24 = dktX8_readProduct_1 := dk_seg dksX8_readProduct_0 24 rfl rfl
theorem dksX8_readProduct_2 : cX8_readProduct.data.toList.drop 48 = dktX8_readProduct_2 := dk_seg dksX8_readProduct_1 24 rfl rfl
theorem dksX8_readProduct_3 : cX8_readProduct.data.toList.drop 72 = dktX8_readProduct_3 := dk_seg dksX8_readProduct_2 24 rfl rfl
theorem dksX8_readProduct_4 : cX8_readProduct.data.toList.drop 94 = dktX8_readProduct_4 := dk_seg dksX8_readProduct_3 22 rfl rfl
theorem dksX8_readProduct_5 : cX8_readProduct.data.toList.drop 117 = dktX8_readProduct_5 := dk_seg dksX8_readProduct_4 23 rfl rfl
theorem dksX8_readProduct_6 : cX8_readProduct.data.toList.drop 140 = dktX8_readProduct_6 := dk_seg dksX8_readProduct_5 23 rfl rfl
theorem dksX8_readProduct_7 : cX8_readProduct.data.toList.drop 164 = dktX8_readProduct_7 := dk_seg dksX8_readProduct_6 24 rfl rfl
theorem dksX8_readProduct_8 : cX8_readProduct.data.toList.drop 188 = dktX8_readProduct_8 := dk_seg dksX8_readProduct_7 24 rfl rfl
theorem dX8_readProduct_0 : decode cX8_readProduct 0 = .ok (.aload_n 0, 1) := dk_42 (dk_at dksX8_readProduct_0 0 rfl rfl)
theorem dX8_readProduct_1 : decode cX8_readProduct 1 = .ok (.aload_n 0, 1) := dk_42 (dk_at dksX8_readProduct_0 1 rfl rfl)
theorem dX8_readProduct_2 : decode cX8_readProduct 2 = .ok (.getfield 240, 3) := dk_180 0 240 (dk_at dksX8_readProduct_0 2 rfl rfl)
theorem dX8_readProduct_5 : decode cX8_readProduct 5 = .ok (.bipush 8, 2) := dk_16 8 (dk_at dksX8_readProduct_0 5 rfl rfl)
theorem dX8_readProduct_7 : decode cX8_readProduct 7 = .ok (.if_icmp .ge 7, 3) := dk_162 0 7 (dk_at dksX8_readProduct_0 7 rfl rfl)
theorem dX8_readProduct_10 : decode cX8_readProduct 10 = .ok (.iconst 1, 1) := dk_4 (dk_at dksX8_readProduct_0 10 rfl rfl)
theorem dX8_readProduct_11 : decode cX8_readProduct 11 = .ok (.goto 4, 3) := dk_167 0 4 (dk_at dksX8_readProduct_0 11 rfl rfl)
theorem dX8_readProduct_14 : decode cX8_readProduct 14 = .ok (.iconst 0, 1) := dk_3 (dk_at dksX8_readProduct_0 14 rfl rfl)
theorem dX8_readProduct_15 : decode cX8_readProduct 15 = .ok (.invokevirtual 256, 3) := dk_182 1 0 (dk_at dksX8_readProduct_0 15 rfl rfl)
theorem dX8_readProduct_18 : decode cX8_readProduct 18 = .ok (.aload_n 0, 1) := dk_42 (dk_at dksX8_readProduct_0 18 rfl rfl)
theorem dX8_readProduct_19 : decode cX8_readProduct 19 = .ok (.invokevirtual 260, 3) := dk_182 1 4 (dk_at dksX8_readProduct_0 19 rfl rfl)
theorem dX8_readProduct_22 : decode cX8_readProduct 22 = .ok (.aload_n 0, 1) := dk_42 (dk_at dksX8_readProduct_0 22 rfl rfl)
theorem dX8_readProduct_23 : decode cX8_readProduct 23 = .ok (.aload_n 0, 1) := dk_42 (dk_at dksX8_readProduct_0 23 rfl rfl)
theorem dX8_readProduct_24 : decode cX8_readProduct 24 = .ok (.getfield 192, 3) := dk_180 0 192 (dk_at dksX8_readProduct_1 0 rfl rfl)
theorem dX8_readProduct_27 : decode cX8_readProduct 27 = .ok (.iconst 1, 1) := dk_4 (dk_at dksX8_readProduct_1 3 rfl rfl)
theorem dX8_readProduct_28 : decode cX8_readProduct 28 = .ok (.if_icmp .ne 15, 3) := dk_160 0 15 (dk_at dksX8_readProduct_1 4 rfl rfl)
theorem dX8_readProduct_31 : decode cX8_readProduct 31 = .ok (.aload_n 0, 1) := dk_42 (dk_at dksX8_readProduct_1 7 rfl rfl)
theorem dX8_readProduct_32 : decode cX8_readProduct 32 = .ok (.invokevirtual 263, 3) := dk_182 1 7 (dk_at dksX8_readProduct_1 8 rfl rfl)
theorem dX8_readProduct_35 : decode cX8_readProduct 35 = .ok (.iconst (-1), 1) := dk_2 (dk_at dksX8_readProduct_1 11 rfl rfl)
theorem dX8_readProduct_36 : decode cX8_readProduct 36 = .ok (.if_icmp .ne 7, 3) := dk_160 0 7 (dk_at dksX8_readProduct_1 12 rfl rfl)
theorem dX8_readProduct_39 : decode cX8_readProduct 39 = .ok (.iconst 1, 1) := dk_4 (dk_at dksX8_readProduct_1 15 rfl rfl)
theorem dX8_readProduct_40 : decode cX8_readProduct 40 = .ok (.goto 4, 3) := dk_167 0 4 (dk_at dksX8_readProduct_1 16 rfl rfl)
theorem dX8_readProduct_43 : decode cX8_readProduct 43 = .ok (.iconst 0, 1) := dk_3 (dk_at dksX8_readProduct_1 19 rfl rfl)
theorem dX8_readProduct_44 : decode cX8_readProduct 44 = .ok (.invokevirtual 256, 3) := dk_182 1 0 (dk_at dksX8_readProduct_1 20 rfl rfl)
theorem dX8_readProduct_47 : decode cX8_readProduct 47 = .ok (.aload_n 0, 1) := dk_42 (dk_at dksX8_readProduct_1 23 rfl rfl)
theorem dX8_readProduct_48 : decode cX8_readProduct 48 = .ok (.invokevirtual 216, 3) := dk_182 0 216 (dk_at dksX8_readProduct_2 0 rfl rfl)
theorem dX8_readProduct_51 : decode cX8_readProduct 51 = .ok (.ifCond .ne 4, 3) := dk_154 0 4 (dk_at dksX8_readProduct_2 3 rfl rfl)
theorem dX8_readProduct_54 : decode cX8_readProduct 54 = .ok (.return_, 1) := dk_177 (dk_at dksX8_readProduct_2 6 rfl rfl)
theorem dX8_readProduct_55 : decode cX8_readProduct 55 = .ok (.bipush 6, 2) := dk_16 6 (dk_at dksX8_readProduct_2 7 rfl rfl)
theorem dX8_readProduct_57 : decode cX8_readProduct 57 = .ok (.aload_n 0, 1) := dk_42 (dk_at dksX8_readProduct_2 9 rfl rfl)
theorem dX8_readProduct_58 : decode cX8_readProduct 58 = .ok (.getfield 240, 3) := dk_180 0 240 (dk_at dksX8_readProduct_2 10 rfl rfl)
theorem dX8_readProduct_61 : decode cX8_readProduct 61 = .ok (.imul, 1) := dk_104 (dk_at dksX8_readProduct_2 13 rfl rfl)
theorem dX8_readProduct_62 : decode cX8_readProduct 62 = .ok (.istore_n 1, 1) := dk_60 (dk_at dksX8_readProduct_2 14 rfl rfl)
theorem dX8_readProduct_63 : decode cX8_readProduct 63 = .ok (.aload_n 0, 1) := dk_42 (dk_at dksX8_readProduct_2 15 rfl rfl)
theorem dX8_readProduct_64 : decode cX8_readProduct 64 = .ok (.getfield 49, 3) := dk_180 0 49 (dk_at dksX8_readProduct_2 16 rfl rfl)
theorem dX8_readProduct_67 : decode cX8_readProduct 67 = .ok (.aload_n 0, 1) := dk_42 (dk_at dksX8_readProduct_2 19 rfl rfl)
theorem dX8_readProduct_68 : decode cX8_readProduct 68 = .ok (.getfield 240, 3) := dk_180 0 240 (dk_at dksX8_readProduct_2 20 rfl rfl)
theorem dX8_readProduct_71 : decode cX8_readProduct 71 = .ok (.aload_n 0, 1) := dk_42 (dk_at dksX8_readProduct_2 23 rfl rfl)
theorem dX8_readProduct_72 : decode cX8_readProduct 72 = .ok (.getfield 177, 3) := dk_180 0 177 (dk_at dksX8_readProduct_3 0 rfl rfl)
theorem dX8_readProduct_75 : decode cX8_readProduct 75 = .ok (.lastore, 1) := dk_80 (dk_at dksX8_readProduct_3 3 rfl rfl)
theorem dX8_readProduct_76 : decode cX8_readProduct 76 = .ok (.aload_n 0, 1) := dk_42 (dk_at dksX8_readProduct_3 4 rfl rfl)
theorem dX8_readProduct_77 : decode cX8_readProduct 77 = .ok (.invokevirtual 220, 3) := dk_182 0 220 (dk_at dksX8_readProduct_3 5 rfl rfl)
theorem dX8_readProduct_80 : decode cX8_readProduct 80 = .ok (.aload_n 0, 1) := dk_42 (dk_at dksX8_readProduct_3 8 rfl rfl)
theorem dX8_readProduct_81 : decode cX8_readProduct 81 = .ok (.getfield 46, 3) := dk_180 0 46 (dk_at dksX8_readProduct_3 9 rfl rfl)
theorem dX8_readProduct_84 : decode cX8_readProduct 84 = .ok (.iload_n 1, 1) := dk_27 (dk_at dksX8_readProduct_3 12 rfl rfl)
theorem dX8_readProduct_85 : decode cX8_readProduct 85 = .ok (.aload_n 0, 1) := dk_42 (dk_at dksX8_readProduct_3 13 rfl rfl)
theorem dX8_readProduct_86 : decode cX8_readProduct 86 = .ok (.iconst 0, 1) := dk_3 (dk_at dksX8_readProduct_3 14 rfl rfl)
theorem dX8_readProduct_87 : decode cX8_readProduct 87 = .ok (.bipush 9, 2) := dk_16 9 (dk_at dksX8_readProduct_3 15 rfl rfl)
theorem dX8_readProduct_89 : decode cX8_readProduct 89 = .ok (.invokevirtual 266, 3) := dk_182 1 10 (dk_at dksX8_readProduct_3 17 rfl rfl)
theorem dX8_readProduct_92 : decode cX8_readProduct 92 = .ok (.iastore, 1) := dk_79 (dk_at dksX8_readProduct_3 20 rfl rfl)
theorem dX8_readProduct_93 : decode cX8_readProduct 93 = .ok (.aload_n 0, 1) := dk_42 (dk_at dksX8_readProduct_3 21 rfl rfl)
theorem dX8_readProduct_94 : decode cX8_readProduct 94 = .ok (.getfield 46, 3) := dk_180 0 46 (dk_at dksX8_readProduct_4 0 rfl rfl)
theorem dX8_readProduct_97 : decode cX8_readProduct 97 = .ok (.iload_n 1, 1) := dk_27 (dk_at dksX8_readProduct_4 3 rfl rfl)
theorem dX8_readProduct_98 : decode cX8_readProduct 98 = .ok (.iconst 1, 1) := dk_4 (dk_at dksX8_readProduct_4 4 rfl rfl)
theorem dX8_readProduct_99 : decode cX8_readProduct 99 = .ok (.iadd, 1) := dk_96 (dk_at dksX8_readProduct_4 5 rfl rfl)
theorem dX8_readProduct_100 : decode cX8_readProduct 100 = .ok (.aload_n 0, 1) := dk_42 (dk_at dksX8_readProduct_4 6 rfl rfl)
theorem dX8_readProduct_101 : decode cX8_readProduct 101 = .ok (.iconst 1, 1) := dk_4 (dk_at dksX8_readProduct_4 7 rfl rfl)
theorem dX8_readProduct_102 : decode cX8_readProduct 102 = .ok (.bipush 60, 2) := dk_16 60 (dk_at dksX8_readProduct_4 8 rfl rfl)
theorem dX8_readProduct_104 : decode cX8_readProduct 104 = .ok (.invokevirtual 266, 3) := dk_182 1 10 (dk_at dksX8_readProduct_4 10 rfl rfl)
theorem dX8_readProduct_107 : decode cX8_readProduct 107 = .ok (.iastore, 1) := dk_79 (dk_at dksX8_readProduct_4 13 rfl rfl)
theorem dX8_readProduct_108 : decode cX8_readProduct 108 = .ok (.aload_n 0, 1) := dk_42 (dk_at dksX8_readProduct_4 14 rfl rfl)
theorem dX8_readProduct_109 : decode cX8_readProduct 109 = .ok (.getfield 46, 3) := dk_180 0 46 (dk_at dksX8_readProduct_4 15 rfl rfl)
theorem dX8_readProduct_112 : decode cX8_readProduct 112 = .ok (.iload_n 1, 1) := dk_27 (dk_at dksX8_readProduct_4 18 rfl rfl)
theorem dX8_readProduct_113 : decode cX8_readProduct 113 = .ok (.iconst 2, 1) := dk_5 (dk_at dksX8_readProduct_4 19 rfl rfl)
theorem dX8_readProduct_114 : decode cX8_readProduct 114 = .ok (.iadd, 1) := dk_96 (dk_at dksX8_readProduct_4 20 rfl rfl)
theorem dX8_readProduct_115 : decode cX8_readProduct 115 = .ok (.aload_n 0, 1) := dk_42 (dk_at dksX8_readProduct_4 21 rfl rfl)
theorem dX8_readProduct_116 : decode cX8_readProduct 116 = .ok (.iconst 1, 1) := dk_4 (dk_at dksX8_readProduct_4 22 rfl rfl)
theorem dX8_readProduct_117 : decode cX8_readProduct 117 = .ok (.sipush 240, 3) := dk_17 0 240 (dk_at dksX8_readProduct_5 0 rfl rfl)
theorem dX8_readProduct_120 : decode cX8_readProduct 120 = .ok (.invokevirtual 266, 3) := dk_182 1 10 (dk_at dksX8_readProduct_5 3 rfl rfl)
theorem dX8_readProduct_123 : decode cX8_readProduct 123 = .ok (.iastore, 1) := dk_79 (dk_at dksX8_readProduct_5 6 rfl rfl)
theorem dX8_readProduct_124 : decode cX8_readProduct 124 = .ok (.aload_n 0, 1) := dk_42 (dk_at dksX8_readProduct_5 7 rfl rfl)
theorem dX8_readProduct_125 : decode cX8_readProduct 125 = .ok (.getfield 46, 3) := dk_180 0 46 (dk_at dksX8_readProduct_5 8 rfl rfl)
theorem dX8_readProduct_128 : decode cX8_readProduct 128 = .ok (.iload_n 1, 1) := dk_27 (dk_at dksX8_readProduct_5 11 rfl rfl)
theorem dX8_readProduct_129 : decode cX8_readProduct 129 = .ok (.iconst 3, 1) := dk_6 (dk_at dksX8_readProduct_5 12 rfl rfl)
theorem dX8_readProduct_130 : decode cX8_readProduct 130 = .ok (.iadd, 1) := dk_96 (dk_at dksX8_readProduct_5 13 rfl rfl)
theorem dX8_readProduct_131 : decode cX8_readProduct 131 = .ok (.aload_n 0, 1) := dk_42 (dk_at dksX8_readProduct_5 14 rfl rfl)
theorem dX8_readProduct_132 : decode cX8_readProduct 132 = .ok (.iconst 0, 1) := dk_3 (dk_at dksX8_readProduct_5 15 rfl rfl)
theorem dX8_readProduct_133 : decode cX8_readProduct 133 = .ok (.bipush 120, 2) := dk_16 120 (dk_at dksX8_readProduct_5 16 rfl rfl)
theorem dX8_readProduct_135 : decode cX8_readProduct 135 = .ok (.invokevirtual 266, 3) := dk_182 1 10 (dk_at dksX8_readProduct_5 18 rfl rfl)
theorem dX8_readProduct_138 : decode cX8_readProduct 138 = .ok (.iastore, 1) := dk_79 (dk_at dksX8_readProduct_5 21 rfl rfl)
theorem dX8_readProduct_139 : decode cX8_readProduct 139 = .ok (.aload_n 0, 1) := dk_42 (dk_at dksX8_readProduct_5 22 rfl rfl)
theorem dX8_readProduct_140 : decode cX8_readProduct 140 = .ok (.getfield 46, 3) := dk_180 0 46 (dk_at dksX8_readProduct_6 0 rfl rfl)
theorem dX8_readProduct_143 : decode cX8_readProduct 143 = .ok (.iload_n 1, 1) := dk_27 (dk_at dksX8_readProduct_6 3 rfl rfl)
theorem dX8_readProduct_144 : decode cX8_readProduct 144 = .ok (.iconst 4, 1) := dk_7 (dk_at dksX8_readProduct_6 4 rfl rfl)
theorem dX8_readProduct_145 : decode cX8_readProduct 145 = .ok (.iadd, 1) := dk_96 (dk_at dksX8_readProduct_6 5 rfl rfl)
theorem dX8_readProduct_146 : decode cX8_readProduct 146 = .ok (.aload_n 0, 1) := dk_42 (dk_at dksX8_readProduct_6 6 rfl rfl)
theorem dX8_readProduct_147 : decode cX8_readProduct 147 = .ok (.iconst 1, 1) := dk_4 (dk_at dksX8_readProduct_6 7 rfl rfl)
theorem dX8_readProduct_148 : decode cX8_readProduct 148 = .ok (.bipush 120, 2) := dk_16 120 (dk_at dksX8_readProduct_6 8 rfl rfl)
theorem dX8_readProduct_150 : decode cX8_readProduct 150 = .ok (.invokevirtual 266, 3) := dk_182 1 10 (dk_at dksX8_readProduct_6 10 rfl rfl)
theorem dX8_readProduct_153 : decode cX8_readProduct 153 = .ok (.iastore, 1) := dk_79 (dk_at dksX8_readProduct_6 13 rfl rfl)
theorem dX8_readProduct_154 : decode cX8_readProduct 154 = .ok (.aload_n 0, 1) := dk_42 (dk_at dksX8_readProduct_6 14 rfl rfl)
theorem dX8_readProduct_155 : decode cX8_readProduct 155 = .ok (.getfield 46, 3) := dk_180 0 46 (dk_at dksX8_readProduct_6 15 rfl rfl)
theorem dX8_readProduct_158 : decode cX8_readProduct 158 = .ok (.iload_n 1, 1) := dk_27 (dk_at dksX8_readProduct_6 18 rfl rfl)
theorem dX8_readProduct_159 : decode cX8_readProduct 159 = .ok (.iconst 5, 1) := dk_8 (dk_at dksX8_readProduct_6 19 rfl rfl)
theorem dX8_readProduct_160 : decode cX8_readProduct 160 = .ok (.iadd, 1) := dk_96 (dk_at dksX8_readProduct_6 20 rfl rfl)
theorem dX8_readProduct_161 : decode cX8_readProduct 161 = .ok (.aload_n 0, 1) := dk_42 (dk_at dksX8_readProduct_6 21 rfl rfl)
theorem dX8_readProduct_162 : decode cX8_readProduct 162 = .ok (.bipush 100, 2) := dk_16 100 (dk_at dksX8_readProduct_6 22 rfl rfl)
theorem dX8_readProduct_164 : decode cX8_readProduct 164 = .ok (.sipush 300, 3) := dk_17 1 44 (dk_at dksX8_readProduct_7 0 rfl rfl)
theorem dX8_readProduct_167 : decode cX8_readProduct 167 = .ok (.invokevirtual 266, 3) := dk_182 1 10 (dk_at dksX8_readProduct_7 3 rfl rfl)
theorem dX8_readProduct_170 : decode cX8_readProduct 170 = .ok (.iastore, 1) := dk_79 (dk_at dksX8_readProduct_7 6 rfl rfl)
theorem dX8_readProduct_171 : decode cX8_readProduct 171 = .ok (.aload_n 0, 1) := dk_42 (dk_at dksX8_readProduct_7 7 rfl rfl)
theorem dX8_readProduct_172 : decode cX8_readProduct 172 = .ok (.invokevirtual 216, 3) := dk_182 0 216 (dk_at dksX8_readProduct_7 8 rfl rfl)
theorem dX8_readProduct_175 : decode cX8_readProduct 175 = .ok (.ifCond .eq 13, 3) := dk_153 0 13 (dk_at dksX8_readProduct_7 11 rfl rfl)
theorem dX8_readProduct_178 : decode cX8_readProduct 178 = .ok (.aload_n 0, 1) := dk_42 (dk_at dksX8_readProduct_7 14 rfl rfl)
theorem dX8_readProduct_179 : decode cX8_readProduct 179 = .ok (.dup, 1) := dk_89 (dk_at dksX8_readProduct_7 15 rfl rfl)
theorem dX8_readProduct_180 : decode cX8_readProduct 180 = .ok (.getfield 240, 3) := dk_180 0 240 (dk_at dksX8_readProduct_7 16 rfl rfl)
theorem dX8_readProduct_183 : decode cX8_readProduct 183 = .ok (.iconst 1, 1) := dk_4 (dk_at dksX8_readProduct_7 19 rfl rfl)
theorem dX8_readProduct_184 : decode cX8_readProduct 184 = .ok (.iadd, 1) := dk_96 (dk_at dksX8_readProduct_7 20 rfl rfl)
theorem dX8_readProduct_185 : decode cX8_readProduct 185 = .ok (.putfield 240, 3) := dk_181 0 240 (dk_at dksX8_readProduct_7 21 rfl rfl)
theorem dX8_readProduct_188 : decode cX8_readProduct 188 = .ok (.return_, 1) := dk_177 (dk_at dksX8_readProduct_8 0 rfl rfl)
abbrev cX8_must : ByteArray := prog_13_method_28_code
def yX8_must : MethodName := ⟨RX8, "must", "(Z)V"⟩
def dkwX8_must_0 : List UInt8 := [27, 154, 0, 19, 42, 180, 0, 213, 2, 160, 0, 11, 42, 42, 180, 0, 204, 181, 0, 213, 177]
abbrev dktX8_must_0 : List UInt8 := dkwX8_must_0 ++ []
theorem dksX8_must_0 : cX8_must.data.toList.drop 0 = dktX8_must_0 := by decide +kernel
theorem dX8_must_0 : decode cX8_must 0 = .ok (.iload_n 1, 1) := dk_27 (dk_at dksX8_must_0 0 rfl rfl)
theorem dX8_must_1 : decode cX8_must 1 = .ok (.ifCond .ne 19, 3) := dk_154 0 19 (dk_at dksX8_must_0 1 rfl rfl)
theorem dX8_must_4 : decode cX8_must 4 = .ok (.aload_n 0, 1) := dk_42 (dk_at dksX8_must_0 4 rfl rfl)
theorem dX8_must_5 : decode cX8_must 5 = .ok (.getfield 213, 3) := dk_180 0 213 (dk_at dksX8_must_0 5 rfl rfl)
theorem dX8_must_8 : decode cX8_must 8 = .ok (.iconst (-1), 1) := dk_2 (dk_at dksX8_must_0 8 rfl rfl)
theorem dX8_must_9 : decode cX8_must 9 = .ok (.if_icmp .ne 11, 3) := dk_160 0 11 (dk_at dksX8_must_0 9 rfl rfl)
theorem dX8_must_12 : decode cX8_must 12 = .ok (.aload_n 0, 1) := dk_42 (dk_at dksX8_must_0 12 rfl rfl)
theorem dX8_must_13 : decode cX8_must 13 = .ok (.aload_n 0, 1) := dk_42 (dk_at dksX8_must_0 13 rfl rfl)
theorem dX8_must_14 : decode cX8_must 14 = .ok (.getfield 204, 3) := dk_180 0 204 (dk_at dksX8_must_0 14 rfl rfl)
theorem dX8_must_17 : decode cX8_must 17 = .ok (.putfield 213, 3) := dk_181 0 213 (dk_at dksX8_must_0 17 rfl rfl)
theorem dX8_must_20 : decode cX8_must 20 = .ok (.return_, 1) := dk_177 (dk_at dksX8_must_0 20 rfl rfl)
abbrev cX8_goesOn : ByteArray := prog_13_method_29_code
def yX8_goesOn : MethodName := ⟨RX8, "goesOn", "()V"⟩
def dkwX8_goesOn_0 : List UInt8 := [42, 182, 0, 216, 153, 0, 7, 42, 182, 0, 220, 177]
abbrev dktX8_goesOn_0 : List UInt8 := dkwX8_goesOn_0 ++ []
theorem dksX8_goesOn_0 : cX8_goesOn.data.toList.drop 0 = dktX8_goesOn_0 := by decide +kernel
theorem dX8_goesOn_0 : decode cX8_goesOn 0 = .ok (.aload_n 0, 1) := dk_42 (dk_at dksX8_goesOn_0 0 rfl rfl)
theorem dX8_goesOn_1 : decode cX8_goesOn 1 = .ok (.invokevirtual 216, 3) := dk_182 0 216 (dk_at dksX8_goesOn_0 1 rfl rfl)
theorem dX8_goesOn_4 : decode cX8_goesOn 4 = .ok (.ifCond .eq 7, 3) := dk_153 0 7 (dk_at dksX8_goesOn_0 4 rfl rfl)
theorem dX8_goesOn_7 : decode cX8_goesOn 7 = .ok (.aload_n 0, 1) := dk_42 (dk_at dksX8_goesOn_0 7 rfl rfl)
theorem dX8_goesOn_8 : decode cX8_goesOn 8 = .ok (.invokevirtual 220, 3) := dk_182 0 220 (dk_at dksX8_goesOn_0 8 rfl rfl)
theorem dX8_goesOn_11 : decode cX8_goesOn 11 = .ok (.return_, 1) := dk_177 (dk_at dksX8_goesOn_0 11 rfl rfl)
abbrev cX8_productHere : ByteArray := prog_13_method_39_code
def yX8_productHere : MethodName := ⟨RX8, "productHere", "()I"⟩
def dkwX8_productHere_1 : List UInt8 := [27, 47, 42, 180, 0, 177, 148, 154, 0, 5, 27, 172, 132, 1, 1, 167, 255, 229, 2, 172]
abbrev dktX8_productHere_1 : List UInt8 := dkwX8_productHere_1 ++ []
def dkwX8_productHere_0 : List UInt8 := [42, 180, 0, 192, 4, 159, 0, 5, 2, 172, 3, 60, 27, 42, 180, 0, 240, 162, 0, 25, 42, 180, 0, 49]
abbrev dktX8_productHere_0 : List UInt8 := dkwX8_productHere_0 ++ dktX8_productHere_1
theorem dksX8_productHere_0 : cX8_productHere.data.toList.drop 0 = dktX8_productHere_0 := by decide +kernel
theorem dksX8_productHere_1 : cX8_productHere.data.toList.drop 24 = dktX8_productHere_1 := dk_seg dksX8_productHere_0 24 rfl rfl
theorem dX8_productHere_0 : decode cX8_productHere 0 = .ok (.aload_n 0, 1) := dk_42 (dk_at dksX8_productHere_0 0 rfl rfl)
theorem dX8_productHere_1 : decode cX8_productHere 1 = .ok (.getfield 192, 3) := dk_180 0 192 (dk_at dksX8_productHere_0 1 rfl rfl)
theorem dX8_productHere_4 : decode cX8_productHere 4 = .ok (.iconst 1, 1) := dk_4 (dk_at dksX8_productHere_0 4 rfl rfl)
theorem dX8_productHere_5 : decode cX8_productHere 5 = .ok (.if_icmp .eq 5, 3) := dk_159 0 5 (dk_at dksX8_productHere_0 5 rfl rfl)
theorem dX8_productHere_8 : decode cX8_productHere 8 = .ok (.iconst (-1), 1) := dk_2 (dk_at dksX8_productHere_0 8 rfl rfl)
theorem dX8_productHere_9 : decode cX8_productHere 9 = .ok (.ireturn, 1) := dk_172 (dk_at dksX8_productHere_0 9 rfl rfl)
theorem dX8_productHere_10 : decode cX8_productHere 10 = .ok (.iconst 0, 1) := dk_3 (dk_at dksX8_productHere_0 10 rfl rfl)
theorem dX8_productHere_11 : decode cX8_productHere 11 = .ok (.istore_n 1, 1) := dk_60 (dk_at dksX8_productHere_0 11 rfl rfl)
theorem dX8_productHere_12 : decode cX8_productHere 12 = .ok (.iload_n 1, 1) := dk_27 (dk_at dksX8_productHere_0 12 rfl rfl)
theorem dX8_productHere_13 : decode cX8_productHere 13 = .ok (.aload_n 0, 1) := dk_42 (dk_at dksX8_productHere_0 13 rfl rfl)
theorem dX8_productHere_14 : decode cX8_productHere 14 = .ok (.getfield 240, 3) := dk_180 0 240 (dk_at dksX8_productHere_0 14 rfl rfl)
theorem dX8_productHere_17 : decode cX8_productHere 17 = .ok (.if_icmp .ge 25, 3) := dk_162 0 25 (dk_at dksX8_productHere_0 17 rfl rfl)
theorem dX8_productHere_20 : decode cX8_productHere 20 = .ok (.aload_n 0, 1) := dk_42 (dk_at dksX8_productHere_0 20 rfl rfl)
theorem dX8_productHere_21 : decode cX8_productHere 21 = .ok (.getfield 49, 3) := dk_180 0 49 (dk_at dksX8_productHere_0 21 rfl rfl)
theorem dX8_productHere_24 : decode cX8_productHere 24 = .ok (.iload_n 1, 1) := dk_27 (dk_at dksX8_productHere_1 0 rfl rfl)
theorem dX8_productHere_25 : decode cX8_productHere 25 = .ok (.laload, 1) := dk_47 (dk_at dksX8_productHere_1 1 rfl rfl)
theorem dX8_productHere_26 : decode cX8_productHere 26 = .ok (.aload_n 0, 1) := dk_42 (dk_at dksX8_productHere_1 2 rfl rfl)
theorem dX8_productHere_27 : decode cX8_productHere 27 = .ok (.getfield 177, 3) := dk_180 0 177 (dk_at dksX8_productHere_1 3 rfl rfl)
theorem dX8_productHere_30 : decode cX8_productHere 30 = .ok (.lcmp, 1) := dk_148 (dk_at dksX8_productHere_1 6 rfl rfl)
theorem dX8_productHere_31 : decode cX8_productHere 31 = .ok (.ifCond .ne 5, 3) := dk_154 0 5 (dk_at dksX8_productHere_1 7 rfl rfl)
theorem dX8_productHere_34 : decode cX8_productHere 34 = .ok (.iload_n 1, 1) := dk_27 (dk_at dksX8_productHere_1 10 rfl rfl)
theorem dX8_productHere_35 : decode cX8_productHere 35 = .ok (.ireturn, 1) := dk_172 (dk_at dksX8_productHere_1 11 rfl rfl)
theorem dX8_productHere_36 : decode cX8_productHere 36 = .ok (.iinc 1 1, 3) := dk_132 1 1 (dk_at dksX8_productHere_1 12 rfl rfl)
theorem dX8_productHere_39 : decode cX8_productHere 39 = .ok (.goto (-27), 3) := dk_167 255 229 (dk_at dksX8_productHere_1 15 rfl rfl)
theorem dX8_productHere_42 : decode cX8_productHere 42 = .ok (.iconst (-1), 1) := dk_2 (dk_at dksX8_productHere_1 18 rfl rfl)
theorem dX8_productHere_43 : decode cX8_productHere 43 = .ok (.ireturn, 1) := dk_172 (dk_at dksX8_productHere_1 19 rfl rfl)
abbrev cX8_readValue : ByteArray := prog_13_method_38_code
def yX8_readValue : MethodName := ⟨RX8, "readValue", "(II)I"⟩
def dkwX8_readValue_2 : List UInt8 := [182, 0, 220, 29, 172]
abbrev dktX8_readValue_2 : List UInt8 := dkwX8_readValue_2 ++ []
def dkwX8_readValue_1 : List UInt8 := [167, 0, 4, 3, 182, 1, 0, 42, 182, 0, 216, 154, 0, 5, 3, 172, 42, 180, 0, 195, 62, 42]
abbrev dktX8_readValue_1 : List UInt8 := dkwX8_readValue_1 ++ dktX8_readValue_2
def dkwX8_readValue_0 : List UInt8 := [42, 42, 180, 0, 192, 5, 160, 0, 19, 42, 180, 0, 195, 27, 28, 184, 0, 151, 153, 0, 7, 4]
abbrev dktX8_readValue_0 : List UInt8 := dkwX8_readValue_0 ++ dktX8_readValue_1
theorem dksX8_readValue_0 : cX8_readValue.data.toList.drop 0 = dktX8_readValue_0 := by decide +kernel
theorem dksX8_readValue_1 : cX8_readValue.data.toList.drop 22 = dktX8_readValue_1 := dk_seg dksX8_readValue_0 22 rfl rfl
theorem dksX8_readValue_2 : cX8_readValue.data.toList.drop 44 = dktX8_readValue_2 := dk_seg dksX8_readValue_1 22 rfl rfl
theorem dX8_readValue_0 : decode cX8_readValue 0 = .ok (.aload_n 0, 1) := dk_42 (dk_at dksX8_readValue_0 0 rfl rfl)
theorem dX8_readValue_1 : decode cX8_readValue 1 = .ok (.aload_n 0, 1) := dk_42 (dk_at dksX8_readValue_0 1 rfl rfl)
theorem dX8_readValue_2 : decode cX8_readValue 2 = .ok (.getfield 192, 3) := dk_180 0 192 (dk_at dksX8_readValue_0 2 rfl rfl)
theorem dX8_readValue_5 : decode cX8_readValue 5 = .ok (.iconst 2, 1) := dk_5 (dk_at dksX8_readValue_0 5 rfl rfl)
theorem dX8_readValue_6 : decode cX8_readValue 6 = .ok (.if_icmp .ne 19, 3) := dk_160 0 19 (dk_at dksX8_readValue_0 6 rfl rfl)
theorem dX8_readValue_9 : decode cX8_readValue 9 = .ok (.aload_n 0, 1) := dk_42 (dk_at dksX8_readValue_0 9 rfl rfl)
theorem dX8_readValue_10 : decode cX8_readValue 10 = .ok (.getfield 195, 3) := dk_180 0 195 (dk_at dksX8_readValue_0 10 rfl rfl)
theorem dX8_readValue_13 : decode cX8_readValue 13 = .ok (.iload_n 1, 1) := dk_27 (dk_at dksX8_readValue_0 13 rfl rfl)
theorem dX8_readValue_14 : decode cX8_readValue 14 = .ok (.iload_n 2, 1) := dk_28 (dk_at dksX8_readValue_0 14 rfl rfl)
theorem dX8_readValue_15 : decode cX8_readValue 15 = .ok (.invokestatic 151, 3) := dk_184 0 151 (dk_at dksX8_readValue_0 15 rfl rfl)
theorem dX8_readValue_18 : decode cX8_readValue 18 = .ok (.ifCond .eq 7, 3) := dk_153 0 7 (dk_at dksX8_readValue_0 18 rfl rfl)
theorem dX8_readValue_21 : decode cX8_readValue 21 = .ok (.iconst 1, 1) := dk_4 (dk_at dksX8_readValue_0 21 rfl rfl)
theorem dX8_readValue_22 : decode cX8_readValue 22 = .ok (.goto 4, 3) := dk_167 0 4 (dk_at dksX8_readValue_1 0 rfl rfl)
theorem dX8_readValue_25 : decode cX8_readValue 25 = .ok (.iconst 0, 1) := dk_3 (dk_at dksX8_readValue_1 3 rfl rfl)
theorem dX8_readValue_26 : decode cX8_readValue 26 = .ok (.invokevirtual 256, 3) := dk_182 1 0 (dk_at dksX8_readValue_1 4 rfl rfl)
theorem dX8_readValue_29 : decode cX8_readValue 29 = .ok (.aload_n 0, 1) := dk_42 (dk_at dksX8_readValue_1 7 rfl rfl)
theorem dX8_readValue_30 : decode cX8_readValue 30 = .ok (.invokevirtual 216, 3) := dk_182 0 216 (dk_at dksX8_readValue_1 8 rfl rfl)
theorem dX8_readValue_33 : decode cX8_readValue 33 = .ok (.ifCond .ne 5, 3) := dk_154 0 5 (dk_at dksX8_readValue_1 11 rfl rfl)
theorem dX8_readValue_36 : decode cX8_readValue 36 = .ok (.iconst 0, 1) := dk_3 (dk_at dksX8_readValue_1 14 rfl rfl)
theorem dX8_readValue_37 : decode cX8_readValue 37 = .ok (.ireturn, 1) := dk_172 (dk_at dksX8_readValue_1 15 rfl rfl)
theorem dX8_readValue_38 : decode cX8_readValue 38 = .ok (.aload_n 0, 1) := dk_42 (dk_at dksX8_readValue_1 16 rfl rfl)
theorem dX8_readValue_39 : decode cX8_readValue 39 = .ok (.getfield 195, 3) := dk_180 0 195 (dk_at dksX8_readValue_1 17 rfl rfl)
theorem dX8_readValue_42 : decode cX8_readValue 42 = .ok (.istore_n 3, 1) := dk_62 (dk_at dksX8_readValue_1 20 rfl rfl)
theorem dX8_readValue_43 : decode cX8_readValue 43 = .ok (.aload_n 0, 1) := dk_42 (dk_at dksX8_readValue_1 21 rfl rfl)
theorem dX8_readValue_44 : decode cX8_readValue 44 = .ok (.invokevirtual 220, 3) := dk_182 0 220 (dk_at dksX8_readValue_2 0 rfl rfl)
theorem dX8_readValue_47 : decode cX8_readValue 47 = .ok (.iload_n 3, 1) := dk_29 (dk_at dksX8_readValue_2 3 rfl rfl)
theorem dX8_readValue_48 : decode cX8_readValue 48 = .ok (.ireturn, 1) := dk_172 (dk_at dksX8_readValue_2 4 rfl rfl)
abbrev cX8_isWaveWord : ByteArray := prog_13_method_34_code
def yX8_isWaveWord : MethodName := ⟨RX8, "isWaveWord", "()Z"⟩
def dkwX8_isWaveWord_0 : List UInt8 := [42, 16, 119, 16, 97, 16, 118, 16, 101, 3, 3, 3, 184, 0, 229, 182, 0, 233, 172]
abbrev dktX8_isWaveWord_0 : List UInt8 := dkwX8_isWaveWord_0 ++ []
theorem dksX8_isWaveWord_0 : cX8_isWaveWord.data.toList.drop 0 = dktX8_isWaveWord_0 := by decide +kernel
theorem dX8_isWaveWord_0 : decode cX8_isWaveWord 0 = .ok (.aload_n 0, 1) := dk_42 (dk_at dksX8_isWaveWord_0 0 rfl rfl)
theorem dX8_isWaveWord_1 : decode cX8_isWaveWord 1 = .ok (.bipush 119, 2) := dk_16 119 (dk_at dksX8_isWaveWord_0 1 rfl rfl)
theorem dX8_isWaveWord_3 : decode cX8_isWaveWord 3 = .ok (.bipush 97, 2) := dk_16 97 (dk_at dksX8_isWaveWord_0 3 rfl rfl)
theorem dX8_isWaveWord_5 : decode cX8_isWaveWord 5 = .ok (.bipush 118, 2) := dk_16 118 (dk_at dksX8_isWaveWord_0 5 rfl rfl)
theorem dX8_isWaveWord_7 : decode cX8_isWaveWord 7 = .ok (.bipush 101, 2) := dk_16 101 (dk_at dksX8_isWaveWord_0 7 rfl rfl)
theorem dX8_isWaveWord_9 : decode cX8_isWaveWord 9 = .ok (.iconst 0, 1) := dk_3 (dk_at dksX8_isWaveWord_0 9 rfl rfl)
theorem dX8_isWaveWord_10 : decode cX8_isWaveWord 10 = .ok (.iconst 0, 1) := dk_3 (dk_at dksX8_isWaveWord_0 10 rfl rfl)
theorem dX8_isWaveWord_11 : decode cX8_isWaveWord 11 = .ok (.iconst 0, 1) := dk_3 (dk_at dksX8_isWaveWord_0 11 rfl rfl)
theorem dX8_isWaveWord_12 : decode cX8_isWaveWord 12 = .ok (.invokestatic 229, 3) := dk_184 0 229 (dk_at dksX8_isWaveWord_0 12 rfl rfl)
theorem dX8_isWaveWord_15 : decode cX8_isWaveWord 15 = .ok (.invokevirtual 233, 3) := dk_182 0 233 (dk_at dksX8_isWaveWord_0 15 rfl rfl)
theorem dX8_isWaveWord_18 : decode cX8_isWaveWord 18 = .ok (.ireturn, 1) := dk_172 (dk_at dksX8_isWaveWord_0 18 rfl rfl)
abbrev cX8_readWave : ByteArray := prog_13_method_41_code
def yX8_readWave : MethodName := ⟨RX8, "readWave", "()V"⟩
def dkwX8_readWave_3 : List UInt8 := [180, 0, 243, 28, 79, 42, 89, 180, 0, 243, 4, 96, 181, 0, 243, 177]
abbrev dktX8_readWave_3 : List UInt8 := dkwX8_readWave_3 ++ []
def dkwX8_readWave_2 : List UInt8 := [42, 27, 17, 5, 159, 182, 1, 10, 61, 42, 182, 0, 216, 154, 0, 4, 177, 42, 180, 0, 52, 42]
abbrev dktX8_readWave_2 : List UInt8 := dkwX8_readWave_2 ++ dktX8_readWave_3
def dkwX8_readWave_1 : List UInt8 := [180, 0, 243, 154, 0, 7, 3, 167, 0, 16, 42, 180, 0, 52, 42, 180, 0, 243, 4, 100, 46, 4, 96, 60]
abbrev dktX8_readWave_1 : List UInt8 := dkwX8_readWave_1 ++ dktX8_readWave_2
def dkwX8_readWave_0 : List UInt8 := [42, 42, 180, 0, 243, 16, 6, 162, 0, 7, 4, 167, 0, 4, 3, 182, 1, 0, 42, 182, 1, 4, 42]
abbrev dktX8_readWave_0 : List UInt8 := dkwX8_readWave_0 ++ dktX8_readWave_1
theorem dksX8_readWave_0 : cX8_readWave.data.toList.drop 0 = dktX8_readWave_0 := by decide +kernel
theorem dksX8_readWave_1 : cX8_readWave.data.toList.drop 23 = dktX8_readWave_1 := dk_seg dksX8_readWave_0 23 rfl rfl
theorem dksX8_readWave_2 : cX8_readWave.data.toList.drop 47 = dktX8_readWave_2 := dk_seg dksX8_readWave_1 24 rfl rfl
theorem dksX8_readWave_3 : cX8_readWave.data.toList.drop 69 = dktX8_readWave_3 := dk_seg dksX8_readWave_2 22 rfl rfl
theorem dX8_readWave_0 : decode cX8_readWave 0 = .ok (.aload_n 0, 1) := dk_42 (dk_at dksX8_readWave_0 0 rfl rfl)
theorem dX8_readWave_1 : decode cX8_readWave 1 = .ok (.aload_n 0, 1) := dk_42 (dk_at dksX8_readWave_0 1 rfl rfl)
theorem dX8_readWave_2 : decode cX8_readWave 2 = .ok (.getfield 243, 3) := dk_180 0 243 (dk_at dksX8_readWave_0 2 rfl rfl)
theorem dX8_readWave_5 : decode cX8_readWave 5 = .ok (.bipush 6, 2) := dk_16 6 (dk_at dksX8_readWave_0 5 rfl rfl)
theorem dX8_readWave_7 : decode cX8_readWave 7 = .ok (.if_icmp .ge 7, 3) := dk_162 0 7 (dk_at dksX8_readWave_0 7 rfl rfl)
theorem dX8_readWave_10 : decode cX8_readWave 10 = .ok (.iconst 1, 1) := dk_4 (dk_at dksX8_readWave_0 10 rfl rfl)
theorem dX8_readWave_11 : decode cX8_readWave 11 = .ok (.goto 4, 3) := dk_167 0 4 (dk_at dksX8_readWave_0 11 rfl rfl)
theorem dX8_readWave_14 : decode cX8_readWave 14 = .ok (.iconst 0, 1) := dk_3 (dk_at dksX8_readWave_0 14 rfl rfl)
theorem dX8_readWave_15 : decode cX8_readWave 15 = .ok (.invokevirtual 256, 3) := dk_182 1 0 (dk_at dksX8_readWave_0 15 rfl rfl)
theorem dX8_readWave_18 : decode cX8_readWave 18 = .ok (.aload_n 0, 1) := dk_42 (dk_at dksX8_readWave_0 18 rfl rfl)
theorem dX8_readWave_19 : decode cX8_readWave 19 = .ok (.invokevirtual 260, 3) := dk_182 1 4 (dk_at dksX8_readWave_0 19 rfl rfl)
theorem dX8_readWave_22 : decode cX8_readWave 22 = .ok (.aload_n 0, 1) := dk_42 (dk_at dksX8_readWave_0 22 rfl rfl)
theorem dX8_readWave_23 : decode cX8_readWave 23 = .ok (.getfield 243, 3) := dk_180 0 243 (dk_at dksX8_readWave_1 0 rfl rfl)
theorem dX8_readWave_26 : decode cX8_readWave 26 = .ok (.ifCond .ne 7, 3) := dk_154 0 7 (dk_at dksX8_readWave_1 3 rfl rfl)
theorem dX8_readWave_29 : decode cX8_readWave 29 = .ok (.iconst 0, 1) := dk_3 (dk_at dksX8_readWave_1 6 rfl rfl)
theorem dX8_readWave_30 : decode cX8_readWave 30 = .ok (.goto 16, 3) := dk_167 0 16 (dk_at dksX8_readWave_1 7 rfl rfl)
theorem dX8_readWave_33 : decode cX8_readWave 33 = .ok (.aload_n 0, 1) := dk_42 (dk_at dksX8_readWave_1 10 rfl rfl)
theorem dX8_readWave_34 : decode cX8_readWave 34 = .ok (.getfield 52, 3) := dk_180 0 52 (dk_at dksX8_readWave_1 11 rfl rfl)
theorem dX8_readWave_37 : decode cX8_readWave 37 = .ok (.aload_n 0, 1) := dk_42 (dk_at dksX8_readWave_1 14 rfl rfl)
theorem dX8_readWave_38 : decode cX8_readWave 38 = .ok (.getfield 243, 3) := dk_180 0 243 (dk_at dksX8_readWave_1 15 rfl rfl)
theorem dX8_readWave_41 : decode cX8_readWave 41 = .ok (.iconst 1, 1) := dk_4 (dk_at dksX8_readWave_1 18 rfl rfl)
theorem dX8_readWave_42 : decode cX8_readWave 42 = .ok (.isub, 1) := dk_100 (dk_at dksX8_readWave_1 19 rfl rfl)
theorem dX8_readWave_43 : decode cX8_readWave 43 = .ok (.iaload, 1) := dk_46 (dk_at dksX8_readWave_1 20 rfl rfl)
theorem dX8_readWave_44 : decode cX8_readWave 44 = .ok (.iconst 1, 1) := dk_4 (dk_at dksX8_readWave_1 21 rfl rfl)
theorem dX8_readWave_45 : decode cX8_readWave 45 = .ok (.iadd, 1) := dk_96 (dk_at dksX8_readWave_1 22 rfl rfl)
theorem dX8_readWave_46 : decode cX8_readWave 46 = .ok (.istore_n 1, 1) := dk_60 (dk_at dksX8_readWave_1 23 rfl rfl)
theorem dX8_readWave_47 : decode cX8_readWave 47 = .ok (.aload_n 0, 1) := dk_42 (dk_at dksX8_readWave_2 0 rfl rfl)
theorem dX8_readWave_48 : decode cX8_readWave 48 = .ok (.iload_n 1, 1) := dk_27 (dk_at dksX8_readWave_2 1 rfl rfl)
theorem dX8_readWave_49 : decode cX8_readWave 49 = .ok (.sipush 1439, 3) := dk_17 5 159 (dk_at dksX8_readWave_2 2 rfl rfl)
theorem dX8_readWave_52 : decode cX8_readWave 52 = .ok (.invokevirtual 266, 3) := dk_182 1 10 (dk_at dksX8_readWave_2 5 rfl rfl)
theorem dX8_readWave_55 : decode cX8_readWave 55 = .ok (.istore_n 2, 1) := dk_61 (dk_at dksX8_readWave_2 8 rfl rfl)
theorem dX8_readWave_56 : decode cX8_readWave 56 = .ok (.aload_n 0, 1) := dk_42 (dk_at dksX8_readWave_2 9 rfl rfl)
theorem dX8_readWave_57 : decode cX8_readWave 57 = .ok (.invokevirtual 216, 3) := dk_182 0 216 (dk_at dksX8_readWave_2 10 rfl rfl)
theorem dX8_readWave_60 : decode cX8_readWave 60 = .ok (.ifCond .ne 4, 3) := dk_154 0 4 (dk_at dksX8_readWave_2 13 rfl rfl)
theorem dX8_readWave_63 : decode cX8_readWave 63 = .ok (.return_, 1) := dk_177 (dk_at dksX8_readWave_2 16 rfl rfl)
theorem dX8_readWave_64 : decode cX8_readWave 64 = .ok (.aload_n 0, 1) := dk_42 (dk_at dksX8_readWave_2 17 rfl rfl)
theorem dX8_readWave_65 : decode cX8_readWave 65 = .ok (.getfield 52, 3) := dk_180 0 52 (dk_at dksX8_readWave_2 18 rfl rfl)
theorem dX8_readWave_68 : decode cX8_readWave 68 = .ok (.aload_n 0, 1) := dk_42 (dk_at dksX8_readWave_2 21 rfl rfl)
theorem dX8_readWave_69 : decode cX8_readWave 69 = .ok (.getfield 243, 3) := dk_180 0 243 (dk_at dksX8_readWave_3 0 rfl rfl)
theorem dX8_readWave_72 : decode cX8_readWave 72 = .ok (.iload_n 2, 1) := dk_28 (dk_at dksX8_readWave_3 3 rfl rfl)
theorem dX8_readWave_73 : decode cX8_readWave 73 = .ok (.iastore, 1) := dk_79 (dk_at dksX8_readWave_3 4 rfl rfl)
theorem dX8_readWave_74 : decode cX8_readWave 74 = .ok (.aload_n 0, 1) := dk_42 (dk_at dksX8_readWave_3 5 rfl rfl)
theorem dX8_readWave_75 : decode cX8_readWave 75 = .ok (.dup, 1) := dk_89 (dk_at dksX8_readWave_3 6 rfl rfl)
theorem dX8_readWave_76 : decode cX8_readWave 76 = .ok (.getfield 243, 3) := dk_180 0 243 (dk_at dksX8_readWave_3 7 rfl rfl)
theorem dX8_readWave_79 : decode cX8_readWave 79 = .ok (.iconst 1, 1) := dk_4 (dk_at dksX8_readWave_3 10 rfl rfl)
theorem dX8_readWave_80 : decode cX8_readWave 80 = .ok (.iadd, 1) := dk_96 (dk_at dksX8_readWave_3 11 rfl rfl)
theorem dX8_readWave_81 : decode cX8_readWave 81 = .ok (.putfield 243, 3) := dk_181 0 243 (dk_at dksX8_readWave_3 12 rfl rfl)
theorem dX8_readWave_84 : decode cX8_readWave 84 = .ok (.return_, 1) := dk_177 (dk_at dksX8_readWave_3 15 rfl rfl)
abbrev cX8_readBatch : ByteArray := prog_13_method_42_code
def yX8_readBatch : MethodName := ⟨RX8, "readBatch", "()V"⟩
def dkwX8_readBatch_5 : List UInt8 := [79, 42, 180, 0, 7, 16, 78, 27, 4, 96, 79, 177]
abbrev dktX8_readBatch_5 : List UInt8 := dkwX8_readBatch_5 ++ []
def dkwX8_readBatch_4 : List UInt8 := [3, 96, 28, 79, 42, 180, 0, 7, 21, 5, 4, 96, 29, 79, 42, 180, 0, 7, 21, 5, 5, 96, 21, 4]
abbrev dktX8_readBatch_4 : List UInt8 := dkwX8_readBatch_4 ++ dktX8_readBatch_5
def dkwX8_readBatch_3 : List UInt8 := [54, 4, 42, 182, 0, 216, 154, 0, 4, 177, 16, 79, 6, 27, 104, 96, 54, 5, 42, 180, 0, 7, 21, 5]
abbrev dktX8_readBatch_3 : List UInt8 := dkwX8_readBatch_3 ++ dktX8_readBatch_4
def dkwX8_readBatch_2 : List UInt8 := [182, 1, 4, 42, 3, 17, 3, 231, 182, 1, 10, 62, 42, 3, 42, 180, 0, 243, 4, 100, 182, 1, 10]
abbrev dktX8_readBatch_2 : List UInt8 := dkwX8_readBatch_2 ++ dktX8_readBatch_3
def dkwX8_readBatch_1 : List UInt8 := [182, 1, 4, 42, 182, 1, 7, 61, 42, 28, 2, 159, 0, 7, 4, 167, 0, 4, 3, 182, 1, 0, 42]
abbrev dktX8_readBatch_1 : List UInt8 := dkwX8_readBatch_1 ++ dktX8_readBatch_2
def dkwX8_readBatch_0 : List UInt8 := [42, 180, 0, 7, 16, 78, 46, 60, 42, 27, 16, 20, 162, 0, 7, 4, 167, 0, 4, 3, 182, 1, 0, 42]
abbrev dktX8_readBatch_0 : List UInt8 := dkwX8_readBatch_0 ++ dktX8_readBatch_1
theorem dksX8_readBatch_0 : cX8_readBatch.data.toList.drop 0 = dktX8_readBatch_0 := by decide +kernel
theorem dksX8_readBatch_1 : cX8_readBatch.data.toList.drop 24 = dktX8_readBatch_1 := dk_seg dksX8_readBatch_0 24 rfl rfl
theorem dksX8_readBatch_2 : cX8_readBatch.data.toList.drop 47 = dktX8_readBatch_2 := dk_seg dksX8_readBatch_1 23 rfl rfl
theorem dksX8_readBatch_3 : cX8_readBatch.data.toList.drop 70 = dktX8_readBatch_3 := dk_seg dksX8_readBatch_2 23 rfl rfl
theorem dksX8_readBatch_4 : cX8_readBatch.data.toList.drop 94 = dktX8_readBatch_4 := dk_seg dksX8_readBatch_3 24 rfl rfl
theorem dksX8_readBatch_5 : cX8_readBatch.data.toList.drop 118 = dktX8_readBatch_5 := dk_seg dksX8_readBatch_4 24 rfl rfl
theorem dX8_readBatch_0 : decode cX8_readBatch 0 = .ok (.aload_n 0, 1) := dk_42 (dk_at dksX8_readBatch_0 0 rfl rfl)
theorem dX8_readBatch_1 : decode cX8_readBatch 1 = .ok (.getfield 7, 3) := dk_180 0 7 (dk_at dksX8_readBatch_0 1 rfl rfl)
theorem dX8_readBatch_4 : decode cX8_readBatch 4 = .ok (.bipush 78, 2) := dk_16 78 (dk_at dksX8_readBatch_0 4 rfl rfl)
theorem dX8_readBatch_6 : decode cX8_readBatch 6 = .ok (.iaload, 1) := dk_46 (dk_at dksX8_readBatch_0 6 rfl rfl)
theorem dX8_readBatch_7 : decode cX8_readBatch 7 = .ok (.istore_n 1, 1) := dk_60 (dk_at dksX8_readBatch_0 7 rfl rfl)
theorem dX8_readBatch_8 : decode cX8_readBatch 8 = .ok (.aload_n 0, 1) := dk_42 (dk_at dksX8_readBatch_0 8 rfl rfl)
theorem dX8_readBatch_9 : decode cX8_readBatch 9 = .ok (.iload_n 1, 1) := dk_27 (dk_at dksX8_readBatch_0 9 rfl rfl)
theorem dX8_readBatch_10 : decode cX8_readBatch 10 = .ok (.bipush 20, 2) := dk_16 20 (dk_at dksX8_readBatch_0 10 rfl rfl)
theorem dX8_readBatch_12 : decode cX8_readBatch 12 = .ok (.if_icmp .ge 7, 3) := dk_162 0 7 (dk_at dksX8_readBatch_0 12 rfl rfl)
theorem dX8_readBatch_15 : decode cX8_readBatch 15 = .ok (.iconst 1, 1) := dk_4 (dk_at dksX8_readBatch_0 15 rfl rfl)
theorem dX8_readBatch_16 : decode cX8_readBatch 16 = .ok (.goto 4, 3) := dk_167 0 4 (dk_at dksX8_readBatch_0 16 rfl rfl)
theorem dX8_readBatch_19 : decode cX8_readBatch 19 = .ok (.iconst 0, 1) := dk_3 (dk_at dksX8_readBatch_0 19 rfl rfl)
theorem dX8_readBatch_20 : decode cX8_readBatch 20 = .ok (.invokevirtual 256, 3) := dk_182 1 0 (dk_at dksX8_readBatch_0 20 rfl rfl)
theorem dX8_readBatch_23 : decode cX8_readBatch 23 = .ok (.aload_n 0, 1) := dk_42 (dk_at dksX8_readBatch_0 23 rfl rfl)
theorem dX8_readBatch_24 : decode cX8_readBatch 24 = .ok (.invokevirtual 260, 3) := dk_182 1 4 (dk_at dksX8_readBatch_1 0 rfl rfl)
theorem dX8_readBatch_27 : decode cX8_readBatch 27 = .ok (.aload_n 0, 1) := dk_42 (dk_at dksX8_readBatch_1 3 rfl rfl)
theorem dX8_readBatch_28 : decode cX8_readBatch 28 = .ok (.invokevirtual 263, 3) := dk_182 1 7 (dk_at dksX8_readBatch_1 4 rfl rfl)
theorem dX8_readBatch_31 : decode cX8_readBatch 31 = .ok (.istore_n 2, 1) := dk_61 (dk_at dksX8_readBatch_1 7 rfl rfl)
theorem dX8_readBatch_32 : decode cX8_readBatch 32 = .ok (.aload_n 0, 1) := dk_42 (dk_at dksX8_readBatch_1 8 rfl rfl)
theorem dX8_readBatch_33 : decode cX8_readBatch 33 = .ok (.iload_n 2, 1) := dk_28 (dk_at dksX8_readBatch_1 9 rfl rfl)
theorem dX8_readBatch_34 : decode cX8_readBatch 34 = .ok (.iconst (-1), 1) := dk_2 (dk_at dksX8_readBatch_1 10 rfl rfl)
theorem dX8_readBatch_35 : decode cX8_readBatch 35 = .ok (.if_icmp .eq 7, 3) := dk_159 0 7 (dk_at dksX8_readBatch_1 11 rfl rfl)
theorem dX8_readBatch_38 : decode cX8_readBatch 38 = .ok (.iconst 1, 1) := dk_4 (dk_at dksX8_readBatch_1 14 rfl rfl)
theorem dX8_readBatch_39 : decode cX8_readBatch 39 = .ok (.goto 4, 3) := dk_167 0 4 (dk_at dksX8_readBatch_1 15 rfl rfl)
theorem dX8_readBatch_42 : decode cX8_readBatch 42 = .ok (.iconst 0, 1) := dk_3 (dk_at dksX8_readBatch_1 18 rfl rfl)
theorem dX8_readBatch_43 : decode cX8_readBatch 43 = .ok (.invokevirtual 256, 3) := dk_182 1 0 (dk_at dksX8_readBatch_1 19 rfl rfl)
theorem dX8_readBatch_46 : decode cX8_readBatch 46 = .ok (.aload_n 0, 1) := dk_42 (dk_at dksX8_readBatch_1 22 rfl rfl)
theorem dX8_readBatch_47 : decode cX8_readBatch 47 = .ok (.invokevirtual 260, 3) := dk_182 1 4 (dk_at dksX8_readBatch_2 0 rfl rfl)
theorem dX8_readBatch_50 : decode cX8_readBatch 50 = .ok (.aload_n 0, 1) := dk_42 (dk_at dksX8_readBatch_2 3 rfl rfl)
theorem dX8_readBatch_51 : decode cX8_readBatch 51 = .ok (.iconst 0, 1) := dk_3 (dk_at dksX8_readBatch_2 4 rfl rfl)
theorem dX8_readBatch_52 : decode cX8_readBatch 52 = .ok (.sipush 999, 3) := dk_17 3 231 (dk_at dksX8_readBatch_2 5 rfl rfl)
theorem dX8_readBatch_55 : decode cX8_readBatch 55 = .ok (.invokevirtual 266, 3) := dk_182 1 10 (dk_at dksX8_readBatch_2 8 rfl rfl)
theorem dX8_readBatch_58 : decode cX8_readBatch 58 = .ok (.istore_n 3, 1) := dk_62 (dk_at dksX8_readBatch_2 11 rfl rfl)
theorem dX8_readBatch_59 : decode cX8_readBatch 59 = .ok (.aload_n 0, 1) := dk_42 (dk_at dksX8_readBatch_2 12 rfl rfl)
theorem dX8_readBatch_60 : decode cX8_readBatch 60 = .ok (.iconst 0, 1) := dk_3 (dk_at dksX8_readBatch_2 13 rfl rfl)
theorem dX8_readBatch_61 : decode cX8_readBatch 61 = .ok (.aload_n 0, 1) := dk_42 (dk_at dksX8_readBatch_2 14 rfl rfl)
theorem dX8_readBatch_62 : decode cX8_readBatch 62 = .ok (.getfield 243, 3) := dk_180 0 243 (dk_at dksX8_readBatch_2 15 rfl rfl)
theorem dX8_readBatch_65 : decode cX8_readBatch 65 = .ok (.iconst 1, 1) := dk_4 (dk_at dksX8_readBatch_2 18 rfl rfl)
theorem dX8_readBatch_66 : decode cX8_readBatch 66 = .ok (.isub, 1) := dk_100 (dk_at dksX8_readBatch_2 19 rfl rfl)
theorem dX8_readBatch_67 : decode cX8_readBatch 67 = .ok (.invokevirtual 266, 3) := dk_182 1 10 (dk_at dksX8_readBatch_2 20 rfl rfl)
theorem dX8_readBatch_70 : decode cX8_readBatch 70 = .ok (.istore 4, 2) := dk_54 4 (dk_at dksX8_readBatch_3 0 rfl rfl)
theorem dX8_readBatch_72 : decode cX8_readBatch 72 = .ok (.aload_n 0, 1) := dk_42 (dk_at dksX8_readBatch_3 2 rfl rfl)
theorem dX8_readBatch_73 : decode cX8_readBatch 73 = .ok (.invokevirtual 216, 3) := dk_182 0 216 (dk_at dksX8_readBatch_3 3 rfl rfl)
theorem dX8_readBatch_76 : decode cX8_readBatch 76 = .ok (.ifCond .ne 4, 3) := dk_154 0 4 (dk_at dksX8_readBatch_3 6 rfl rfl)
theorem dX8_readBatch_79 : decode cX8_readBatch 79 = .ok (.return_, 1) := dk_177 (dk_at dksX8_readBatch_3 9 rfl rfl)
theorem dX8_readBatch_80 : decode cX8_readBatch 80 = .ok (.bipush 79, 2) := dk_16 79 (dk_at dksX8_readBatch_3 10 rfl rfl)
theorem dX8_readBatch_82 : decode cX8_readBatch 82 = .ok (.iconst 3, 1) := dk_6 (dk_at dksX8_readBatch_3 12 rfl rfl)
theorem dX8_readBatch_83 : decode cX8_readBatch 83 = .ok (.iload_n 1, 1) := dk_27 (dk_at dksX8_readBatch_3 13 rfl rfl)
theorem dX8_readBatch_84 : decode cX8_readBatch 84 = .ok (.imul, 1) := dk_104 (dk_at dksX8_readBatch_3 14 rfl rfl)
theorem dX8_readBatch_85 : decode cX8_readBatch 85 = .ok (.iadd, 1) := dk_96 (dk_at dksX8_readBatch_3 15 rfl rfl)
theorem dX8_readBatch_86 : decode cX8_readBatch 86 = .ok (.istore 5, 2) := dk_54 5 (dk_at dksX8_readBatch_3 16 rfl rfl)
theorem dX8_readBatch_88 : decode cX8_readBatch 88 = .ok (.aload_n 0, 1) := dk_42 (dk_at dksX8_readBatch_3 18 rfl rfl)
theorem dX8_readBatch_89 : decode cX8_readBatch 89 = .ok (.getfield 7, 3) := dk_180 0 7 (dk_at dksX8_readBatch_3 19 rfl rfl)
theorem dX8_readBatch_92 : decode cX8_readBatch 92 = .ok (.iload 5, 2) := dk_21 5 (dk_at dksX8_readBatch_3 22 rfl rfl)
theorem dX8_readBatch_94 : decode cX8_readBatch 94 = .ok (.iconst 0, 1) := dk_3 (dk_at dksX8_readBatch_4 0 rfl rfl)
theorem dX8_readBatch_95 : decode cX8_readBatch 95 = .ok (.iadd, 1) := dk_96 (dk_at dksX8_readBatch_4 1 rfl rfl)
theorem dX8_readBatch_96 : decode cX8_readBatch 96 = .ok (.iload_n 2, 1) := dk_28 (dk_at dksX8_readBatch_4 2 rfl rfl)
theorem dX8_readBatch_97 : decode cX8_readBatch 97 = .ok (.iastore, 1) := dk_79 (dk_at dksX8_readBatch_4 3 rfl rfl)
theorem dX8_readBatch_98 : decode cX8_readBatch 98 = .ok (.aload_n 0, 1) := dk_42 (dk_at dksX8_readBatch_4 4 rfl rfl)
theorem dX8_readBatch_99 : decode cX8_readBatch 99 = .ok (.getfield 7, 3) := dk_180 0 7 (dk_at dksX8_readBatch_4 5 rfl rfl)
theorem dX8_readBatch_102 : decode cX8_readBatch 102 = .ok (.iload 5, 2) := dk_21 5 (dk_at dksX8_readBatch_4 8 rfl rfl)
theorem dX8_readBatch_104 : decode cX8_readBatch 104 = .ok (.iconst 1, 1) := dk_4 (dk_at dksX8_readBatch_4 10 rfl rfl)
theorem dX8_readBatch_105 : decode cX8_readBatch 105 = .ok (.iadd, 1) := dk_96 (dk_at dksX8_readBatch_4 11 rfl rfl)
theorem dX8_readBatch_106 : decode cX8_readBatch 106 = .ok (.iload_n 3, 1) := dk_29 (dk_at dksX8_readBatch_4 12 rfl rfl)
theorem dX8_readBatch_107 : decode cX8_readBatch 107 = .ok (.iastore, 1) := dk_79 (dk_at dksX8_readBatch_4 13 rfl rfl)
theorem dX8_readBatch_108 : decode cX8_readBatch 108 = .ok (.aload_n 0, 1) := dk_42 (dk_at dksX8_readBatch_4 14 rfl rfl)
theorem dX8_readBatch_109 : decode cX8_readBatch 109 = .ok (.getfield 7, 3) := dk_180 0 7 (dk_at dksX8_readBatch_4 15 rfl rfl)
theorem dX8_readBatch_112 : decode cX8_readBatch 112 = .ok (.iload 5, 2) := dk_21 5 (dk_at dksX8_readBatch_4 18 rfl rfl)
theorem dX8_readBatch_114 : decode cX8_readBatch 114 = .ok (.iconst 2, 1) := dk_5 (dk_at dksX8_readBatch_4 20 rfl rfl)
theorem dX8_readBatch_115 : decode cX8_readBatch 115 = .ok (.iadd, 1) := dk_96 (dk_at dksX8_readBatch_4 21 rfl rfl)
theorem dX8_readBatch_116 : decode cX8_readBatch 116 = .ok (.iload 4, 2) := dk_21 4 (dk_at dksX8_readBatch_4 22 rfl rfl)
theorem dX8_readBatch_118 : decode cX8_readBatch 118 = .ok (.iastore, 1) := dk_79 (dk_at dksX8_readBatch_5 0 rfl rfl)
theorem dX8_readBatch_119 : decode cX8_readBatch 119 = .ok (.aload_n 0, 1) := dk_42 (dk_at dksX8_readBatch_5 1 rfl rfl)
theorem dX8_readBatch_120 : decode cX8_readBatch 120 = .ok (.getfield 7, 3) := dk_180 0 7 (dk_at dksX8_readBatch_5 2 rfl rfl)
theorem dX8_readBatch_123 : decode cX8_readBatch 123 = .ok (.bipush 78, 2) := dk_16 78 (dk_at dksX8_readBatch_5 5 rfl rfl)
theorem dX8_readBatch_125 : decode cX8_readBatch 125 = .ok (.iload_n 1, 1) := dk_27 (dk_at dksX8_readBatch_5 7 rfl rfl)
theorem dX8_readBatch_126 : decode cX8_readBatch 126 = .ok (.iconst 1, 1) := dk_4 (dk_at dksX8_readBatch_5 8 rfl rfl)
theorem dX8_readBatch_127 : decode cX8_readBatch 127 = .ok (.iadd, 1) := dk_96 (dk_at dksX8_readBatch_5 9 rfl rfl)
theorem dX8_readBatch_128 : decode cX8_readBatch 128 = .ok (.iastore, 1) := dk_79 (dk_at dksX8_readBatch_5 10 rfl rfl)
theorem dX8_readBatch_129 : decode cX8_readBatch 129 = .ok (.return_, 1) := dk_177 (dk_at dksX8_readBatch_5 11 rfl rfl)
abbrev cX8_readPolicy : ByteArray := prog_13_method_44_code
def yX8_readPolicy : MethodName := ⟨RX8, "readPolicy", "()V"⟩
def dkwX8_readPolicy_1 : List UInt8 := [182, 0, 216, 154, 0, 4, 177, 42, 180, 0, 7, 16, 77, 27, 79, 42, 182, 0, 220, 177]
abbrev dktX8_readPolicy_1 : List UInt8 := dkwX8_readPolicy_1 ++ []
def dkwX8_readPolicy_0 : List UInt8 := [42, 182, 0, 220, 42, 182, 1, 20, 60, 42, 27, 2, 159, 0, 7, 4, 167, 0, 4, 3, 182, 1, 0, 42]
abbrev dktX8_readPolicy_0 : List UInt8 := dkwX8_readPolicy_0 ++ dktX8_readPolicy_1
theorem dksX8_readPolicy_0 : cX8_readPolicy.data.toList.drop 0 = dktX8_readPolicy_0 := by decide +kernel
theorem dksX8_readPolicy_1 : cX8_readPolicy.data.toList.drop 24 = dktX8_readPolicy_1 := dk_seg dksX8_readPolicy_0 24 rfl rfl
theorem dX8_readPolicy_0 : decode cX8_readPolicy 0 = .ok (.aload_n 0, 1) := dk_42 (dk_at dksX8_readPolicy_0 0 rfl rfl)
theorem dX8_readPolicy_1 : decode cX8_readPolicy 1 = .ok (.invokevirtual 220, 3) := dk_182 0 220 (dk_at dksX8_readPolicy_0 1 rfl rfl)
theorem dX8_readPolicy_4 : decode cX8_readPolicy 4 = .ok (.aload_n 0, 1) := dk_42 (dk_at dksX8_readPolicy_0 4 rfl rfl)
theorem dX8_readPolicy_5 : decode cX8_readPolicy 5 = .ok (.invokevirtual 276, 3) := dk_182 1 20 (dk_at dksX8_readPolicy_0 5 rfl rfl)
theorem dX8_readPolicy_8 : decode cX8_readPolicy 8 = .ok (.istore_n 1, 1) := dk_60 (dk_at dksX8_readPolicy_0 8 rfl rfl)
theorem dX8_readPolicy_9 : decode cX8_readPolicy 9 = .ok (.aload_n 0, 1) := dk_42 (dk_at dksX8_readPolicy_0 9 rfl rfl)
theorem dX8_readPolicy_10 : decode cX8_readPolicy 10 = .ok (.iload_n 1, 1) := dk_27 (dk_at dksX8_readPolicy_0 10 rfl rfl)
theorem dX8_readPolicy_11 : decode cX8_readPolicy 11 = .ok (.iconst (-1), 1) := dk_2 (dk_at dksX8_readPolicy_0 11 rfl rfl)
theorem dX8_readPolicy_12 : decode cX8_readPolicy 12 = .ok (.if_icmp .eq 7, 3) := dk_159 0 7 (dk_at dksX8_readPolicy_0 12 rfl rfl)
theorem dX8_readPolicy_15 : decode cX8_readPolicy 15 = .ok (.iconst 1, 1) := dk_4 (dk_at dksX8_readPolicy_0 15 rfl rfl)
theorem dX8_readPolicy_16 : decode cX8_readPolicy 16 = .ok (.goto 4, 3) := dk_167 0 4 (dk_at dksX8_readPolicy_0 16 rfl rfl)
theorem dX8_readPolicy_19 : decode cX8_readPolicy 19 = .ok (.iconst 0, 1) := dk_3 (dk_at dksX8_readPolicy_0 19 rfl rfl)
theorem dX8_readPolicy_20 : decode cX8_readPolicy 20 = .ok (.invokevirtual 256, 3) := dk_182 1 0 (dk_at dksX8_readPolicy_0 20 rfl rfl)
theorem dX8_readPolicy_23 : decode cX8_readPolicy 23 = .ok (.aload_n 0, 1) := dk_42 (dk_at dksX8_readPolicy_0 23 rfl rfl)
theorem dX8_readPolicy_24 : decode cX8_readPolicy 24 = .ok (.invokevirtual 216, 3) := dk_182 0 216 (dk_at dksX8_readPolicy_1 0 rfl rfl)
theorem dX8_readPolicy_27 : decode cX8_readPolicy 27 = .ok (.ifCond .ne 4, 3) := dk_154 0 4 (dk_at dksX8_readPolicy_1 3 rfl rfl)
theorem dX8_readPolicy_30 : decode cX8_readPolicy 30 = .ok (.return_, 1) := dk_177 (dk_at dksX8_readPolicy_1 6 rfl rfl)
theorem dX8_readPolicy_31 : decode cX8_readPolicy 31 = .ok (.aload_n 0, 1) := dk_42 (dk_at dksX8_readPolicy_1 7 rfl rfl)
theorem dX8_readPolicy_32 : decode cX8_readPolicy 32 = .ok (.getfield 7, 3) := dk_180 0 7 (dk_at dksX8_readPolicy_1 8 rfl rfl)
theorem dX8_readPolicy_35 : decode cX8_readPolicy 35 = .ok (.bipush 77, 2) := dk_16 77 (dk_at dksX8_readPolicy_1 11 rfl rfl)
theorem dX8_readPolicy_37 : decode cX8_readPolicy 37 = .ok (.iload_n 1, 1) := dk_27 (dk_at dksX8_readPolicy_1 13 rfl rfl)
theorem dX8_readPolicy_38 : decode cX8_readPolicy 38 = .ok (.iastore, 1) := dk_79 (dk_at dksX8_readPolicy_1 14 rfl rfl)
theorem dX8_readPolicy_39 : decode cX8_readPolicy 39 = .ok (.aload_n 0, 1) := dk_42 (dk_at dksX8_readPolicy_1 15 rfl rfl)
theorem dX8_readPolicy_40 : decode cX8_readPolicy 40 = .ok (.invokevirtual 220, 3) := dk_182 0 220 (dk_at dksX8_readPolicy_1 16 rfl rfl)
theorem dX8_readPolicy_43 : decode cX8_readPolicy 43 = .ok (.return_, 1) := dk_177 (dk_at dksX8_readPolicy_1 19 rfl rfl)
abbrev cX8_policyHere : ByteArray := prog_13_method_35_code
def yX8_policyHere : MethodName := ⟨RX8, "policyHere", "()I"⟩
def dkwX8_policyHere_2 : List UInt8 := [172, 42, 182, 0, 237, 153, 0, 7, 5, 167, 0, 4, 2, 172]
abbrev dktX8_policyHere_2 : List UInt8 := dkwX8_policyHere_2 ++ []
def dkwX8_policyHere_1 : List UInt8 := [42, 16, 117, 16, 114, 16, 103, 16, 101, 16, 110, 16, 116, 3, 184, 0, 229, 182, 0, 233, 153, 0, 5, 4]
abbrev dktX8_policyHere_1 : List UInt8 := dkwX8_policyHere_1 ++ dktX8_policyHere_2
def dkwX8_policyHere_0 : List UInt8 := [42, 16, 111, 16, 114, 16, 100, 16, 101, 16, 114, 3, 3, 184, 0, 229, 182, 0, 233, 153, 0, 5, 3, 172]
abbrev dktX8_policyHere_0 : List UInt8 := dkwX8_policyHere_0 ++ dktX8_policyHere_1
theorem dksX8_policyHere_0 : cX8_policyHere.data.toList.drop 0 = dktX8_policyHere_0 := by decide +kernel
theorem dksX8_policyHere_1 : cX8_policyHere.data.toList.drop 24 = dktX8_policyHere_1 := dk_seg dksX8_policyHere_0 24 rfl rfl
theorem dksX8_policyHere_2 : cX8_policyHere.data.toList.drop 48 = dktX8_policyHere_2 := dk_seg dksX8_policyHere_1 24 rfl rfl
theorem dX8_policyHere_0 : decode cX8_policyHere 0 = .ok (.aload_n 0, 1) := dk_42 (dk_at dksX8_policyHere_0 0 rfl rfl)
theorem dX8_policyHere_1 : decode cX8_policyHere 1 = .ok (.bipush 111, 2) := dk_16 111 (dk_at dksX8_policyHere_0 1 rfl rfl)
theorem dX8_policyHere_3 : decode cX8_policyHere 3 = .ok (.bipush 114, 2) := dk_16 114 (dk_at dksX8_policyHere_0 3 rfl rfl)
theorem dX8_policyHere_5 : decode cX8_policyHere 5 = .ok (.bipush 100, 2) := dk_16 100 (dk_at dksX8_policyHere_0 5 rfl rfl)
theorem dX8_policyHere_7 : decode cX8_policyHere 7 = .ok (.bipush 101, 2) := dk_16 101 (dk_at dksX8_policyHere_0 7 rfl rfl)
theorem dX8_policyHere_9 : decode cX8_policyHere 9 = .ok (.bipush 114, 2) := dk_16 114 (dk_at dksX8_policyHere_0 9 rfl rfl)
theorem dX8_policyHere_11 : decode cX8_policyHere 11 = .ok (.iconst 0, 1) := dk_3 (dk_at dksX8_policyHere_0 11 rfl rfl)
theorem dX8_policyHere_12 : decode cX8_policyHere 12 = .ok (.iconst 0, 1) := dk_3 (dk_at dksX8_policyHere_0 12 rfl rfl)
theorem dX8_policyHere_13 : decode cX8_policyHere 13 = .ok (.invokestatic 229, 3) := dk_184 0 229 (dk_at dksX8_policyHere_0 13 rfl rfl)
theorem dX8_policyHere_16 : decode cX8_policyHere 16 = .ok (.invokevirtual 233, 3) := dk_182 0 233 (dk_at dksX8_policyHere_0 16 rfl rfl)
theorem dX8_policyHere_19 : decode cX8_policyHere 19 = .ok (.ifCond .eq 5, 3) := dk_153 0 5 (dk_at dksX8_policyHere_0 19 rfl rfl)
theorem dX8_policyHere_22 : decode cX8_policyHere 22 = .ok (.iconst 0, 1) := dk_3 (dk_at dksX8_policyHere_0 22 rfl rfl)
theorem dX8_policyHere_23 : decode cX8_policyHere 23 = .ok (.ireturn, 1) := dk_172 (dk_at dksX8_policyHere_0 23 rfl rfl)
theorem dX8_policyHere_24 : decode cX8_policyHere 24 = .ok (.aload_n 0, 1) := dk_42 (dk_at dksX8_policyHere_1 0 rfl rfl)
theorem dX8_policyHere_25 : decode cX8_policyHere 25 = .ok (.bipush 117, 2) := dk_16 117 (dk_at dksX8_policyHere_1 1 rfl rfl)
theorem dX8_policyHere_27 : decode cX8_policyHere 27 = .ok (.bipush 114, 2) := dk_16 114 (dk_at dksX8_policyHere_1 3 rfl rfl)
theorem dX8_policyHere_29 : decode cX8_policyHere 29 = .ok (.bipush 103, 2) := dk_16 103 (dk_at dksX8_policyHere_1 5 rfl rfl)
theorem dX8_policyHere_31 : decode cX8_policyHere 31 = .ok (.bipush 101, 2) := dk_16 101 (dk_at dksX8_policyHere_1 7 rfl rfl)
theorem dX8_policyHere_33 : decode cX8_policyHere 33 = .ok (.bipush 110, 2) := dk_16 110 (dk_at dksX8_policyHere_1 9 rfl rfl)
theorem dX8_policyHere_35 : decode cX8_policyHere 35 = .ok (.bipush 116, 2) := dk_16 116 (dk_at dksX8_policyHere_1 11 rfl rfl)
theorem dX8_policyHere_37 : decode cX8_policyHere 37 = .ok (.iconst 0, 1) := dk_3 (dk_at dksX8_policyHere_1 13 rfl rfl)
theorem dX8_policyHere_38 : decode cX8_policyHere 38 = .ok (.invokestatic 229, 3) := dk_184 0 229 (dk_at dksX8_policyHere_1 14 rfl rfl)
theorem dX8_policyHere_41 : decode cX8_policyHere 41 = .ok (.invokevirtual 233, 3) := dk_182 0 233 (dk_at dksX8_policyHere_1 17 rfl rfl)
theorem dX8_policyHere_44 : decode cX8_policyHere 44 = .ok (.ifCond .eq 5, 3) := dk_153 0 5 (dk_at dksX8_policyHere_1 20 rfl rfl)
theorem dX8_policyHere_47 : decode cX8_policyHere 47 = .ok (.iconst 1, 1) := dk_4 (dk_at dksX8_policyHere_1 23 rfl rfl)
theorem dX8_policyHere_48 : decode cX8_policyHere 48 = .ok (.ireturn, 1) := dk_172 (dk_at dksX8_policyHere_2 0 rfl rfl)
theorem dX8_policyHere_49 : decode cX8_policyHere 49 = .ok (.aload_n 0, 1) := dk_42 (dk_at dksX8_policyHere_2 1 rfl rfl)
theorem dX8_policyHere_50 : decode cX8_policyHere 50 = .ok (.invokevirtual 237, 3) := dk_182 0 237 (dk_at dksX8_policyHere_2 2 rfl rfl)
theorem dX8_policyHere_53 : decode cX8_policyHere 53 = .ok (.ifCond .eq 7, 3) := dk_153 0 7 (dk_at dksX8_policyHere_2 5 rfl rfl)
theorem dX8_policyHere_56 : decode cX8_policyHere 56 = .ok (.iconst 2, 1) := dk_5 (dk_at dksX8_policyHere_2 8 rfl rfl)
theorem dX8_policyHere_57 : decode cX8_policyHere 57 = .ok (.goto 4, 3) := dk_167 0 4 (dk_at dksX8_policyHere_2 9 rfl rfl)
theorem dX8_policyHere_60 : decode cX8_policyHere 60 = .ok (.iconst (-1), 1) := dk_2 (dk_at dksX8_policyHere_2 12 rfl rfl)
theorem dX8_policyHere_61 : decode cX8_policyHere 61 = .ok (.ireturn, 1) := dk_172 (dk_at dksX8_policyHere_2 13 rfl rfl)
abbrev cX8_settingHere : ByteArray := prog_13_method_33_code
def yX8_settingHere : MethodName := ⟨RX8, "settingHere", "()I"⟩
def dkwX8_settingHere_7 : List UInt8 := [153, 0, 8, 16, 6, 167, 0, 4, 2, 172]
abbrev dktX8_settingHere_7 : List UInt8 := dkwX8_settingHere_7 ++ []
def dkwX8_settingHere_6 : List UInt8 := [153, 0, 5, 8, 172, 42, 16, 99, 16, 111, 16, 111, 16, 108, 3, 3, 3, 184, 0, 229, 182, 0, 233]
abbrev dktX8_settingHere_6 : List UInt8 := dkwX8_settingHere_6 ++ dktX8_settingHere_7
def dkwX8_settingHere_5 : List UInt8 := [153, 0, 5, 7, 172, 42, 16, 114, 16, 97, 16, 116, 16, 101, 3, 3, 3, 184, 0, 229, 182, 0, 233]
abbrev dktX8_settingHere_5 : List UInt8 := dkwX8_settingHere_5 ++ dktX8_settingHere_6
def dkwX8_settingHere_4 : List UInt8 := [153, 0, 5, 6, 172, 42, 16, 115, 16, 108, 16, 111, 16, 119, 3, 3, 3, 184, 0, 229, 182, 0, 233]
abbrev dktX8_settingHere_4 : List UInt8 := dkwX8_settingHere_4 ++ dktX8_settingHere_5
def dkwX8_settingHere_3 : List UInt8 := [153, 0, 5, 5, 172, 42, 16, 99, 16, 108, 16, 101, 16, 97, 16, 110, 3, 3, 184, 0, 229, 182, 0, 233]
abbrev dktX8_settingHere_3 : List UInt8 := dkwX8_settingHere_3 ++ dktX8_settingHere_4
def dkwX8_settingHere_2 : List UInt8 := [172, 42, 16, 115, 16, 104, 16, 101, 16, 108, 16, 118, 16, 101, 16, 115, 184, 0, 229, 182, 0, 233]
abbrev dktX8_settingHere_2 : List UInt8 := dkwX8_settingHere_2 ++ dktX8_settingHere_3
def dkwX8_settingHere_1 : List UInt8 := [172, 42, 16, 100, 16, 101, 16, 99, 16, 107, 16, 115, 3, 3, 184, 0, 229, 182, 0, 233, 153, 0, 5, 4]
abbrev dktX8_settingHere_1 : List UInt8 := dkwX8_settingHere_1 ++ dktX8_settingHere_2
def dkwX8_settingHere_0 : List UInt8 := [42, 16, 109, 16, 105, 16, 120, 16, 101, 16, 114, 16, 115, 3, 184, 0, 229, 182, 0, 233, 153, 0, 5, 3]
abbrev dktX8_settingHere_0 : List UInt8 := dkwX8_settingHere_0 ++ dktX8_settingHere_1
theorem dksX8_settingHere_0 : cX8_settingHere.data.toList.drop 0 = dktX8_settingHere_0 := by decide +kernel
theorem dksX8_settingHere_1 : cX8_settingHere.data.toList.drop 24 = dktX8_settingHere_1 := dk_seg dksX8_settingHere_0 24 rfl rfl
theorem dksX8_settingHere_2 : cX8_settingHere.data.toList.drop 48 = dktX8_settingHere_2 := dk_seg dksX8_settingHere_1 24 rfl rfl
theorem dksX8_settingHere_3 : cX8_settingHere.data.toList.drop 70 = dktX8_settingHere_3 := dk_seg dksX8_settingHere_2 22 rfl rfl
theorem dksX8_settingHere_4 : cX8_settingHere.data.toList.drop 94 = dktX8_settingHere_4 := dk_seg dksX8_settingHere_3 24 rfl rfl
theorem dksX8_settingHere_5 : cX8_settingHere.data.toList.drop 117 = dktX8_settingHere_5 := dk_seg dksX8_settingHere_4 23 rfl rfl
theorem dksX8_settingHere_6 : cX8_settingHere.data.toList.drop 140 = dktX8_settingHere_6 := dk_seg dksX8_settingHere_5 23 rfl rfl
theorem dksX8_settingHere_7 : cX8_settingHere.data.toList.drop 163 = dktX8_settingHere_7 := dk_seg dksX8_settingHere_6 23 rfl rfl
theorem dX8_settingHere_0 : decode cX8_settingHere 0 = .ok (.aload_n 0, 1) := dk_42 (dk_at dksX8_settingHere_0 0 rfl rfl)
theorem dX8_settingHere_1 : decode cX8_settingHere 1 = .ok (.bipush 109, 2) := dk_16 109 (dk_at dksX8_settingHere_0 1 rfl rfl)
theorem dX8_settingHere_3 : decode cX8_settingHere 3 = .ok (.bipush 105, 2) := dk_16 105 (dk_at dksX8_settingHere_0 3 rfl rfl)
theorem dX8_settingHere_5 : decode cX8_settingHere 5 = .ok (.bipush 120, 2) := dk_16 120 (dk_at dksX8_settingHere_0 5 rfl rfl)
theorem dX8_settingHere_7 : decode cX8_settingHere 7 = .ok (.bipush 101, 2) := dk_16 101 (dk_at dksX8_settingHere_0 7 rfl rfl)
theorem dX8_settingHere_9 : decode cX8_settingHere 9 = .ok (.bipush 114, 2) := dk_16 114 (dk_at dksX8_settingHere_0 9 rfl rfl)
theorem dX8_settingHere_11 : decode cX8_settingHere 11 = .ok (.bipush 115, 2) := dk_16 115 (dk_at dksX8_settingHere_0 11 rfl rfl)
theorem dX8_settingHere_13 : decode cX8_settingHere 13 = .ok (.iconst 0, 1) := dk_3 (dk_at dksX8_settingHere_0 13 rfl rfl)
theorem dX8_settingHere_14 : decode cX8_settingHere 14 = .ok (.invokestatic 229, 3) := dk_184 0 229 (dk_at dksX8_settingHere_0 14 rfl rfl)
theorem dX8_settingHere_17 : decode cX8_settingHere 17 = .ok (.invokevirtual 233, 3) := dk_182 0 233 (dk_at dksX8_settingHere_0 17 rfl rfl)
theorem dX8_settingHere_20 : decode cX8_settingHere 20 = .ok (.ifCond .eq 5, 3) := dk_153 0 5 (dk_at dksX8_settingHere_0 20 rfl rfl)
theorem dX8_settingHere_23 : decode cX8_settingHere 23 = .ok (.iconst 0, 1) := dk_3 (dk_at dksX8_settingHere_0 23 rfl rfl)
theorem dX8_settingHere_24 : decode cX8_settingHere 24 = .ok (.ireturn, 1) := dk_172 (dk_at dksX8_settingHere_1 0 rfl rfl)
theorem dX8_settingHere_25 : decode cX8_settingHere 25 = .ok (.aload_n 0, 1) := dk_42 (dk_at dksX8_settingHere_1 1 rfl rfl)
theorem dX8_settingHere_26 : decode cX8_settingHere 26 = .ok (.bipush 100, 2) := dk_16 100 (dk_at dksX8_settingHere_1 2 rfl rfl)
theorem dX8_settingHere_28 : decode cX8_settingHere 28 = .ok (.bipush 101, 2) := dk_16 101 (dk_at dksX8_settingHere_1 4 rfl rfl)
theorem dX8_settingHere_30 : decode cX8_settingHere 30 = .ok (.bipush 99, 2) := dk_16 99 (dk_at dksX8_settingHere_1 6 rfl rfl)
theorem dX8_settingHere_32 : decode cX8_settingHere 32 = .ok (.bipush 107, 2) := dk_16 107 (dk_at dksX8_settingHere_1 8 rfl rfl)
theorem dX8_settingHere_34 : decode cX8_settingHere 34 = .ok (.bipush 115, 2) := dk_16 115 (dk_at dksX8_settingHere_1 10 rfl rfl)
theorem dX8_settingHere_36 : decode cX8_settingHere 36 = .ok (.iconst 0, 1) := dk_3 (dk_at dksX8_settingHere_1 12 rfl rfl)
theorem dX8_settingHere_37 : decode cX8_settingHere 37 = .ok (.iconst 0, 1) := dk_3 (dk_at dksX8_settingHere_1 13 rfl rfl)
theorem dX8_settingHere_38 : decode cX8_settingHere 38 = .ok (.invokestatic 229, 3) := dk_184 0 229 (dk_at dksX8_settingHere_1 14 rfl rfl)
theorem dX8_settingHere_41 : decode cX8_settingHere 41 = .ok (.invokevirtual 233, 3) := dk_182 0 233 (dk_at dksX8_settingHere_1 17 rfl rfl)
theorem dX8_settingHere_44 : decode cX8_settingHere 44 = .ok (.ifCond .eq 5, 3) := dk_153 0 5 (dk_at dksX8_settingHere_1 20 rfl rfl)
theorem dX8_settingHere_47 : decode cX8_settingHere 47 = .ok (.iconst 1, 1) := dk_4 (dk_at dksX8_settingHere_1 23 rfl rfl)
theorem dX8_settingHere_48 : decode cX8_settingHere 48 = .ok (.ireturn, 1) := dk_172 (dk_at dksX8_settingHere_2 0 rfl rfl)
theorem dX8_settingHere_49 : decode cX8_settingHere 49 = .ok (.aload_n 0, 1) := dk_42 (dk_at dksX8_settingHere_2 1 rfl rfl)
theorem dX8_settingHere_50 : decode cX8_settingHere 50 = .ok (.bipush 115, 2) := dk_16 115 (dk_at dksX8_settingHere_2 2 rfl rfl)
theorem dX8_settingHere_52 : decode cX8_settingHere 52 = .ok (.bipush 104, 2) := dk_16 104 (dk_at dksX8_settingHere_2 4 rfl rfl)
theorem dX8_settingHere_54 : decode cX8_settingHere 54 = .ok (.bipush 101, 2) := dk_16 101 (dk_at dksX8_settingHere_2 6 rfl rfl)
theorem dX8_settingHere_56 : decode cX8_settingHere 56 = .ok (.bipush 108, 2) := dk_16 108 (dk_at dksX8_settingHere_2 8 rfl rfl)
theorem dX8_settingHere_58 : decode cX8_settingHere 58 = .ok (.bipush 118, 2) := dk_16 118 (dk_at dksX8_settingHere_2 10 rfl rfl)
theorem dX8_settingHere_60 : decode cX8_settingHere 60 = .ok (.bipush 101, 2) := dk_16 101 (dk_at dksX8_settingHere_2 12 rfl rfl)
theorem dX8_settingHere_62 : decode cX8_settingHere 62 = .ok (.bipush 115, 2) := dk_16 115 (dk_at dksX8_settingHere_2 14 rfl rfl)
theorem dX8_settingHere_64 : decode cX8_settingHere 64 = .ok (.invokestatic 229, 3) := dk_184 0 229 (dk_at dksX8_settingHere_2 16 rfl rfl)
theorem dX8_settingHere_67 : decode cX8_settingHere 67 = .ok (.invokevirtual 233, 3) := dk_182 0 233 (dk_at dksX8_settingHere_2 19 rfl rfl)
theorem dX8_settingHere_70 : decode cX8_settingHere 70 = .ok (.ifCond .eq 5, 3) := dk_153 0 5 (dk_at dksX8_settingHere_3 0 rfl rfl)
theorem dX8_settingHere_73 : decode cX8_settingHere 73 = .ok (.iconst 2, 1) := dk_5 (dk_at dksX8_settingHere_3 3 rfl rfl)
theorem dX8_settingHere_74 : decode cX8_settingHere 74 = .ok (.ireturn, 1) := dk_172 (dk_at dksX8_settingHere_3 4 rfl rfl)
theorem dX8_settingHere_75 : decode cX8_settingHere 75 = .ok (.aload_n 0, 1) := dk_42 (dk_at dksX8_settingHere_3 5 rfl rfl)
theorem dX8_settingHere_76 : decode cX8_settingHere 76 = .ok (.bipush 99, 2) := dk_16 99 (dk_at dksX8_settingHere_3 6 rfl rfl)
theorem dX8_settingHere_78 : decode cX8_settingHere 78 = .ok (.bipush 108, 2) := dk_16 108 (dk_at dksX8_settingHere_3 8 rfl rfl)
theorem dX8_settingHere_80 : decode cX8_settingHere 80 = .ok (.bipush 101, 2) := dk_16 101 (dk_at dksX8_settingHere_3 10 rfl rfl)
theorem dX8_settingHere_82 : decode cX8_settingHere 82 = .ok (.bipush 97, 2) := dk_16 97 (dk_at dksX8_settingHere_3 12 rfl rfl)
theorem dX8_settingHere_84 : decode cX8_settingHere 84 = .ok (.bipush 110, 2) := dk_16 110 (dk_at dksX8_settingHere_3 14 rfl rfl)
theorem dX8_settingHere_86 : decode cX8_settingHere 86 = .ok (.iconst 0, 1) := dk_3 (dk_at dksX8_settingHere_3 16 rfl rfl)
theorem dX8_settingHere_87 : decode cX8_settingHere 87 = .ok (.iconst 0, 1) := dk_3 (dk_at dksX8_settingHere_3 17 rfl rfl)
theorem dX8_settingHere_88 : decode cX8_settingHere 88 = .ok (.invokestatic 229, 3) := dk_184 0 229 (dk_at dksX8_settingHere_3 18 rfl rfl)
theorem dX8_settingHere_91 : decode cX8_settingHere 91 = .ok (.invokevirtual 233, 3) := dk_182 0 233 (dk_at dksX8_settingHere_3 21 rfl rfl)
theorem dX8_settingHere_94 : decode cX8_settingHere 94 = .ok (.ifCond .eq 5, 3) := dk_153 0 5 (dk_at dksX8_settingHere_4 0 rfl rfl)
theorem dX8_settingHere_97 : decode cX8_settingHere 97 = .ok (.iconst 3, 1) := dk_6 (dk_at dksX8_settingHere_4 3 rfl rfl)
theorem dX8_settingHere_98 : decode cX8_settingHere 98 = .ok (.ireturn, 1) := dk_172 (dk_at dksX8_settingHere_4 4 rfl rfl)
theorem dX8_settingHere_99 : decode cX8_settingHere 99 = .ok (.aload_n 0, 1) := dk_42 (dk_at dksX8_settingHere_4 5 rfl rfl)
theorem dX8_settingHere_100 : decode cX8_settingHere 100 = .ok (.bipush 115, 2) := dk_16 115 (dk_at dksX8_settingHere_4 6 rfl rfl)
theorem dX8_settingHere_102 : decode cX8_settingHere 102 = .ok (.bipush 108, 2) := dk_16 108 (dk_at dksX8_settingHere_4 8 rfl rfl)
theorem dX8_settingHere_104 : decode cX8_settingHere 104 = .ok (.bipush 111, 2) := dk_16 111 (dk_at dksX8_settingHere_4 10 rfl rfl)
theorem dX8_settingHere_106 : decode cX8_settingHere 106 = .ok (.bipush 119, 2) := dk_16 119 (dk_at dksX8_settingHere_4 12 rfl rfl)
theorem dX8_settingHere_108 : decode cX8_settingHere 108 = .ok (.iconst 0, 1) := dk_3 (dk_at dksX8_settingHere_4 14 rfl rfl)
theorem dX8_settingHere_109 : decode cX8_settingHere 109 = .ok (.iconst 0, 1) := dk_3 (dk_at dksX8_settingHere_4 15 rfl rfl)
theorem dX8_settingHere_110 : decode cX8_settingHere 110 = .ok (.iconst 0, 1) := dk_3 (dk_at dksX8_settingHere_4 16 rfl rfl)
theorem dX8_settingHere_111 : decode cX8_settingHere 111 = .ok (.invokestatic 229, 3) := dk_184 0 229 (dk_at dksX8_settingHere_4 17 rfl rfl)
theorem dX8_settingHere_114 : decode cX8_settingHere 114 = .ok (.invokevirtual 233, 3) := dk_182 0 233 (dk_at dksX8_settingHere_4 20 rfl rfl)
theorem dX8_settingHere_117 : decode cX8_settingHere 117 = .ok (.ifCond .eq 5, 3) := dk_153 0 5 (dk_at dksX8_settingHere_5 0 rfl rfl)
theorem dX8_settingHere_120 : decode cX8_settingHere 120 = .ok (.iconst 4, 1) := dk_7 (dk_at dksX8_settingHere_5 3 rfl rfl)
theorem dX8_settingHere_121 : decode cX8_settingHere 121 = .ok (.ireturn, 1) := dk_172 (dk_at dksX8_settingHere_5 4 rfl rfl)
theorem dX8_settingHere_122 : decode cX8_settingHere 122 = .ok (.aload_n 0, 1) := dk_42 (dk_at dksX8_settingHere_5 5 rfl rfl)
theorem dX8_settingHere_123 : decode cX8_settingHere 123 = .ok (.bipush 114, 2) := dk_16 114 (dk_at dksX8_settingHere_5 6 rfl rfl)
theorem dX8_settingHere_125 : decode cX8_settingHere 125 = .ok (.bipush 97, 2) := dk_16 97 (dk_at dksX8_settingHere_5 8 rfl rfl)
theorem dX8_settingHere_127 : decode cX8_settingHere 127 = .ok (.bipush 116, 2) := dk_16 116 (dk_at dksX8_settingHere_5 10 rfl rfl)
theorem dX8_settingHere_129 : decode cX8_settingHere 129 = .ok (.bipush 101, 2) := dk_16 101 (dk_at dksX8_settingHere_5 12 rfl rfl)
theorem dX8_settingHere_131 : decode cX8_settingHere 131 = .ok (.iconst 0, 1) := dk_3 (dk_at dksX8_settingHere_5 14 rfl rfl)
theorem dX8_settingHere_132 : decode cX8_settingHere 132 = .ok (.iconst 0, 1) := dk_3 (dk_at dksX8_settingHere_5 15 rfl rfl)
theorem dX8_settingHere_133 : decode cX8_settingHere 133 = .ok (.iconst 0, 1) := dk_3 (dk_at dksX8_settingHere_5 16 rfl rfl)
theorem dX8_settingHere_134 : decode cX8_settingHere 134 = .ok (.invokestatic 229, 3) := dk_184 0 229 (dk_at dksX8_settingHere_5 17 rfl rfl)
theorem dX8_settingHere_137 : decode cX8_settingHere 137 = .ok (.invokevirtual 233, 3) := dk_182 0 233 (dk_at dksX8_settingHere_5 20 rfl rfl)
theorem dX8_settingHere_140 : decode cX8_settingHere 140 = .ok (.ifCond .eq 5, 3) := dk_153 0 5 (dk_at dksX8_settingHere_6 0 rfl rfl)
theorem dX8_settingHere_143 : decode cX8_settingHere 143 = .ok (.iconst 5, 1) := dk_8 (dk_at dksX8_settingHere_6 3 rfl rfl)
theorem dX8_settingHere_144 : decode cX8_settingHere 144 = .ok (.ireturn, 1) := dk_172 (dk_at dksX8_settingHere_6 4 rfl rfl)
theorem dX8_settingHere_145 : decode cX8_settingHere 145 = .ok (.aload_n 0, 1) := dk_42 (dk_at dksX8_settingHere_6 5 rfl rfl)
theorem dX8_settingHere_146 : decode cX8_settingHere 146 = .ok (.bipush 99, 2) := dk_16 99 (dk_at dksX8_settingHere_6 6 rfl rfl)
theorem dX8_settingHere_148 : decode cX8_settingHere 148 = .ok (.bipush 111, 2) := dk_16 111 (dk_at dksX8_settingHere_6 8 rfl rfl)
theorem dX8_settingHere_150 : decode cX8_settingHere 150 = .ok (.bipush 111, 2) := dk_16 111 (dk_at dksX8_settingHere_6 10 rfl rfl)
theorem dX8_settingHere_152 : decode cX8_settingHere 152 = .ok (.bipush 108, 2) := dk_16 108 (dk_at dksX8_settingHere_6 12 rfl rfl)
theorem dX8_settingHere_154 : decode cX8_settingHere 154 = .ok (.iconst 0, 1) := dk_3 (dk_at dksX8_settingHere_6 14 rfl rfl)
theorem dX8_settingHere_155 : decode cX8_settingHere 155 = .ok (.iconst 0, 1) := dk_3 (dk_at dksX8_settingHere_6 15 rfl rfl)
theorem dX8_settingHere_156 : decode cX8_settingHere 156 = .ok (.iconst 0, 1) := dk_3 (dk_at dksX8_settingHere_6 16 rfl rfl)
theorem dX8_settingHere_157 : decode cX8_settingHere 157 = .ok (.invokestatic 229, 3) := dk_184 0 229 (dk_at dksX8_settingHere_6 17 rfl rfl)
theorem dX8_settingHere_160 : decode cX8_settingHere 160 = .ok (.invokevirtual 233, 3) := dk_182 0 233 (dk_at dksX8_settingHere_6 20 rfl rfl)
theorem dX8_settingHere_163 : decode cX8_settingHere 163 = .ok (.ifCond .eq 8, 3) := dk_153 0 8 (dk_at dksX8_settingHere_7 0 rfl rfl)
theorem dX8_settingHere_166 : decode cX8_settingHere 166 = .ok (.bipush 6, 2) := dk_16 6 (dk_at dksX8_settingHere_7 3 rfl rfl)
theorem dX8_settingHere_168 : decode cX8_settingHere 168 = .ok (.goto 4, 3) := dk_167 0 4 (dk_at dksX8_settingHere_7 5 rfl rfl)
theorem dX8_settingHere_171 : decode cX8_settingHere 171 = .ok (.iconst (-1), 1) := dk_2 (dk_at dksX8_settingHere_7 8 rfl rfl)
theorem dX8_settingHere_172 : decode cX8_settingHere 172 = .ok (.ireturn, 1) := dk_172 (dk_at dksX8_settingHere_7 9 rfl rfl)
abbrev cX8_readSetting : ByteArray := prog_13_method_43_code
def yX8_readSetting : MethodName := ⟨RX8, "readSetting", "(I)V"⟩
def dkwX8_readSetting_1 : List UInt8 := [42, 180, 0, 7, 16, 70, 27, 96, 28, 79, 177]
abbrev dktX8_readSetting_1 : List UInt8 := dkwX8_readSetting_1 ++ []
def dkwX8_readSetting_0 : List UInt8 := [42, 182, 0, 220, 42, 27, 184, 1, 14, 27, 184, 1, 17, 182, 1, 10, 61, 42, 182, 0, 216, 153, 0, 13]
abbrev dktX8_readSetting_0 : List UInt8 := dkwX8_readSetting_0 ++ dktX8_readSetting_1
theorem dksX8_readSetting_0 : cX8_readSetting.data.toList.drop 0 = dktX8_readSetting_0 := by decide +kernel
theorem dksX8_readSetting_1 : cX8_readSetting.data.toList.drop 24 = dktX8_readSetting_1 := dk_seg dksX8_readSetting_0 24 rfl rfl
theorem dX8_readSetting_0 : decode cX8_readSetting 0 = .ok (.aload_n 0, 1) := dk_42 (dk_at dksX8_readSetting_0 0 rfl rfl)
theorem dX8_readSetting_1 : decode cX8_readSetting 1 = .ok (.invokevirtual 220, 3) := dk_182 0 220 (dk_at dksX8_readSetting_0 1 rfl rfl)
theorem dX8_readSetting_4 : decode cX8_readSetting 4 = .ok (.aload_n 0, 1) := dk_42 (dk_at dksX8_readSetting_0 4 rfl rfl)
theorem dX8_readSetting_5 : decode cX8_readSetting 5 = .ok (.iload_n 1, 1) := dk_27 (dk_at dksX8_readSetting_0 5 rfl rfl)
theorem dX8_readSetting_6 : decode cX8_readSetting 6 = .ok (.invokestatic 270, 3) := dk_184 1 14 (dk_at dksX8_readSetting_0 6 rfl rfl)
theorem dX8_readSetting_9 : decode cX8_readSetting 9 = .ok (.iload_n 1, 1) := dk_27 (dk_at dksX8_readSetting_0 9 rfl rfl)
theorem dX8_readSetting_10 : decode cX8_readSetting 10 = .ok (.invokestatic 273, 3) := dk_184 1 17 (dk_at dksX8_readSetting_0 10 rfl rfl)
theorem dX8_readSetting_13 : decode cX8_readSetting 13 = .ok (.invokevirtual 266, 3) := dk_182 1 10 (dk_at dksX8_readSetting_0 13 rfl rfl)
theorem dX8_readSetting_16 : decode cX8_readSetting 16 = .ok (.istore_n 2, 1) := dk_61 (dk_at dksX8_readSetting_0 16 rfl rfl)
theorem dX8_readSetting_17 : decode cX8_readSetting 17 = .ok (.aload_n 0, 1) := dk_42 (dk_at dksX8_readSetting_0 17 rfl rfl)
theorem dX8_readSetting_18 : decode cX8_readSetting 18 = .ok (.invokevirtual 216, 3) := dk_182 0 216 (dk_at dksX8_readSetting_0 18 rfl rfl)
theorem dX8_readSetting_21 : decode cX8_readSetting 21 = .ok (.ifCond .eq 13, 3) := dk_153 0 13 (dk_at dksX8_readSetting_0 21 rfl rfl)
theorem dX8_readSetting_24 : decode cX8_readSetting 24 = .ok (.aload_n 0, 1) := dk_42 (dk_at dksX8_readSetting_1 0 rfl rfl)
theorem dX8_readSetting_25 : decode cX8_readSetting 25 = .ok (.getfield 7, 3) := dk_180 0 7 (dk_at dksX8_readSetting_1 1 rfl rfl)
theorem dX8_readSetting_28 : decode cX8_readSetting 28 = .ok (.bipush 70, 2) := dk_16 70 (dk_at dksX8_readSetting_1 4 rfl rfl)
theorem dX8_readSetting_30 : decode cX8_readSetting 30 = .ok (.iload_n 1, 1) := dk_27 (dk_at dksX8_readSetting_1 6 rfl rfl)
theorem dX8_readSetting_31 : decode cX8_readSetting 31 = .ok (.iadd, 1) := dk_96 (dk_at dksX8_readSetting_1 7 rfl rfl)
theorem dX8_readSetting_32 : decode cX8_readSetting 32 = .ok (.iload_n 2, 1) := dk_28 (dk_at dksX8_readSetting_1 8 rfl rfl)
theorem dX8_readSetting_33 : decode cX8_readSetting 33 = .ok (.iastore, 1) := dk_79 (dk_at dksX8_readSetting_1 9 rfl rfl)
theorem dX8_readSetting_34 : decode cX8_readSetting 34 = .ok (.return_, 1) := dk_177 (dk_at dksX8_readSetting_1 10 rfl rfl)
abbrev cX8_least : ByteArray := prog_13_method_15_code
def yX8_least : MethodName := ⟨RX8, "least", "(I)I"⟩
def dkwX8_least_2 : List UInt8 := [4, 172, 4, 172, 5, 172, 4, 172, 3, 172]
abbrev dktX8_least_2 : List UInt8 := dkwX8_least_2 ++ []
def dkwX8_least_1 : List UInt8 := [170, 0, 0, 0, 0, 0, 47, 0, 0, 0, 0, 0, 0, 0, 5, 0, 0, 0, 39, 0, 0, 0, 41, 0, 0, 0, 47, 0, 0, 0, 47, 0, 0, 0, 43, 0, 0, 0, 45]
abbrev dktX8_least_1 : List UInt8 := dkwX8_least_1 ++ dktX8_least_2
def dkwX8_least_0 : List UInt8 := [26]
abbrev dktX8_least_0 : List UInt8 := dkwX8_least_0 ++ dktX8_least_1
theorem dksX8_least_0 : cX8_least.data.toList.drop 0 = dktX8_least_0 := by decide +kernel
theorem dksX8_least_1 : cX8_least.data.toList.drop 1 = dktX8_least_1 := dk_seg dksX8_least_0 1 rfl rfl
theorem dksX8_least_2 : cX8_least.data.toList.drop 40 = dktX8_least_2 := dk_seg dksX8_least_1 39 rfl rfl
theorem dX8_least_0 : decode cX8_least 0 = .ok (.iload_n 0, 1) := dk_26 (dk_at dksX8_least_0 0 rfl rfl)
theorem dX8_least_1 : decode cX8_least 1 = .ok (.tableswitch 47 0 5 #[39, 41, 47, 47, 43, 45], 39) := by decide +kernel
theorem dX8_least_40 : decode cX8_least 40 = .ok (.iconst 1, 1) := dk_4 (dk_at dksX8_least_2 0 rfl rfl)
theorem dX8_least_41 : decode cX8_least 41 = .ok (.ireturn, 1) := dk_172 (dk_at dksX8_least_2 1 rfl rfl)
theorem dX8_least_42 : decode cX8_least 42 = .ok (.iconst 1, 1) := dk_4 (dk_at dksX8_least_2 2 rfl rfl)
theorem dX8_least_43 : decode cX8_least 43 = .ok (.ireturn, 1) := dk_172 (dk_at dksX8_least_2 3 rfl rfl)
theorem dX8_least_44 : decode cX8_least 44 = .ok (.iconst 2, 1) := dk_5 (dk_at dksX8_least_2 4 rfl rfl)
theorem dX8_least_45 : decode cX8_least 45 = .ok (.ireturn, 1) := dk_172 (dk_at dksX8_least_2 5 rfl rfl)
theorem dX8_least_46 : decode cX8_least 46 = .ok (.iconst 1, 1) := dk_4 (dk_at dksX8_least_2 6 rfl rfl)
theorem dX8_least_47 : decode cX8_least 47 = .ok (.ireturn, 1) := dk_172 (dk_at dksX8_least_2 7 rfl rfl)
theorem dX8_least_48 : decode cX8_least 48 = .ok (.iconst 0, 1) := dk_3 (dk_at dksX8_least_2 8 rfl rfl)
theorem dX8_least_49 : decode cX8_least 49 = .ok (.ireturn, 1) := dk_172 (dk_at dksX8_least_2 9 rfl rfl)
abbrev cX8_greatest : ByteArray := prog_13_method_16_code
def yX8_greatest : MethodName := ⟨RX8, "greatest", "(I)I"⟩
def dkwX8_greatest_2 : List UInt8 := [6, 172, 7, 172, 16, 8, 172, 16, 30, 172, 16, 8, 172, 16, 20, 172, 16, 90, 172]
abbrev dktX8_greatest_2 : List UInt8 := dkwX8_greatest_2 ++ []
def dkwX8_greatest_1 : List UInt8 := [170, 0, 0, 0, 0, 0, 55, 0, 0, 0, 0, 0, 0, 0, 5, 0, 0, 0, 39, 0, 0, 0, 41, 0, 0, 0, 43, 0, 0, 0, 46, 0, 0, 0, 49, 0, 0, 0, 52]
abbrev dktX8_greatest_1 : List UInt8 := dkwX8_greatest_1 ++ dktX8_greatest_2
def dkwX8_greatest_0 : List UInt8 := [26]
abbrev dktX8_greatest_0 : List UInt8 := dkwX8_greatest_0 ++ dktX8_greatest_1
theorem dksX8_greatest_0 : cX8_greatest.data.toList.drop 0 = dktX8_greatest_0 := by decide +kernel
theorem dksX8_greatest_1 : cX8_greatest.data.toList.drop 1 = dktX8_greatest_1 := dk_seg dksX8_greatest_0 1 rfl rfl
theorem dksX8_greatest_2 : cX8_greatest.data.toList.drop 40 = dktX8_greatest_2 := dk_seg dksX8_greatest_1 39 rfl rfl
theorem dX8_greatest_0 : decode cX8_greatest 0 = .ok (.iload_n 0, 1) := dk_26 (dk_at dksX8_greatest_0 0 rfl rfl)
theorem dX8_greatest_1 : decode cX8_greatest 1 = .ok (.tableswitch 55 0 5 #[39, 41, 43, 46, 49, 52], 39) := by decide +kernel
theorem dX8_greatest_40 : decode cX8_greatest 40 = .ok (.iconst 3, 1) := dk_6 (dk_at dksX8_greatest_2 0 rfl rfl)
theorem dX8_greatest_41 : decode cX8_greatest 41 = .ok (.ireturn, 1) := dk_172 (dk_at dksX8_greatest_2 1 rfl rfl)
theorem dX8_greatest_42 : decode cX8_greatest 42 = .ok (.iconst 4, 1) := dk_7 (dk_at dksX8_greatest_2 2 rfl rfl)
theorem dX8_greatest_43 : decode cX8_greatest 43 = .ok (.ireturn, 1) := dk_172 (dk_at dksX8_greatest_2 3 rfl rfl)
theorem dX8_greatest_44 : decode cX8_greatest 44 = .ok (.bipush 8, 2) := dk_16 8 (dk_at dksX8_greatest_2 4 rfl rfl)
theorem dX8_greatest_46 : decode cX8_greatest 46 = .ok (.ireturn, 1) := dk_172 (dk_at dksX8_greatest_2 6 rfl rfl)
theorem dX8_greatest_47 : decode cX8_greatest 47 = .ok (.bipush 30, 2) := dk_16 30 (dk_at dksX8_greatest_2 7 rfl rfl)
theorem dX8_greatest_49 : decode cX8_greatest 49 = .ok (.ireturn, 1) := dk_172 (dk_at dksX8_greatest_2 9 rfl rfl)
theorem dX8_greatest_50 : decode cX8_greatest 50 = .ok (.bipush 8, 2) := dk_16 8 (dk_at dksX8_greatest_2 10 rfl rfl)
theorem dX8_greatest_52 : decode cX8_greatest 52 = .ok (.ireturn, 1) := dk_172 (dk_at dksX8_greatest_2 12 rfl rfl)
theorem dX8_greatest_53 : decode cX8_greatest 53 = .ok (.bipush 20, 2) := dk_16 20 (dk_at dksX8_greatest_2 13 rfl rfl)
theorem dX8_greatest_55 : decode cX8_greatest 55 = .ok (.ireturn, 1) := dk_172 (dk_at dksX8_greatest_2 15 rfl rfl)
theorem dX8_greatest_56 : decode cX8_greatest 56 = .ok (.bipush 90, 2) := dk_16 90 (dk_at dksX8_greatest_2 16 rfl rfl)
theorem dX8_greatest_58 : decode cX8_greatest 58 = .ok (.ireturn, 1) := dk_172 (dk_at dksX8_greatest_2 18 rfl rfl)
abbrev cX8_many : ByteArray := prog_13_method_9_code
def yX8_many : MethodName := ⟨RX8, "many", "()I"⟩
def dkwX8_many_0 : List UInt8 := [42, 16, 8, 182, 0, 143, 172]
abbrev dktX8_many_0 : List UInt8 := dkwX8_many_0 ++ []
theorem dksX8_many_0 : cX8_many.data.toList.drop 0 = dktX8_many_0 := by decide +kernel
theorem dX8_many_0 : decode cX8_many 0 = .ok (.aload_n 0, 1) := dk_42 (dk_at dksX8_many_0 0 rfl rfl)
theorem dX8_many_1 : decode cX8_many 1 = .ok (.bipush 8, 2) := dk_16 8 (dk_at dksX8_many_0 1 rfl rfl)
theorem dX8_many_3 : decode cX8_many 3 = .ok (.invokevirtual 143, 3) := dk_182 0 143 (dk_at dksX8_many_0 3 rfl rfl)
theorem dX8_many_6 : decode cX8_many 6 = .ok (.ireturn, 1) := dk_172 (dk_at dksX8_many_0 6 rfl rfl)
abbrev cX8_get : ByteArray := prog_13_method_5_code
def yX8_get : MethodName := ⟨RX8, "get", "(I)I"⟩
def dkwX8_get_0 : List UInt8 := [42, 180, 0, 7, 42, 180, 0, 140, 27, 96, 46, 172]
abbrev dktX8_get_0 : List UInt8 := dkwX8_get_0 ++ []
theorem dksX8_get_0 : cX8_get.data.toList.drop 0 = dktX8_get_0 := by decide +kernel
theorem dX8_get_0 : decode cX8_get 0 = .ok (.aload_n 0, 1) := dk_42 (dk_at dksX8_get_0 0 rfl rfl)
theorem dX8_get_1 : decode cX8_get 1 = .ok (.getfield 7, 3) := dk_180 0 7 (dk_at dksX8_get_0 1 rfl rfl)
theorem dX8_get_4 : decode cX8_get 4 = .ok (.aload_n 0, 1) := dk_42 (dk_at dksX8_get_0 4 rfl rfl)
theorem dX8_get_5 : decode cX8_get 5 = .ok (.getfield 140, 3) := dk_180 0 140 (dk_at dksX8_get_0 5 rfl rfl)
theorem dX8_get_8 : decode cX8_get 8 = .ok (.iload_n 1, 1) := dk_27 (dk_at dksX8_get_0 8 rfl rfl)
theorem dX8_get_9 : decode cX8_get 9 = .ok (.iadd, 1) := dk_96 (dk_at dksX8_get_0 9 rfl rfl)
theorem dX8_get_10 : decode cX8_get 10 = .ok (.iaload, 1) := dk_46 (dk_at dksX8_get_0 10 rfl rfl)
theorem dX8_get_11 : decode cX8_get 11 = .ok (.ireturn, 1) := dk_172 (dk_at dksX8_get_0 11 rfl rfl)
abbrev cX8_errorOffset : ByteArray := prog_13_method_47_code
def yX8_errorOffset : MethodName := ⟨RX8, "errorOffset", "()I"⟩
def dkwX8_errorOffset_0 : List UInt8 := [42, 3, 181, 0, 137, 42, 180, 0, 127, 172]
abbrev dktX8_errorOffset_0 : List UInt8 := dkwX8_errorOffset_0 ++ []
theorem dksX8_errorOffset_0 : cX8_errorOffset.data.toList.drop 0 = dktX8_errorOffset_0 := by decide +kernel
theorem dX8_errorOffset_0 : decode cX8_errorOffset 0 = .ok (.aload_n 0, 1) := dk_42 (dk_at dksX8_errorOffset_0 0 rfl rfl)
theorem dX8_errorOffset_1 : decode cX8_errorOffset 1 = .ok (.iconst 0, 1) := dk_3 (dk_at dksX8_errorOffset_0 1 rfl rfl)
theorem dX8_errorOffset_2 : decode cX8_errorOffset 2 = .ok (.putfield 137, 3) := dk_181 0 137 (dk_at dksX8_errorOffset_0 2 rfl rfl)
theorem dX8_errorOffset_5 : decode cX8_errorOffset 5 = .ok (.aload_n 0, 1) := dk_42 (dk_at dksX8_errorOffset_0 5 rfl rfl)
theorem dX8_errorOffset_6 : decode cX8_errorOffset 6 = .ok (.getfield 127, 3) := dk_180 0 127 (dk_at dksX8_errorOffset_0 6 rfl rfl)
theorem dX8_errorOffset_9 : decode cX8_errorOffset 9 = .ok (.ireturn, 1) := dk_172 (dk_at dksX8_errorOffset_0 9 rfl rfl)
abbrev cX8_products : ByteArray := prog_13_method_48_code
def yX8_products : MethodName := ⟨RX8, "products", "()I"⟩
def dkwX8_products_0 : List UInt8 := [42, 3, 181, 0, 137, 42, 180, 0, 155, 172]
abbrev dktX8_products_0 : List UInt8 := dkwX8_products_0 ++ []
theorem dksX8_products_0 : cX8_products.data.toList.drop 0 = dktX8_products_0 := by decide +kernel
theorem dX8_products_0 : decode cX8_products 0 = .ok (.aload_n 0, 1) := dk_42 (dk_at dksX8_products_0 0 rfl rfl)
theorem dX8_products_1 : decode cX8_products 1 = .ok (.iconst 0, 1) := dk_3 (dk_at dksX8_products_0 1 rfl rfl)
theorem dX8_products_2 : decode cX8_products 2 = .ok (.putfield 137, 3) := dk_181 0 137 (dk_at dksX8_products_0 2 rfl rfl)
theorem dX8_products_5 : decode cX8_products 5 = .ok (.aload_n 0, 1) := dk_42 (dk_at dksX8_products_0 5 rfl rfl)
theorem dX8_products_6 : decode cX8_products 6 = .ok (.getfield 155, 3) := dk_180 0 155 (dk_at dksX8_products_0 6 rfl rfl)
theorem dX8_products_9 : decode cX8_products 9 = .ok (.ireturn, 1) := dk_172 (dk_at dksX8_products_0 9 rfl rfl)
abbrev cX8_waves : ByteArray := prog_13_method_49_code
def yX8_waves : MethodName := ⟨RX8, "waves", "()I"⟩
def dkwX8_waves_0 : List UInt8 := [42, 3, 181, 0, 137, 42, 180, 0, 158, 172]
abbrev dktX8_waves_0 : List UInt8 := dkwX8_waves_0 ++ []
theorem dksX8_waves_0 : cX8_waves.data.toList.drop 0 = dktX8_waves_0 := by decide +kernel
theorem dX8_waves_0 : decode cX8_waves 0 = .ok (.aload_n 0, 1) := dk_42 (dk_at dksX8_waves_0 0 rfl rfl)
theorem dX8_waves_1 : decode cX8_waves 1 = .ok (.iconst 0, 1) := dk_3 (dk_at dksX8_waves_0 1 rfl rfl)
theorem dX8_waves_2 : decode cX8_waves 2 = .ok (.putfield 137, 3) := dk_181 0 137 (dk_at dksX8_waves_0 2 rfl rfl)
theorem dX8_waves_5 : decode cX8_waves 5 = .ok (.aload_n 0, 1) := dk_42 (dk_at dksX8_waves_0 5 rfl rfl)
theorem dX8_waves_6 : decode cX8_waves 6 = .ok (.getfield 158, 3) := dk_180 0 158 (dk_at dksX8_waves_0 6 rfl rfl)
theorem dX8_waves_9 : decode cX8_waves 9 = .ok (.ireturn, 1) := dk_172 (dk_at dksX8_waves_0 9 rfl rfl)
abbrev cX8_batches : ByteArray := prog_13_method_50_code
def yX8_batches : MethodName := ⟨RX8, "batches", "()I"⟩
def dkwX8_batches_0 : List UInt8 := [42, 3, 181, 0, 137, 42, 182, 0, 147, 172]
abbrev dktX8_batches_0 : List UInt8 := dkwX8_batches_0 ++ []
theorem dksX8_batches_0 : cX8_batches.data.toList.drop 0 = dktX8_batches_0 := by decide +kernel
theorem dX8_batches_0 : decode cX8_batches 0 = .ok (.aload_n 0, 1) := dk_42 (dk_at dksX8_batches_0 0 rfl rfl)
theorem dX8_batches_1 : decode cX8_batches 1 = .ok (.iconst 0, 1) := dk_3 (dk_at dksX8_batches_0 1 rfl rfl)
theorem dX8_batches_2 : decode cX8_batches 2 = .ok (.putfield 137, 3) := dk_181 0 137 (dk_at dksX8_batches_0 2 rfl rfl)
theorem dX8_batches_5 : decode cX8_batches 5 = .ok (.aload_n 0, 1) := dk_42 (dk_at dksX8_batches_0 5 rfl rfl)
theorem dX8_batches_6 : decode cX8_batches 6 = .ok (.invokevirtual 147, 3) := dk_182 0 147 (dk_at dksX8_batches_0 6 rfl rfl)
theorem dX8_batches_9 : decode cX8_batches 9 = .ok (.ireturn, 1) := dk_172 (dk_at dksX8_batches_0 9 rfl rfl)
abbrev cX8_waveMinute : ByteArray := prog_13_method_51_code
def yX8_waveMinute : MethodName := ⟨RX8, "waveMinute", "(I)I"⟩
def dkwX8_waveMinute_1 : List UInt8 := [182, 0, 164, 172]
abbrev dktX8_waveMinute_1 : List UInt8 := dkwX8_waveMinute_1 ++ []
def dkwX8_waveMinute_0 : List UInt8 := [42, 3, 181, 0, 137, 42, 27, 182, 1, 44, 153, 0, 12, 42, 180, 0, 35, 27, 46, 167, 0, 8, 42, 4]
abbrev dktX8_waveMinute_0 : List UInt8 := dkwX8_waveMinute_0 ++ dktX8_waveMinute_1
theorem dksX8_waveMinute_0 : cX8_waveMinute.data.toList.drop 0 = dktX8_waveMinute_0 := by decide +kernel
theorem dksX8_waveMinute_1 : cX8_waveMinute.data.toList.drop 24 = dktX8_waveMinute_1 := dk_seg dksX8_waveMinute_0 24 rfl rfl
theorem dX8_waveMinute_0 : decode cX8_waveMinute 0 = .ok (.aload_n 0, 1) := dk_42 (dk_at dksX8_waveMinute_0 0 rfl rfl)
theorem dX8_waveMinute_1 : decode cX8_waveMinute 1 = .ok (.iconst 0, 1) := dk_3 (dk_at dksX8_waveMinute_0 1 rfl rfl)
theorem dX8_waveMinute_2 : decode cX8_waveMinute 2 = .ok (.putfield 137, 3) := dk_181 0 137 (dk_at dksX8_waveMinute_0 2 rfl rfl)
theorem dX8_waveMinute_5 : decode cX8_waveMinute 5 = .ok (.aload_n 0, 1) := dk_42 (dk_at dksX8_waveMinute_0 5 rfl rfl)
theorem dX8_waveMinute_6 : decode cX8_waveMinute 6 = .ok (.iload_n 1, 1) := dk_27 (dk_at dksX8_waveMinute_0 6 rfl rfl)
theorem dX8_waveMinute_7 : decode cX8_waveMinute 7 = .ok (.invokevirtual 300, 3) := dk_182 1 44 (dk_at dksX8_waveMinute_0 7 rfl rfl)
theorem dX8_waveMinute_10 : decode cX8_waveMinute 10 = .ok (.ifCond .eq 12, 3) := dk_153 0 12 (dk_at dksX8_waveMinute_0 10 rfl rfl)
theorem dX8_waveMinute_13 : decode cX8_waveMinute 13 = .ok (.aload_n 0, 1) := dk_42 (dk_at dksX8_waveMinute_0 13 rfl rfl)
theorem dX8_waveMinute_14 : decode cX8_waveMinute 14 = .ok (.getfield 35, 3) := dk_180 0 35 (dk_at dksX8_waveMinute_0 14 rfl rfl)
theorem dX8_waveMinute_17 : decode cX8_waveMinute 17 = .ok (.iload_n 1, 1) := dk_27 (dk_at dksX8_waveMinute_0 17 rfl rfl)
theorem dX8_waveMinute_18 : decode cX8_waveMinute 18 = .ok (.iaload, 1) := dk_46 (dk_at dksX8_waveMinute_0 18 rfl rfl)
theorem dX8_waveMinute_19 : decode cX8_waveMinute 19 = .ok (.goto 8, 3) := dk_167 0 8 (dk_at dksX8_waveMinute_0 19 rfl rfl)
theorem dX8_waveMinute_22 : decode cX8_waveMinute 22 = .ok (.aload_n 0, 1) := dk_42 (dk_at dksX8_waveMinute_0 22 rfl rfl)
theorem dX8_waveMinute_23 : decode cX8_waveMinute 23 = .ok (.iconst 1, 1) := dk_4 (dk_at dksX8_waveMinute_0 23 rfl rfl)
theorem dX8_waveMinute_24 : decode cX8_waveMinute 24 = .ok (.invokevirtual 164, 3) := dk_182 0 164 (dk_at dksX8_waveMinute_1 0 rfl rfl)
theorem dX8_waveMinute_27 : decode cX8_waveMinute 27 = .ok (.ireturn, 1) := dk_172 (dk_at dksX8_waveMinute_1 3 rfl rfl)
abbrev cX8_isWave : ByteArray := prog_13_method_12_code
def yX8_isWave : MethodName := ⟨RX8, "isWave", "(I)Z"⟩
def dkwX8_isWave_0 : List UInt8 := [27, 3, 42, 180, 0, 158, 4, 100, 184, 0, 151, 172]
abbrev dktX8_isWave_0 : List UInt8 := dkwX8_isWave_0 ++ []
theorem dksX8_isWave_0 : cX8_isWave.data.toList.drop 0 = dktX8_isWave_0 := by decide +kernel
theorem dX8_isWave_0 : decode cX8_isWave 0 = .ok (.iload_n 1, 1) := dk_27 (dk_at dksX8_isWave_0 0 rfl rfl)
theorem dX8_isWave_1 : decode cX8_isWave 1 = .ok (.iconst 0, 1) := dk_3 (dk_at dksX8_isWave_0 1 rfl rfl)
theorem dX8_isWave_2 : decode cX8_isWave 2 = .ok (.aload_n 0, 1) := dk_42 (dk_at dksX8_isWave_0 2 rfl rfl)
theorem dX8_isWave_3 : decode cX8_isWave 3 = .ok (.getfield 158, 3) := dk_180 0 158 (dk_at dksX8_isWave_0 3 rfl rfl)
theorem dX8_isWave_6 : decode cX8_isWave 6 = .ok (.iconst 1, 1) := dk_4 (dk_at dksX8_isWave_0 6 rfl rfl)
theorem dX8_isWave_7 : decode cX8_isWave 7 = .ok (.isub, 1) := dk_100 (dk_at dksX8_isWave_0 7 rfl rfl)
theorem dX8_isWave_8 : decode cX8_isWave 8 = .ok (.invokestatic 151, 3) := dk_184 0 151 (dk_at dksX8_isWave_0 8 rfl rfl)
theorem dX8_isWave_11 : decode cX8_isWave 11 = .ok (.ireturn, 1) := dk_172 (dk_at dksX8_isWave_0 11 rfl rfl)
abbrev cX8_productOf : ByteArray := prog_13_method_53_code
def yX8_productOf : MethodName := ⟨RX8, "productOf", "(I)I"⟩
def dkwX8_productOf_0 : List UInt8 := [42, 27, 3, 182, 1, 53, 172]
abbrev dktX8_productOf_0 : List UInt8 := dkwX8_productOf_0 ++ []
theorem dksX8_productOf_0 : cX8_productOf.data.toList.drop 0 = dktX8_productOf_0 := by decide +kernel
theorem dX8_productOf_0 : decode cX8_productOf 0 = .ok (.aload_n 0, 1) := dk_42 (dk_at dksX8_productOf_0 0 rfl rfl)
theorem dX8_productOf_1 : decode cX8_productOf 1 = .ok (.iload_n 1, 1) := dk_27 (dk_at dksX8_productOf_0 1 rfl rfl)
theorem dX8_productOf_2 : decode cX8_productOf 2 = .ok (.iconst 0, 1) := dk_3 (dk_at dksX8_productOf_0 2 rfl rfl)
theorem dX8_productOf_3 : decode cX8_productOf 3 = .ok (.invokevirtual 309, 3) := dk_182 1 53 (dk_at dksX8_productOf_0 3 rfl rfl)
theorem dX8_productOf_6 : decode cX8_productOf 6 = .ok (.ireturn, 1) := dk_172 (dk_at dksX8_productOf_0 6 rfl rfl)
abbrev cX8_told : ByteArray := prog_13_method_52_code
def yX8_told : MethodName := ⟨RX8, "told", "(II)I"⟩
def dkwX8_told_1 : List UInt8 := [182, 0, 164, 172]
abbrev dktX8_told_1 : List UInt8 := dkwX8_told_1 ++ []
def dkwX8_told_0 : List UInt8 := [42, 3, 181, 0, 137, 42, 27, 182, 1, 47, 153, 0, 12, 42, 27, 28, 182, 1, 50, 167, 0, 8, 42, 4]
abbrev dktX8_told_0 : List UInt8 := dkwX8_told_0 ++ dktX8_told_1
theorem dksX8_told_0 : cX8_told.data.toList.drop 0 = dktX8_told_0 := by decide +kernel
theorem dksX8_told_1 : cX8_told.data.toList.drop 24 = dktX8_told_1 := dk_seg dksX8_told_0 24 rfl rfl
theorem dX8_told_0 : decode cX8_told 0 = .ok (.aload_n 0, 1) := dk_42 (dk_at dksX8_told_0 0 rfl rfl)
theorem dX8_told_1 : decode cX8_told 1 = .ok (.iconst 0, 1) := dk_3 (dk_at dksX8_told_0 1 rfl rfl)
theorem dX8_told_2 : decode cX8_told 2 = .ok (.putfield 137, 3) := dk_181 0 137 (dk_at dksX8_told_0 2 rfl rfl)
theorem dX8_told_5 : decode cX8_told 5 = .ok (.aload_n 0, 1) := dk_42 (dk_at dksX8_told_0 5 rfl rfl)
theorem dX8_told_6 : decode cX8_told 6 = .ok (.iload_n 1, 1) := dk_27 (dk_at dksX8_told_0 6 rfl rfl)
theorem dX8_told_7 : decode cX8_told 7 = .ok (.invokevirtual 303, 3) := dk_182 1 47 (dk_at dksX8_told_0 7 rfl rfl)
theorem dX8_told_10 : decode cX8_told 10 = .ok (.ifCond .eq 12, 3) := dk_153 0 12 (dk_at dksX8_told_0 10 rfl rfl)
theorem dX8_told_13 : decode cX8_told 13 = .ok (.aload_n 0, 1) := dk_42 (dk_at dksX8_told_0 13 rfl rfl)
theorem dX8_told_14 : decode cX8_told 14 = .ok (.iload_n 1, 1) := dk_27 (dk_at dksX8_told_0 14 rfl rfl)
theorem dX8_told_15 : decode cX8_told 15 = .ok (.iload_n 2, 1) := dk_28 (dk_at dksX8_told_0 15 rfl rfl)
theorem dX8_told_16 : decode cX8_told 16 = .ok (.invokevirtual 306, 3) := dk_182 1 50 (dk_at dksX8_told_0 16 rfl rfl)
theorem dX8_told_19 : decode cX8_told 19 = .ok (.goto 8, 3) := dk_167 0 8 (dk_at dksX8_told_0 19 rfl rfl)
theorem dX8_told_22 : decode cX8_told 22 = .ok (.aload_n 0, 1) := dk_42 (dk_at dksX8_told_0 22 rfl rfl)
theorem dX8_told_23 : decode cX8_told 23 = .ok (.iconst 1, 1) := dk_4 (dk_at dksX8_told_0 23 rfl rfl)
theorem dX8_told_24 : decode cX8_told 24 = .ok (.invokevirtual 164, 3) := dk_182 0 164 (dk_at dksX8_told_1 0 rfl rfl)
theorem dX8_told_27 : decode cX8_told 27 = .ok (.ireturn, 1) := dk_172 (dk_at dksX8_told_1 3 rfl rfl)
abbrev cX8_isBatch : ByteArray := prog_13_method_10_code
def yX8_isBatch : MethodName := ⟨RX8, "isBatch", "(I)Z"⟩
def dkwX8_isBatch_0 : List UInt8 := [27, 3, 42, 182, 0, 147, 4, 100, 184, 0, 151, 172]
abbrev dktX8_isBatch_0 : List UInt8 := dkwX8_isBatch_0 ++ []
theorem dksX8_isBatch_0 : cX8_isBatch.data.toList.drop 0 = dktX8_isBatch_0 := by decide +kernel
theorem dX8_isBatch_0 : decode cX8_isBatch 0 = .ok (.iload_n 1, 1) := dk_27 (dk_at dksX8_isBatch_0 0 rfl rfl)
theorem dX8_isBatch_1 : decode cX8_isBatch 1 = .ok (.iconst 0, 1) := dk_3 (dk_at dksX8_isBatch_0 1 rfl rfl)
theorem dX8_isBatch_2 : decode cX8_isBatch 2 = .ok (.aload_n 0, 1) := dk_42 (dk_at dksX8_isBatch_0 2 rfl rfl)
theorem dX8_isBatch_3 : decode cX8_isBatch 3 = .ok (.invokevirtual 147, 3) := dk_182 0 147 (dk_at dksX8_isBatch_0 3 rfl rfl)
theorem dX8_isBatch_6 : decode cX8_isBatch 6 = .ok (.iconst 1, 1) := dk_4 (dk_at dksX8_isBatch_0 6 rfl rfl)
theorem dX8_isBatch_7 : decode cX8_isBatch 7 = .ok (.isub, 1) := dk_100 (dk_at dksX8_isBatch_0 7 rfl rfl)
theorem dX8_isBatch_8 : decode cX8_isBatch 8 = .ok (.invokestatic 151, 3) := dk_184 0 151 (dk_at dksX8_isBatch_0 8 rfl rfl)
theorem dX8_isBatch_11 : decode cX8_isBatch 11 = .ok (.ireturn, 1) := dk_172 (dk_at dksX8_isBatch_0 11 rfl rfl)
abbrev cX8_batch : ByteArray := prog_13_method_7_code
def yX8_batch : MethodName := ⟨RX8, "batch", "(II)I"⟩
def dkwX8_batch_0 : List UInt8 := [42, 180, 0, 7, 42, 180, 0, 140, 16, 9, 96, 6, 27, 104, 96, 28, 96, 46, 172]
abbrev dktX8_batch_0 : List UInt8 := dkwX8_batch_0 ++ []
theorem dksX8_batch_0 : cX8_batch.data.toList.drop 0 = dktX8_batch_0 := by decide +kernel
theorem dX8_batch_0 : decode cX8_batch 0 = .ok (.aload_n 0, 1) := dk_42 (dk_at dksX8_batch_0 0 rfl rfl)
theorem dX8_batch_1 : decode cX8_batch 1 = .ok (.getfield 7, 3) := dk_180 0 7 (dk_at dksX8_batch_0 1 rfl rfl)
theorem dX8_batch_4 : decode cX8_batch 4 = .ok (.aload_n 0, 1) := dk_42 (dk_at dksX8_batch_0 4 rfl rfl)
theorem dX8_batch_5 : decode cX8_batch 5 = .ok (.getfield 140, 3) := dk_180 0 140 (dk_at dksX8_batch_0 5 rfl rfl)
theorem dX8_batch_8 : decode cX8_batch 8 = .ok (.bipush 9, 2) := dk_16 9 (dk_at dksX8_batch_0 8 rfl rfl)
theorem dX8_batch_10 : decode cX8_batch 10 = .ok (.iadd, 1) := dk_96 (dk_at dksX8_batch_0 10 rfl rfl)
theorem dX8_batch_11 : decode cX8_batch 11 = .ok (.iconst 3, 1) := dk_6 (dk_at dksX8_batch_0 11 rfl rfl)
theorem dX8_batch_12 : decode cX8_batch 12 = .ok (.iload_n 1, 1) := dk_27 (dk_at dksX8_batch_0 12 rfl rfl)
theorem dX8_batch_13 : decode cX8_batch 13 = .ok (.imul, 1) := dk_104 (dk_at dksX8_batch_0 13 rfl rfl)
theorem dX8_batch_14 : decode cX8_batch 14 = .ok (.iadd, 1) := dk_96 (dk_at dksX8_batch_0 14 rfl rfl)
theorem dX8_batch_15 : decode cX8_batch 15 = .ok (.iload_n 2, 1) := dk_28 (dk_at dksX8_batch_0 15 rfl rfl)
theorem dX8_batch_16 : decode cX8_batch 16 = .ok (.iadd, 1) := dk_96 (dk_at dksX8_batch_0 16 rfl rfl)
theorem dX8_batch_17 : decode cX8_batch 17 = .ok (.iaload, 1) := dk_46 (dk_at dksX8_batch_0 17 rfl rfl)
theorem dX8_batch_18 : decode cX8_batch 18 = .ok (.ireturn, 1) := dk_172 (dk_at dksX8_batch_0 18 rfl rfl)
abbrev cX8_startOf : ByteArray := prog_13_method_54_code
def yX8_startOf : MethodName := ⟨RX8, "startOf", "(I)I"⟩
def dkwX8_startOf_0 : List UInt8 := [42, 27, 4, 182, 1, 53, 172]
abbrev dktX8_startOf_0 : List UInt8 := dkwX8_startOf_0 ++ []
theorem dksX8_startOf_0 : cX8_startOf.data.toList.drop 0 = dktX8_startOf_0 := by decide +kernel
theorem dX8_startOf_0 : decode cX8_startOf 0 = .ok (.aload_n 0, 1) := dk_42 (dk_at dksX8_startOf_0 0 rfl rfl)
theorem dX8_startOf_1 : decode cX8_startOf 1 = .ok (.iload_n 1, 1) := dk_27 (dk_at dksX8_startOf_0 1 rfl rfl)
theorem dX8_startOf_2 : decode cX8_startOf 2 = .ok (.iconst 1, 1) := dk_4 (dk_at dksX8_startOf_0 2 rfl rfl)
theorem dX8_startOf_3 : decode cX8_startOf 3 = .ok (.invokevirtual 309, 3) := dk_182 1 53 (dk_at dksX8_startOf_0 3 rfl rfl)
theorem dX8_startOf_6 : decode cX8_startOf 6 = .ok (.ireturn, 1) := dk_172 (dk_at dksX8_startOf_0 6 rfl rfl)
abbrev cX8_waveOf : ByteArray := prog_13_method_55_code
def yX8_waveOf : MethodName := ⟨RX8, "waveOf", "(I)I"⟩
def dkwX8_waveOf_0 : List UInt8 := [42, 27, 5, 182, 1, 53, 172]
abbrev dktX8_waveOf_0 : List UInt8 := dkwX8_waveOf_0 ++ []
theorem dksX8_waveOf_0 : cX8_waveOf.data.toList.drop 0 = dktX8_waveOf_0 := by decide +kernel
theorem dX8_waveOf_0 : decode cX8_waveOf 0 = .ok (.aload_n 0, 1) := dk_42 (dk_at dksX8_waveOf_0 0 rfl rfl)
theorem dX8_waveOf_1 : decode cX8_waveOf 1 = .ok (.iload_n 1, 1) := dk_27 (dk_at dksX8_waveOf_0 1 rfl rfl)
theorem dX8_waveOf_2 : decode cX8_waveOf 2 = .ok (.iconst 2, 1) := dk_5 (dk_at dksX8_waveOf_0 2 rfl rfl)
theorem dX8_waveOf_3 : decode cX8_waveOf 3 = .ok (.invokevirtual 309, 3) := dk_182 1 53 (dk_at dksX8_waveOf_0 3 rfl rfl)
theorem dX8_waveOf_6 : decode cX8_waveOf 6 = .ok (.ireturn, 1) := dk_172 (dk_at dksX8_waveOf_0 6 rfl rfl)
abbrev cX8_setting : ByteArray := prog_13_method_56_code
def yX8_setting : MethodName := ⟨RX8, "setting", "(I)I"⟩
def dkwX8_setting_1 : List UInt8 := [4, 182, 0, 164, 172]
abbrev dktX8_setting_1 : List UInt8 := dkwX8_setting_1 ++ []
def dkwX8_setting_0 : List UInt8 := [42, 3, 181, 0, 137, 27, 3, 16, 6, 184, 0, 151, 153, 0, 11, 42, 27, 182, 0, 143, 167, 0, 8, 42]
abbrev dktX8_setting_0 : List UInt8 := dkwX8_setting_0 ++ dktX8_setting_1
theorem dksX8_setting_0 : cX8_setting.data.toList.drop 0 = dktX8_setting_0 := by decide +kernel
theorem dksX8_setting_1 : cX8_setting.data.toList.drop 24 = dktX8_setting_1 := dk_seg dksX8_setting_0 24 rfl rfl
theorem dX8_setting_0 : decode cX8_setting 0 = .ok (.aload_n 0, 1) := dk_42 (dk_at dksX8_setting_0 0 rfl rfl)
theorem dX8_setting_1 : decode cX8_setting 1 = .ok (.iconst 0, 1) := dk_3 (dk_at dksX8_setting_0 1 rfl rfl)
theorem dX8_setting_2 : decode cX8_setting 2 = .ok (.putfield 137, 3) := dk_181 0 137 (dk_at dksX8_setting_0 2 rfl rfl)
theorem dX8_setting_5 : decode cX8_setting 5 = .ok (.iload_n 1, 1) := dk_27 (dk_at dksX8_setting_0 5 rfl rfl)
theorem dX8_setting_6 : decode cX8_setting 6 = .ok (.iconst 0, 1) := dk_3 (dk_at dksX8_setting_0 6 rfl rfl)
theorem dX8_setting_7 : decode cX8_setting 7 = .ok (.bipush 6, 2) := dk_16 6 (dk_at dksX8_setting_0 7 rfl rfl)
theorem dX8_setting_9 : decode cX8_setting 9 = .ok (.invokestatic 151, 3) := dk_184 0 151 (dk_at dksX8_setting_0 9 rfl rfl)
theorem dX8_setting_12 : decode cX8_setting 12 = .ok (.ifCond .eq 11, 3) := dk_153 0 11 (dk_at dksX8_setting_0 12 rfl rfl)
theorem dX8_setting_15 : decode cX8_setting 15 = .ok (.aload_n 0, 1) := dk_42 (dk_at dksX8_setting_0 15 rfl rfl)
theorem dX8_setting_16 : decode cX8_setting 16 = .ok (.iload_n 1, 1) := dk_27 (dk_at dksX8_setting_0 16 rfl rfl)
theorem dX8_setting_17 : decode cX8_setting 17 = .ok (.invokevirtual 143, 3) := dk_182 0 143 (dk_at dksX8_setting_0 17 rfl rfl)
theorem dX8_setting_20 : decode cX8_setting 20 = .ok (.goto 8, 3) := dk_167 0 8 (dk_at dksX8_setting_0 20 rfl rfl)
theorem dX8_setting_23 : decode cX8_setting 23 = .ok (.aload_n 0, 1) := dk_42 (dk_at dksX8_setting_0 23 rfl rfl)
theorem dX8_setting_24 : decode cX8_setting 24 = .ok (.iconst 1, 1) := dk_4 (dk_at dksX8_setting_1 0 rfl rfl)
theorem dX8_setting_25 : decode cX8_setting 25 = .ok (.invokevirtual 164, 3) := dk_182 0 164 (dk_at dksX8_setting_1 1 rfl rfl)
theorem dX8_setting_28 : decode cX8_setting 28 = .ok (.ireturn, 1) := dk_172 (dk_at dksX8_setting_1 4 rfl rfl)
abbrev cX8_policy : ByteArray := prog_13_method_57_code
def yX8_policy : MethodName := ⟨RX8, "policy", "()I"⟩
def dkwX8_policy_0 : List UInt8 := [42, 3, 181, 0, 137, 42, 16, 7, 182, 0, 143, 172]
abbrev dktX8_policy_0 : List UInt8 := dkwX8_policy_0 ++ []
theorem dksX8_policy_0 : cX8_policy.data.toList.drop 0 = dktX8_policy_0 := by decide +kernel
theorem dX8_policy_0 : decode cX8_policy 0 = .ok (.aload_n 0, 1) := dk_42 (dk_at dksX8_policy_0 0 rfl rfl)
theorem dX8_policy_1 : decode cX8_policy 1 = .ok (.iconst 0, 1) := dk_3 (dk_at dksX8_policy_0 1 rfl rfl)
theorem dX8_policy_2 : decode cX8_policy 2 = .ok (.putfield 137, 3) := dk_181 0 137 (dk_at dksX8_policy_0 2 rfl rfl)
theorem dX8_policy_5 : decode cX8_policy 5 = .ok (.aload_n 0, 1) := dk_42 (dk_at dksX8_policy_0 5 rfl rfl)
theorem dX8_policy_6 : decode cX8_policy 6 = .ok (.bipush 7, 2) := dk_16 7 (dk_at dksX8_policy_0 6 rfl rfl)
theorem dX8_policy_8 : decode cX8_policy 8 = .ok (.invokevirtual 143, 3) := dk_182 0 143 (dk_at dksX8_policy_0 8 rfl rfl)
theorem dX8_policy_11 : decode cX8_policy 11 = .ok (.ireturn, 1) := dk_172 (dk_at dksX8_policy_0 11 rfl rfl)
abbrev cX8_state : ByteArray := prog_13_method_91_code
def yX8_state : MethodName := ⟨RX8, "state", "(I)I"⟩
def dkwX8_state_1 : List UInt8 := [27, 182, 1, 146, 172]
abbrev dktX8_state_1 : List UInt8 := dkwX8_state_1 ++ []
def dkwX8_state_0 : List UInt8 := [42, 3, 181, 0, 137, 42, 27, 182, 1, 47, 154, 0, 9, 42, 4, 182, 0, 164, 172, 42, 182, 1, 149, 42]
abbrev dktX8_state_0 : List UInt8 := dkwX8_state_0 ++ dktX8_state_1
theorem dksX8_state_0 : cX8_state.data.toList.drop 0 = dktX8_state_0 := by decide +kernel
theorem dksX8_state_1 : cX8_state.data.toList.drop 24 = dktX8_state_1 := dk_seg dksX8_state_0 24 rfl rfl
theorem dX8_state_0 : decode cX8_state 0 = .ok (.aload_n 0, 1) := dk_42 (dk_at dksX8_state_0 0 rfl rfl)
theorem dX8_state_1 : decode cX8_state 1 = .ok (.iconst 0, 1) := dk_3 (dk_at dksX8_state_0 1 rfl rfl)
theorem dX8_state_2 : decode cX8_state 2 = .ok (.putfield 137, 3) := dk_181 0 137 (dk_at dksX8_state_0 2 rfl rfl)
theorem dX8_state_5 : decode cX8_state 5 = .ok (.aload_n 0, 1) := dk_42 (dk_at dksX8_state_0 5 rfl rfl)
theorem dX8_state_6 : decode cX8_state 6 = .ok (.iload_n 1, 1) := dk_27 (dk_at dksX8_state_0 6 rfl rfl)
theorem dX8_state_7 : decode cX8_state 7 = .ok (.invokevirtual 303, 3) := dk_182 1 47 (dk_at dksX8_state_0 7 rfl rfl)
theorem dX8_state_10 : decode cX8_state 10 = .ok (.ifCond .ne 9, 3) := dk_154 0 9 (dk_at dksX8_state_0 10 rfl rfl)
theorem dX8_state_13 : decode cX8_state 13 = .ok (.aload_n 0, 1) := dk_42 (dk_at dksX8_state_0 13 rfl rfl)
theorem dX8_state_14 : decode cX8_state 14 = .ok (.iconst 1, 1) := dk_4 (dk_at dksX8_state_0 14 rfl rfl)
theorem dX8_state_15 : decode cX8_state 15 = .ok (.invokevirtual 164, 3) := dk_182 0 164 (dk_at dksX8_state_0 15 rfl rfl)
theorem dX8_state_18 : decode cX8_state 18 = .ok (.ireturn, 1) := dk_172 (dk_at dksX8_state_0 18 rfl rfl)
theorem dX8_state_19 : decode cX8_state 19 = .ok (.aload_n 0, 1) := dk_42 (dk_at dksX8_state_0 19 rfl rfl)
theorem dX8_state_20 : decode cX8_state 20 = .ok (.invokevirtual 405, 3) := dk_182 1 149 (dk_at dksX8_state_0 20 rfl rfl)
theorem dX8_state_23 : decode cX8_state 23 = .ok (.aload_n 0, 1) := dk_42 (dk_at dksX8_state_0 23 rfl rfl)
theorem dX8_state_24 : decode cX8_state 24 = .ok (.iload_n 1, 1) := dk_27 (dk_at dksX8_state_1 0 rfl rfl)
theorem dX8_state_25 : decode cX8_state 25 = .ok (.invokevirtual 402, 3) := dk_182 1 146 (dk_at dksX8_state_1 1 rfl rfl)
theorem dX8_state_28 : decode cX8_state 28 = .ok (.ireturn, 1) := dk_172 (dk_at dksX8_state_1 4 rfl rfl)
abbrev cX8_plays : ByteArray := prog_13_method_86_code
def yX8_plays : MethodName := ⟨RX8, "plays", "()V"⟩
def dkwX8_plays_1 : List UInt8 := [27, 182, 1, 143, 132, 1, 1, 167, 255, 231, 177]
abbrev dktX8_plays_1 : List UInt8 := dkwX8_plays_1 ++ []
def dkwX8_plays_0 : List UInt8 := [42, 182, 1, 134, 3, 60, 27, 17, 5, 160, 162, 0, 24, 42, 27, 182, 1, 137, 42, 27, 182, 1, 140, 42]
abbrev dktX8_plays_0 : List UInt8 := dkwX8_plays_0 ++ dktX8_plays_1
theorem dksX8_plays_0 : cX8_plays.data.toList.drop 0 = dktX8_plays_0 := by decide +kernel
theorem dksX8_plays_1 : cX8_plays.data.toList.drop 24 = dktX8_plays_1 := dk_seg dksX8_plays_0 24 rfl rfl
theorem dX8_plays_0 : decode cX8_plays 0 = .ok (.aload_n 0, 1) := dk_42 (dk_at dksX8_plays_0 0 rfl rfl)
theorem dX8_plays_1 : decode cX8_plays 1 = .ok (.invokevirtual 390, 3) := dk_182 1 134 (dk_at dksX8_plays_0 1 rfl rfl)
theorem dX8_plays_4 : decode cX8_plays 4 = .ok (.iconst 0, 1) := dk_3 (dk_at dksX8_plays_0 4 rfl rfl)
theorem dX8_plays_5 : decode cX8_plays 5 = .ok (.istore_n 1, 1) := dk_60 (dk_at dksX8_plays_0 5 rfl rfl)
theorem dX8_plays_6 : decode cX8_plays 6 = .ok (.iload_n 1, 1) := dk_27 (dk_at dksX8_plays_0 6 rfl rfl)
theorem dX8_plays_7 : decode cX8_plays 7 = .ok (.sipush 1440, 3) := dk_17 5 160 (dk_at dksX8_plays_0 7 rfl rfl)
theorem dX8_plays_10 : decode cX8_plays 10 = .ok (.if_icmp .ge 24, 3) := dk_162 0 24 (dk_at dksX8_plays_0 10 rfl rfl)
theorem dX8_plays_13 : decode cX8_plays 13 = .ok (.aload_n 0, 1) := dk_42 (dk_at dksX8_plays_0 13 rfl rfl)
theorem dX8_plays_14 : decode cX8_plays 14 = .ok (.iload_n 1, 1) := dk_27 (dk_at dksX8_plays_0 14 rfl rfl)
theorem dX8_plays_15 : decode cX8_plays 15 = .ok (.invokevirtual 393, 3) := dk_182 1 137 (dk_at dksX8_plays_0 15 rfl rfl)
theorem dX8_plays_18 : decode cX8_plays 18 = .ok (.aload_n 0, 1) := dk_42 (dk_at dksX8_plays_0 18 rfl rfl)
theorem dX8_plays_19 : decode cX8_plays 19 = .ok (.iload_n 1, 1) := dk_27 (dk_at dksX8_plays_0 19 rfl rfl)
theorem dX8_plays_20 : decode cX8_plays 20 = .ok (.invokevirtual 396, 3) := dk_182 1 140 (dk_at dksX8_plays_0 20 rfl rfl)
theorem dX8_plays_23 : decode cX8_plays 23 = .ok (.aload_n 0, 1) := dk_42 (dk_at dksX8_plays_0 23 rfl rfl)
theorem dX8_plays_24 : decode cX8_plays 24 = .ok (.iload_n 1, 1) := dk_27 (dk_at dksX8_plays_1 0 rfl rfl)
theorem dX8_plays_25 : decode cX8_plays 25 = .ok (.invokevirtual 399, 3) := dk_182 1 143 (dk_at dksX8_plays_1 1 rfl rfl)
theorem dX8_plays_28 : decode cX8_plays 28 = .ok (.iinc 1 1, 3) := dk_132 1 1 (dk_at dksX8_plays_1 4 rfl rfl)
theorem dX8_plays_31 : decode cX8_plays 31 = .ok (.goto (-25), 3) := dk_167 255 231 (dk_at dksX8_plays_1 7 rfl rfl)
theorem dX8_plays_34 : decode cX8_plays 34 = .ok (.return_, 1) := dk_177 (dk_at dksX8_plays_1 10 rfl rfl)
abbrev cX8_beginDay : ByteArray := prog_13_method_65_code
def yX8_beginDay : MethodName := ⟨RX8, "beginDay", "()V"⟩
def dkwX8_beginDay_7 : List UInt8 := [167, 255, 218, 42, 3, 181, 1, 62, 42, 3, 181, 1, 65, 177]
abbrev dktX8_beginDay_7 : List UInt8 := dkwX8_beginDay_7 ++ []
def dkwX8_beginDay_6 : List UInt8 := [27, 2, 79, 42, 180, 0, 109, 27, 17, 0, 200, 79, 42, 180, 0, 112, 27, 3, 79, 132, 1, 1]
abbrev dktX8_beginDay_6 : List UInt8 := dkwX8_beginDay_6 ++ dktX8_beginDay_7
def dkwX8_beginDay_5 : List UInt8 := [132, 1, 1, 167, 255, 227, 3, 60, 27, 7, 162, 0, 39, 42, 180, 0, 100, 27, 2, 79, 42, 180, 0, 103]
abbrev dktX8_beginDay_5 : List UInt8 := dkwX8_beginDay_5 ++ dktX8_beginDay_6
def dkwX8_beginDay_4 : List UInt8 := [162, 0, 30, 42, 180, 0, 88, 27, 2, 79, 42, 180, 0, 94, 27, 2, 79, 42, 180, 0, 97, 27, 3, 79]
abbrev dktX8_beginDay_4 : List UInt8 := dkwX8_beginDay_4 ++ dktX8_beginDay_5
def dkwX8_beginDay_3 : List UInt8 := [42, 180, 0, 82, 27, 3, 79, 42, 180, 0, 85, 27, 2, 79, 132, 1, 1, 167, 255, 170, 3, 60, 27, 6]
abbrev dktX8_beginDay_3 : List UInt8 := dkwX8_beginDay_3 ++ dktX8_beginDay_4
def dkwX8_beginDay_2 : List UInt8 := [27, 2, 79, 42, 180, 0, 73, 27, 2, 79, 42, 180, 0, 76, 27, 2, 79, 42, 180, 0, 79, 27, 2, 79]
abbrev dktX8_beginDay_2 : List UInt8 := dkwX8_beginDay_2 ++ dktX8_beginDay_3
def dkwX8_beginDay_1 : List UInt8 := [180, 0, 61, 27, 2, 79, 42, 180, 0, 64, 27, 2, 79, 42, 180, 0, 67, 27, 2, 79, 42, 180, 0, 70]
abbrev dktX8_beginDay_1 : List UInt8 := dkwX8_beginDay_1 ++ dktX8_beginDay_2
def dkwX8_beginDay_0 : List UInt8 := [3, 60, 27, 16, 20, 162, 0, 86, 42, 180, 0, 55, 27, 3, 79, 42, 180, 0, 58, 27, 3, 79, 42]
abbrev dktX8_beginDay_0 : List UInt8 := dkwX8_beginDay_0 ++ dktX8_beginDay_1
theorem dksX8_beginDay_0 : cX8_beginDay.data.toList.drop 0 = dktX8_beginDay_0 := by decide +kernel
theorem dksX8_beginDay_1 : cX8_beginDay.data.toList.drop 23 = dktX8_beginDay_1 := dk_seg dksX8_beginDay_0 23 rfl rfl
theorem dksX8_beginDay_2 : cX8_beginDay.data.toList.drop 47 = dktX8_beginDay_2 := dk_seg dksX8_beginDay_1 24 rfl rfl
theorem dksX8_beginDay_3 : cX8_beginDay.data.toList.drop 71 = dktX8_beginDay_3 := dk_seg dksX8_beginDay_2 24 rfl rfl
theorem dksX8_beginDay_4 : cX8_beginDay.data.toList.drop 95 = dktX8_beginDay_4 := dk_seg dksX8_beginDay_3 24 rfl rfl
theorem dksX8_beginDay_5 : cX8_beginDay.data.toList.drop 119 = dktX8_beginDay_5 := dk_seg dksX8_beginDay_4 24 rfl rfl
theorem dksX8_beginDay_6 : cX8_beginDay.data.toList.drop 143 = dktX8_beginDay_6 := dk_seg dksX8_beginDay_5 24 rfl rfl
theorem dksX8_beginDay_7 : cX8_beginDay.data.toList.drop 165 = dktX8_beginDay_7 := dk_seg dksX8_beginDay_6 22 rfl rfl
theorem dX8_beginDay_0 : decode cX8_beginDay 0 = .ok (.iconst 0, 1) := dk_3 (dk_at dksX8_beginDay_0 0 rfl rfl)
theorem dX8_beginDay_1 : decode cX8_beginDay 1 = .ok (.istore_n 1, 1) := dk_60 (dk_at dksX8_beginDay_0 1 rfl rfl)
theorem dX8_beginDay_2 : decode cX8_beginDay 2 = .ok (.iload_n 1, 1) := dk_27 (dk_at dksX8_beginDay_0 2 rfl rfl)
theorem dX8_beginDay_3 : decode cX8_beginDay 3 = .ok (.bipush 20, 2) := dk_16 20 (dk_at dksX8_beginDay_0 3 rfl rfl)
theorem dX8_beginDay_5 : decode cX8_beginDay 5 = .ok (.if_icmp .ge 86, 3) := dk_162 0 86 (dk_at dksX8_beginDay_0 5 rfl rfl)
theorem dX8_beginDay_8 : decode cX8_beginDay 8 = .ok (.aload_n 0, 1) := dk_42 (dk_at dksX8_beginDay_0 8 rfl rfl)
theorem dX8_beginDay_9 : decode cX8_beginDay 9 = .ok (.getfield 55, 3) := dk_180 0 55 (dk_at dksX8_beginDay_0 9 rfl rfl)
theorem dX8_beginDay_12 : decode cX8_beginDay 12 = .ok (.iload_n 1, 1) := dk_27 (dk_at dksX8_beginDay_0 12 rfl rfl)
theorem dX8_beginDay_13 : decode cX8_beginDay 13 = .ok (.iconst 0, 1) := dk_3 (dk_at dksX8_beginDay_0 13 rfl rfl)
theorem dX8_beginDay_14 : decode cX8_beginDay 14 = .ok (.iastore, 1) := dk_79 (dk_at dksX8_beginDay_0 14 rfl rfl)
theorem dX8_beginDay_15 : decode cX8_beginDay 15 = .ok (.aload_n 0, 1) := dk_42 (dk_at dksX8_beginDay_0 15 rfl rfl)
theorem dX8_beginDay_16 : decode cX8_beginDay 16 = .ok (.getfield 58, 3) := dk_180 0 58 (dk_at dksX8_beginDay_0 16 rfl rfl)
theorem dX8_beginDay_19 : decode cX8_beginDay 19 = .ok (.iload_n 1, 1) := dk_27 (dk_at dksX8_beginDay_0 19 rfl rfl)
theorem dX8_beginDay_20 : decode cX8_beginDay 20 = .ok (.iconst 0, 1) := dk_3 (dk_at dksX8_beginDay_0 20 rfl rfl)
theorem dX8_beginDay_21 : decode cX8_beginDay 21 = .ok (.iastore, 1) := dk_79 (dk_at dksX8_beginDay_0 21 rfl rfl)
theorem dX8_beginDay_22 : decode cX8_beginDay 22 = .ok (.aload_n 0, 1) := dk_42 (dk_at dksX8_beginDay_0 22 rfl rfl)
theorem dX8_beginDay_23 : decode cX8_beginDay 23 = .ok (.getfield 61, 3) := dk_180 0 61 (dk_at dksX8_beginDay_1 0 rfl rfl)
theorem dX8_beginDay_26 : decode cX8_beginDay 26 = .ok (.iload_n 1, 1) := dk_27 (dk_at dksX8_beginDay_1 3 rfl rfl)
theorem dX8_beginDay_27 : decode cX8_beginDay 27 = .ok (.iconst (-1), 1) := dk_2 (dk_at dksX8_beginDay_1 4 rfl rfl)
theorem dX8_beginDay_28 : decode cX8_beginDay 28 = .ok (.iastore, 1) := dk_79 (dk_at dksX8_beginDay_1 5 rfl rfl)
theorem dX8_beginDay_29 : decode cX8_beginDay 29 = .ok (.aload_n 0, 1) := dk_42 (dk_at dksX8_beginDay_1 6 rfl rfl)
theorem dX8_beginDay_30 : decode cX8_beginDay 30 = .ok (.getfield 64, 3) := dk_180 0 64 (dk_at dksX8_beginDay_1 7 rfl rfl)
theorem dX8_beginDay_33 : decode cX8_beginDay 33 = .ok (.iload_n 1, 1) := dk_27 (dk_at dksX8_beginDay_1 10 rfl rfl)
theorem dX8_beginDay_34 : decode cX8_beginDay 34 = .ok (.iconst (-1), 1) := dk_2 (dk_at dksX8_beginDay_1 11 rfl rfl)
theorem dX8_beginDay_35 : decode cX8_beginDay 35 = .ok (.iastore, 1) := dk_79 (dk_at dksX8_beginDay_1 12 rfl rfl)
theorem dX8_beginDay_36 : decode cX8_beginDay 36 = .ok (.aload_n 0, 1) := dk_42 (dk_at dksX8_beginDay_1 13 rfl rfl)
theorem dX8_beginDay_37 : decode cX8_beginDay 37 = .ok (.getfield 67, 3) := dk_180 0 67 (dk_at dksX8_beginDay_1 14 rfl rfl)
theorem dX8_beginDay_40 : decode cX8_beginDay 40 = .ok (.iload_n 1, 1) := dk_27 (dk_at dksX8_beginDay_1 17 rfl rfl)
theorem dX8_beginDay_41 : decode cX8_beginDay 41 = .ok (.iconst (-1), 1) := dk_2 (dk_at dksX8_beginDay_1 18 rfl rfl)
theorem dX8_beginDay_42 : decode cX8_beginDay 42 = .ok (.iastore, 1) := dk_79 (dk_at dksX8_beginDay_1 19 rfl rfl)
theorem dX8_beginDay_43 : decode cX8_beginDay 43 = .ok (.aload_n 0, 1) := dk_42 (dk_at dksX8_beginDay_1 20 rfl rfl)
theorem dX8_beginDay_44 : decode cX8_beginDay 44 = .ok (.getfield 70, 3) := dk_180 0 70 (dk_at dksX8_beginDay_1 21 rfl rfl)
theorem dX8_beginDay_47 : decode cX8_beginDay 47 = .ok (.iload_n 1, 1) := dk_27 (dk_at dksX8_beginDay_2 0 rfl rfl)
theorem dX8_beginDay_48 : decode cX8_beginDay 48 = .ok (.iconst (-1), 1) := dk_2 (dk_at dksX8_beginDay_2 1 rfl rfl)
theorem dX8_beginDay_49 : decode cX8_beginDay 49 = .ok (.iastore, 1) := dk_79 (dk_at dksX8_beginDay_2 2 rfl rfl)
theorem dX8_beginDay_50 : decode cX8_beginDay 50 = .ok (.aload_n 0, 1) := dk_42 (dk_at dksX8_beginDay_2 3 rfl rfl)
theorem dX8_beginDay_51 : decode cX8_beginDay 51 = .ok (.getfield 73, 3) := dk_180 0 73 (dk_at dksX8_beginDay_2 4 rfl rfl)
theorem dX8_beginDay_54 : decode cX8_beginDay 54 = .ok (.iload_n 1, 1) := dk_27 (dk_at dksX8_beginDay_2 7 rfl rfl)
theorem dX8_beginDay_55 : decode cX8_beginDay 55 = .ok (.iconst (-1), 1) := dk_2 (dk_at dksX8_beginDay_2 8 rfl rfl)
theorem dX8_beginDay_56 : decode cX8_beginDay 56 = .ok (.iastore, 1) := dk_79 (dk_at dksX8_beginDay_2 9 rfl rfl)
theorem dX8_beginDay_57 : decode cX8_beginDay 57 = .ok (.aload_n 0, 1) := dk_42 (dk_at dksX8_beginDay_2 10 rfl rfl)
theorem dX8_beginDay_58 : decode cX8_beginDay 58 = .ok (.getfield 76, 3) := dk_180 0 76 (dk_at dksX8_beginDay_2 11 rfl rfl)
theorem dX8_beginDay_61 : decode cX8_beginDay 61 = .ok (.iload_n 1, 1) := dk_27 (dk_at dksX8_beginDay_2 14 rfl rfl)
theorem dX8_beginDay_62 : decode cX8_beginDay 62 = .ok (.iconst (-1), 1) := dk_2 (dk_at dksX8_beginDay_2 15 rfl rfl)
theorem dX8_beginDay_63 : decode cX8_beginDay 63 = .ok (.iastore, 1) := dk_79 (dk_at dksX8_beginDay_2 16 rfl rfl)
theorem dX8_beginDay_64 : decode cX8_beginDay 64 = .ok (.aload_n 0, 1) := dk_42 (dk_at dksX8_beginDay_2 17 rfl rfl)
theorem dX8_beginDay_65 : decode cX8_beginDay 65 = .ok (.getfield 79, 3) := dk_180 0 79 (dk_at dksX8_beginDay_2 18 rfl rfl)
theorem dX8_beginDay_68 : decode cX8_beginDay 68 = .ok (.iload_n 1, 1) := dk_27 (dk_at dksX8_beginDay_2 21 rfl rfl)
theorem dX8_beginDay_69 : decode cX8_beginDay 69 = .ok (.iconst (-1), 1) := dk_2 (dk_at dksX8_beginDay_2 22 rfl rfl)
theorem dX8_beginDay_70 : decode cX8_beginDay 70 = .ok (.iastore, 1) := dk_79 (dk_at dksX8_beginDay_2 23 rfl rfl)
theorem dX8_beginDay_71 : decode cX8_beginDay 71 = .ok (.aload_n 0, 1) := dk_42 (dk_at dksX8_beginDay_3 0 rfl rfl)
theorem dX8_beginDay_72 : decode cX8_beginDay 72 = .ok (.getfield 82, 3) := dk_180 0 82 (dk_at dksX8_beginDay_3 1 rfl rfl)
theorem dX8_beginDay_75 : decode cX8_beginDay 75 = .ok (.iload_n 1, 1) := dk_27 (dk_at dksX8_beginDay_3 4 rfl rfl)
theorem dX8_beginDay_76 : decode cX8_beginDay 76 = .ok (.iconst 0, 1) := dk_3 (dk_at dksX8_beginDay_3 5 rfl rfl)
theorem dX8_beginDay_77 : decode cX8_beginDay 77 = .ok (.iastore, 1) := dk_79 (dk_at dksX8_beginDay_3 6 rfl rfl)
theorem dX8_beginDay_78 : decode cX8_beginDay 78 = .ok (.aload_n 0, 1) := dk_42 (dk_at dksX8_beginDay_3 7 rfl rfl)
theorem dX8_beginDay_79 : decode cX8_beginDay 79 = .ok (.getfield 85, 3) := dk_180 0 85 (dk_at dksX8_beginDay_3 8 rfl rfl)
theorem dX8_beginDay_82 : decode cX8_beginDay 82 = .ok (.iload_n 1, 1) := dk_27 (dk_at dksX8_beginDay_3 11 rfl rfl)
theorem dX8_beginDay_83 : decode cX8_beginDay 83 = .ok (.iconst (-1), 1) := dk_2 (dk_at dksX8_beginDay_3 12 rfl rfl)
theorem dX8_beginDay_84 : decode cX8_beginDay 84 = .ok (.iastore, 1) := dk_79 (dk_at dksX8_beginDay_3 13 rfl rfl)
theorem dX8_beginDay_85 : decode cX8_beginDay 85 = .ok (.iinc 1 1, 3) := dk_132 1 1 (dk_at dksX8_beginDay_3 14 rfl rfl)
theorem dX8_beginDay_88 : decode cX8_beginDay 88 = .ok (.goto (-86), 3) := dk_167 255 170 (dk_at dksX8_beginDay_3 17 rfl rfl)
theorem dX8_beginDay_91 : decode cX8_beginDay 91 = .ok (.iconst 0, 1) := dk_3 (dk_at dksX8_beginDay_3 20 rfl rfl)
theorem dX8_beginDay_92 : decode cX8_beginDay 92 = .ok (.istore_n 1, 1) := dk_60 (dk_at dksX8_beginDay_3 21 rfl rfl)
theorem dX8_beginDay_93 : decode cX8_beginDay 93 = .ok (.iload_n 1, 1) := dk_27 (dk_at dksX8_beginDay_3 22 rfl rfl)
theorem dX8_beginDay_94 : decode cX8_beginDay 94 = .ok (.iconst 3, 1) := dk_6 (dk_at dksX8_beginDay_3 23 rfl rfl)
theorem dX8_beginDay_95 : decode cX8_beginDay 95 = .ok (.if_icmp .ge 30, 3) := dk_162 0 30 (dk_at dksX8_beginDay_4 0 rfl rfl)
theorem dX8_beginDay_98 : decode cX8_beginDay 98 = .ok (.aload_n 0, 1) := dk_42 (dk_at dksX8_beginDay_4 3 rfl rfl)
theorem dX8_beginDay_99 : decode cX8_beginDay 99 = .ok (.getfield 88, 3) := dk_180 0 88 (dk_at dksX8_beginDay_4 4 rfl rfl)
theorem dX8_beginDay_102 : decode cX8_beginDay 102 = .ok (.iload_n 1, 1) := dk_27 (dk_at dksX8_beginDay_4 7 rfl rfl)
theorem dX8_beginDay_103 : decode cX8_beginDay 103 = .ok (.iconst (-1), 1) := dk_2 (dk_at dksX8_beginDay_4 8 rfl rfl)
theorem dX8_beginDay_104 : decode cX8_beginDay 104 = .ok (.iastore, 1) := dk_79 (dk_at dksX8_beginDay_4 9 rfl rfl)
theorem dX8_beginDay_105 : decode cX8_beginDay 105 = .ok (.aload_n 0, 1) := dk_42 (dk_at dksX8_beginDay_4 10 rfl rfl)
theorem dX8_beginDay_106 : decode cX8_beginDay 106 = .ok (.getfield 94, 3) := dk_180 0 94 (dk_at dksX8_beginDay_4 11 rfl rfl)
theorem dX8_beginDay_109 : decode cX8_beginDay 109 = .ok (.iload_n 1, 1) := dk_27 (dk_at dksX8_beginDay_4 14 rfl rfl)
theorem dX8_beginDay_110 : decode cX8_beginDay 110 = .ok (.iconst (-1), 1) := dk_2 (dk_at dksX8_beginDay_4 15 rfl rfl)
theorem dX8_beginDay_111 : decode cX8_beginDay 111 = .ok (.iastore, 1) := dk_79 (dk_at dksX8_beginDay_4 16 rfl rfl)
theorem dX8_beginDay_112 : decode cX8_beginDay 112 = .ok (.aload_n 0, 1) := dk_42 (dk_at dksX8_beginDay_4 17 rfl rfl)
theorem dX8_beginDay_113 : decode cX8_beginDay 113 = .ok (.getfield 97, 3) := dk_180 0 97 (dk_at dksX8_beginDay_4 18 rfl rfl)
theorem dX8_beginDay_116 : decode cX8_beginDay 116 = .ok (.iload_n 1, 1) := dk_27 (dk_at dksX8_beginDay_4 21 rfl rfl)
theorem dX8_beginDay_117 : decode cX8_beginDay 117 = .ok (.iconst 0, 1) := dk_3 (dk_at dksX8_beginDay_4 22 rfl rfl)
theorem dX8_beginDay_118 : decode cX8_beginDay 118 = .ok (.iastore, 1) := dk_79 (dk_at dksX8_beginDay_4 23 rfl rfl)
theorem dX8_beginDay_119 : decode cX8_beginDay 119 = .ok (.iinc 1 1, 3) := dk_132 1 1 (dk_at dksX8_beginDay_5 0 rfl rfl)
theorem dX8_beginDay_122 : decode cX8_beginDay 122 = .ok (.goto (-29), 3) := dk_167 255 227 (dk_at dksX8_beginDay_5 3 rfl rfl)
theorem dX8_beginDay_125 : decode cX8_beginDay 125 = .ok (.iconst 0, 1) := dk_3 (dk_at dksX8_beginDay_5 6 rfl rfl)
theorem dX8_beginDay_126 : decode cX8_beginDay 126 = .ok (.istore_n 1, 1) := dk_60 (dk_at dksX8_beginDay_5 7 rfl rfl)
theorem dX8_beginDay_127 : decode cX8_beginDay 127 = .ok (.iload_n 1, 1) := dk_27 (dk_at dksX8_beginDay_5 8 rfl rfl)
theorem dX8_beginDay_128 : decode cX8_beginDay 128 = .ok (.iconst 4, 1) := dk_7 (dk_at dksX8_beginDay_5 9 rfl rfl)
theorem dX8_beginDay_129 : decode cX8_beginDay 129 = .ok (.if_icmp .ge 39, 3) := dk_162 0 39 (dk_at dksX8_beginDay_5 10 rfl rfl)
theorem dX8_beginDay_132 : decode cX8_beginDay 132 = .ok (.aload_n 0, 1) := dk_42 (dk_at dksX8_beginDay_5 13 rfl rfl)
theorem dX8_beginDay_133 : decode cX8_beginDay 133 = .ok (.getfield 100, 3) := dk_180 0 100 (dk_at dksX8_beginDay_5 14 rfl rfl)
theorem dX8_beginDay_136 : decode cX8_beginDay 136 = .ok (.iload_n 1, 1) := dk_27 (dk_at dksX8_beginDay_5 17 rfl rfl)
theorem dX8_beginDay_137 : decode cX8_beginDay 137 = .ok (.iconst (-1), 1) := dk_2 (dk_at dksX8_beginDay_5 18 rfl rfl)
theorem dX8_beginDay_138 : decode cX8_beginDay 138 = .ok (.iastore, 1) := dk_79 (dk_at dksX8_beginDay_5 19 rfl rfl)
theorem dX8_beginDay_139 : decode cX8_beginDay 139 = .ok (.aload_n 0, 1) := dk_42 (dk_at dksX8_beginDay_5 20 rfl rfl)
theorem dX8_beginDay_140 : decode cX8_beginDay 140 = .ok (.getfield 103, 3) := dk_180 0 103 (dk_at dksX8_beginDay_5 21 rfl rfl)
theorem dX8_beginDay_143 : decode cX8_beginDay 143 = .ok (.iload_n 1, 1) := dk_27 (dk_at dksX8_beginDay_6 0 rfl rfl)
theorem dX8_beginDay_144 : decode cX8_beginDay 144 = .ok (.iconst (-1), 1) := dk_2 (dk_at dksX8_beginDay_6 1 rfl rfl)
theorem dX8_beginDay_145 : decode cX8_beginDay 145 = .ok (.iastore, 1) := dk_79 (dk_at dksX8_beginDay_6 2 rfl rfl)
theorem dX8_beginDay_146 : decode cX8_beginDay 146 = .ok (.aload_n 0, 1) := dk_42 (dk_at dksX8_beginDay_6 3 rfl rfl)
theorem dX8_beginDay_147 : decode cX8_beginDay 147 = .ok (.getfield 109, 3) := dk_180 0 109 (dk_at dksX8_beginDay_6 4 rfl rfl)
theorem dX8_beginDay_150 : decode cX8_beginDay 150 = .ok (.iload_n 1, 1) := dk_27 (dk_at dksX8_beginDay_6 7 rfl rfl)
theorem dX8_beginDay_151 : decode cX8_beginDay 151 = .ok (.sipush 200, 3) := dk_17 0 200 (dk_at dksX8_beginDay_6 8 rfl rfl)
theorem dX8_beginDay_154 : decode cX8_beginDay 154 = .ok (.iastore, 1) := dk_79 (dk_at dksX8_beginDay_6 11 rfl rfl)
theorem dX8_beginDay_155 : decode cX8_beginDay 155 = .ok (.aload_n 0, 1) := dk_42 (dk_at dksX8_beginDay_6 12 rfl rfl)
theorem dX8_beginDay_156 : decode cX8_beginDay 156 = .ok (.getfield 112, 3) := dk_180 0 112 (dk_at dksX8_beginDay_6 13 rfl rfl)
theorem dX8_beginDay_159 : decode cX8_beginDay 159 = .ok (.iload_n 1, 1) := dk_27 (dk_at dksX8_beginDay_6 16 rfl rfl)
theorem dX8_beginDay_160 : decode cX8_beginDay 160 = .ok (.iconst 0, 1) := dk_3 (dk_at dksX8_beginDay_6 17 rfl rfl)
theorem dX8_beginDay_161 : decode cX8_beginDay 161 = .ok (.iastore, 1) := dk_79 (dk_at dksX8_beginDay_6 18 rfl rfl)
theorem dX8_beginDay_162 : decode cX8_beginDay 162 = .ok (.iinc 1 1, 3) := dk_132 1 1 (dk_at dksX8_beginDay_6 19 rfl rfl)
theorem dX8_beginDay_165 : decode cX8_beginDay 165 = .ok (.goto (-38), 3) := dk_167 255 218 (dk_at dksX8_beginDay_7 0 rfl rfl)
theorem dX8_beginDay_168 : decode cX8_beginDay 168 = .ok (.aload_n 0, 1) := dk_42 (dk_at dksX8_beginDay_7 3 rfl rfl)
theorem dX8_beginDay_169 : decode cX8_beginDay 169 = .ok (.iconst 0, 1) := dk_3 (dk_at dksX8_beginDay_7 4 rfl rfl)
theorem dX8_beginDay_170 : decode cX8_beginDay 170 = .ok (.putfield 318, 3) := dk_181 1 62 (dk_at dksX8_beginDay_7 5 rfl rfl)
theorem dX8_beginDay_173 : decode cX8_beginDay 173 = .ok (.aload_n 0, 1) := dk_42 (dk_at dksX8_beginDay_7 8 rfl rfl)
theorem dX8_beginDay_174 : decode cX8_beginDay 174 = .ok (.iconst 0, 1) := dk_3 (dk_at dksX8_beginDay_7 9 rfl rfl)
theorem dX8_beginDay_175 : decode cX8_beginDay 175 = .ok (.putfield 321, 3) := dk_181 1 65 (dk_at dksX8_beginDay_7 10 rfl rfl)
theorem dX8_beginDay_178 : decode cX8_beginDay 178 = .ok (.return_, 1) := dk_177 (dk_at dksX8_beginDay_7 13 rfl rfl)
abbrev cX8_notesBegin : ByteArray := prog_13_method_83_code
def yX8_notesBegin : MethodName := ⟨RX8, "notesBegin", "(I)V"⟩
def dkwX8_notesBegin_1 : List UInt8 := [79, 132, 2, 1, 167, 255, 230, 177]
abbrev dktX8_notesBegin_1 : List UInt8 := dkwX8_notesBegin_1 ++ []
def dkwX8_notesBegin_0 : List UInt8 := [3, 61, 28, 7, 162, 0, 27, 42, 180, 0, 115, 17, 5, 160, 28, 104, 27, 96, 42, 180, 0, 109, 28, 46]
abbrev dktX8_notesBegin_0 : List UInt8 := dkwX8_notesBegin_0 ++ dktX8_notesBegin_1
theorem dksX8_notesBegin_0 : cX8_notesBegin.data.toList.drop 0 = dktX8_notesBegin_0 := by decide +kernel
theorem dksX8_notesBegin_1 : cX8_notesBegin.data.toList.drop 24 = dktX8_notesBegin_1 := dk_seg dksX8_notesBegin_0 24 rfl rfl
theorem dX8_notesBegin_0 : decode cX8_notesBegin 0 = .ok (.iconst 0, 1) := dk_3 (dk_at dksX8_notesBegin_0 0 rfl rfl)
theorem dX8_notesBegin_1 : decode cX8_notesBegin 1 = .ok (.istore_n 2, 1) := dk_61 (dk_at dksX8_notesBegin_0 1 rfl rfl)
theorem dX8_notesBegin_2 : decode cX8_notesBegin 2 = .ok (.iload_n 2, 1) := dk_28 (dk_at dksX8_notesBegin_0 2 rfl rfl)
theorem dX8_notesBegin_3 : decode cX8_notesBegin 3 = .ok (.iconst 4, 1) := dk_7 (dk_at dksX8_notesBegin_0 3 rfl rfl)
theorem dX8_notesBegin_4 : decode cX8_notesBegin 4 = .ok (.if_icmp .ge 27, 3) := dk_162 0 27 (dk_at dksX8_notesBegin_0 4 rfl rfl)
theorem dX8_notesBegin_7 : decode cX8_notesBegin 7 = .ok (.aload_n 0, 1) := dk_42 (dk_at dksX8_notesBegin_0 7 rfl rfl)
theorem dX8_notesBegin_8 : decode cX8_notesBegin 8 = .ok (.getfield 115, 3) := dk_180 0 115 (dk_at dksX8_notesBegin_0 8 rfl rfl)
theorem dX8_notesBegin_11 : decode cX8_notesBegin 11 = .ok (.sipush 1440, 3) := dk_17 5 160 (dk_at dksX8_notesBegin_0 11 rfl rfl)
theorem dX8_notesBegin_14 : decode cX8_notesBegin 14 = .ok (.iload_n 2, 1) := dk_28 (dk_at dksX8_notesBegin_0 14 rfl rfl)
theorem dX8_notesBegin_15 : decode cX8_notesBegin 15 = .ok (.imul, 1) := dk_104 (dk_at dksX8_notesBegin_0 15 rfl rfl)
theorem dX8_notesBegin_16 : decode cX8_notesBegin 16 = .ok (.iload_n 1, 1) := dk_27 (dk_at dksX8_notesBegin_0 16 rfl rfl)
theorem dX8_notesBegin_17 : decode cX8_notesBegin 17 = .ok (.iadd, 1) := dk_96 (dk_at dksX8_notesBegin_0 17 rfl rfl)
theorem dX8_notesBegin_18 : decode cX8_notesBegin 18 = .ok (.aload_n 0, 1) := dk_42 (dk_at dksX8_notesBegin_0 18 rfl rfl)
theorem dX8_notesBegin_19 : decode cX8_notesBegin 19 = .ok (.getfield 109, 3) := dk_180 0 109 (dk_at dksX8_notesBegin_0 19 rfl rfl)
theorem dX8_notesBegin_22 : decode cX8_notesBegin 22 = .ok (.iload_n 2, 1) := dk_28 (dk_at dksX8_notesBegin_0 22 rfl rfl)
theorem dX8_notesBegin_23 : decode cX8_notesBegin 23 = .ok (.iaload, 1) := dk_46 (dk_at dksX8_notesBegin_0 23 rfl rfl)
theorem dX8_notesBegin_24 : decode cX8_notesBegin 24 = .ok (.iastore, 1) := dk_79 (dk_at dksX8_notesBegin_1 0 rfl rfl)
theorem dX8_notesBegin_25 : decode cX8_notesBegin 25 = .ok (.iinc 2 1, 3) := dk_132 2 1 (dk_at dksX8_notesBegin_1 1 rfl rfl)
theorem dX8_notesBegin_28 : decode cX8_notesBegin 28 = .ok (.goto (-26), 3) := dk_167 255 230 (dk_at dksX8_notesBegin_1 4 rfl rfl)
theorem dX8_notesBegin_31 : decode cX8_notesBegin 31 = .ok (.return_, 1) := dk_177 (dk_at dksX8_notesBegin_1 7 rfl rfl)
abbrev cX8_playsMinute : ByteArray := prog_13_method_85_code
def yX8_playsMinute : MethodName := ⟨RX8, "playsMinute", "(I)V"⟩
def dkwX8_playsMinute_1 : List UInt8 := [27, 182, 1, 125, 42, 182, 1, 128, 42, 182, 1, 131, 177]
abbrev dktX8_playsMinute_1 : List UInt8 := dkwX8_playsMinute_1 ++ []
def dkwX8_playsMinute_0 : List UInt8 := [42, 27, 182, 1, 110, 42, 27, 182, 1, 113, 42, 182, 1, 116, 42, 27, 182, 1, 119, 42, 182, 1, 122, 42]
abbrev dktX8_playsMinute_0 : List UInt8 := dkwX8_playsMinute_0 ++ dktX8_playsMinute_1
theorem dksX8_playsMinute_0 : cX8_playsMinute.data.toList.drop 0 = dktX8_playsMinute_0 := by decide +kernel
theorem dksX8_playsMinute_1 : cX8_playsMinute.data.toList.drop 24 = dktX8_playsMinute_1 := dk_seg dksX8_playsMinute_0 24 rfl rfl
theorem dX8_playsMinute_0 : decode cX8_playsMinute 0 = .ok (.aload_n 0, 1) := dk_42 (dk_at dksX8_playsMinute_0 0 rfl rfl)
theorem dX8_playsMinute_1 : decode cX8_playsMinute 1 = .ok (.iload_n 1, 1) := dk_27 (dk_at dksX8_playsMinute_0 1 rfl rfl)
theorem dX8_playsMinute_2 : decode cX8_playsMinute 2 = .ok (.invokevirtual 366, 3) := dk_182 1 110 (dk_at dksX8_playsMinute_0 2 rfl rfl)
theorem dX8_playsMinute_5 : decode cX8_playsMinute 5 = .ok (.aload_n 0, 1) := dk_42 (dk_at dksX8_playsMinute_0 5 rfl rfl)
theorem dX8_playsMinute_6 : decode cX8_playsMinute 6 = .ok (.iload_n 1, 1) := dk_27 (dk_at dksX8_playsMinute_0 6 rfl rfl)
theorem dX8_playsMinute_7 : decode cX8_playsMinute 7 = .ok (.invokevirtual 369, 3) := dk_182 1 113 (dk_at dksX8_playsMinute_0 7 rfl rfl)
theorem dX8_playsMinute_10 : decode cX8_playsMinute 10 = .ok (.aload_n 0, 1) := dk_42 (dk_at dksX8_playsMinute_0 10 rfl rfl)
theorem dX8_playsMinute_11 : decode cX8_playsMinute 11 = .ok (.invokevirtual 372, 3) := dk_182 1 116 (dk_at dksX8_playsMinute_0 11 rfl rfl)
theorem dX8_playsMinute_14 : decode cX8_playsMinute 14 = .ok (.aload_n 0, 1) := dk_42 (dk_at dksX8_playsMinute_0 14 rfl rfl)
theorem dX8_playsMinute_15 : decode cX8_playsMinute 15 = .ok (.iload_n 1, 1) := dk_27 (dk_at dksX8_playsMinute_0 15 rfl rfl)
theorem dX8_playsMinute_16 : decode cX8_playsMinute 16 = .ok (.invokevirtual 375, 3) := dk_182 1 119 (dk_at dksX8_playsMinute_0 16 rfl rfl)
theorem dX8_playsMinute_19 : decode cX8_playsMinute 19 = .ok (.aload_n 0, 1) := dk_42 (dk_at dksX8_playsMinute_0 19 rfl rfl)
theorem dX8_playsMinute_20 : decode cX8_playsMinute 20 = .ok (.invokevirtual 378, 3) := dk_182 1 122 (dk_at dksX8_playsMinute_0 20 rfl rfl)
theorem dX8_playsMinute_23 : decode cX8_playsMinute 23 = .ok (.aload_n 0, 1) := dk_42 (dk_at dksX8_playsMinute_0 23 rfl rfl)
theorem dX8_playsMinute_24 : decode cX8_playsMinute 24 = .ok (.iload_n 1, 1) := dk_27 (dk_at dksX8_playsMinute_1 0 rfl rfl)
theorem dX8_playsMinute_25 : decode cX8_playsMinute 25 = .ok (.invokevirtual 381, 3) := dk_182 1 125 (dk_at dksX8_playsMinute_1 1 rfl rfl)
theorem dX8_playsMinute_28 : decode cX8_playsMinute 28 = .ok (.aload_n 0, 1) := dk_42 (dk_at dksX8_playsMinute_1 4 rfl rfl)
theorem dX8_playsMinute_29 : decode cX8_playsMinute 29 = .ok (.invokevirtual 384, 3) := dk_182 1 128 (dk_at dksX8_playsMinute_1 5 rfl rfl)
theorem dX8_playsMinute_32 : decode cX8_playsMinute 32 = .ok (.aload_n 0, 1) := dk_42 (dk_at dksX8_playsMinute_1 8 rfl rfl)
theorem dX8_playsMinute_33 : decode cX8_playsMinute 33 = .ok (.invokevirtual 387, 3) := dk_182 1 131 (dk_at dksX8_playsMinute_1 9 rfl rfl)
theorem dX8_playsMinute_36 : decode cX8_playsMinute 36 = .ok (.return_, 1) := dk_177 (dk_at dksX8_playsMinute_1 12 rfl rfl)
abbrev cX8_finishes : ByteArray := prog_13_method_66_code
def yX8_finishes : MethodName := ⟨RX8, "finishes", "(I)V"⟩
def dkwX8_finishes_6 : List UInt8 := [132, 2, 1, 167, 255, 190, 177]
abbrev dktX8_finishes_6 : List UInt8 := dkwX8_finishes_6 ++ []
def dkwX8_finishes_5 : List UInt8 := [28, 46, 8, 79, 42, 180, 0, 76, 42, 180, 0, 103, 28, 46, 27, 79, 42, 180, 0, 103, 28, 2, 79]
abbrev dktX8_finishes_5 : List UInt8 := dkwX8_finishes_5 ++ dktX8_finishes_6
def dkwX8_finishes_4 : List UInt8 := [159, 0, 47, 42, 180, 0, 106, 28, 46, 27, 159, 0, 6, 167, 0, 34, 42, 180, 0, 55, 42, 180, 0, 103]
abbrev dktX8_finishes_4 : List UInt8 := dkwX8_finishes_4 ++ dktX8_finishes_5
def dkwX8_finishes_3 : List UInt8 := [132, 2, 1, 167, 255, 186, 3, 61, 28, 42, 4, 182, 0, 143, 162, 0, 63, 42, 180, 0, 103, 28, 46, 2]
abbrev dktX8_finishes_3 : List UInt8 := dkwX8_finishes_3 ++ dktX8_finishes_4
def dkwX8_finishes_2 : List UInt8 := [2, 79, 42, 180, 0, 55, 29, 5, 79, 42, 180, 0, 58, 29, 3, 79, 42, 180, 0, 67, 29, 27, 79]
abbrev dktX8_finishes_2 : List UInt8 := dkwX8_finishes_2 ++ dktX8_finishes_3
def dkwX8_finishes_1 : List UInt8 := [180, 0, 91, 28, 46, 27, 159, 0, 6, 167, 0, 38, 42, 180, 0, 88, 28, 46, 62, 42, 180, 0, 88, 28]
abbrev dktX8_finishes_1 : List UInt8 := dkwX8_finishes_1 ++ dktX8_finishes_2
def dkwX8_finishes_0 : List UInt8 := [3, 61, 28, 42, 3, 182, 0, 143, 162, 0, 67, 42, 180, 0, 88, 28, 46, 2, 159, 0, 51, 42]
abbrev dktX8_finishes_0 : List UInt8 := dkwX8_finishes_0 ++ dktX8_finishes_1
theorem dksX8_finishes_0 : cX8_finishes.data.toList.drop 0 = dktX8_finishes_0 := by decide +kernel
theorem dksX8_finishes_1 : cX8_finishes.data.toList.drop 22 = dktX8_finishes_1 := dk_seg dksX8_finishes_0 22 rfl rfl
theorem dksX8_finishes_2 : cX8_finishes.data.toList.drop 46 = dktX8_finishes_2 := dk_seg dksX8_finishes_1 24 rfl rfl
theorem dksX8_finishes_3 : cX8_finishes.data.toList.drop 69 = dktX8_finishes_3 := dk_seg dksX8_finishes_2 23 rfl rfl
theorem dksX8_finishes_4 : cX8_finishes.data.toList.drop 93 = dktX8_finishes_4 := dk_seg dksX8_finishes_3 24 rfl rfl
theorem dksX8_finishes_5 : cX8_finishes.data.toList.drop 117 = dktX8_finishes_5 := dk_seg dksX8_finishes_4 24 rfl rfl
theorem dksX8_finishes_6 : cX8_finishes.data.toList.drop 140 = dktX8_finishes_6 := dk_seg dksX8_finishes_5 23 rfl rfl
theorem dX8_finishes_0 : decode cX8_finishes 0 = .ok (.iconst 0, 1) := dk_3 (dk_at dksX8_finishes_0 0 rfl rfl)
theorem dX8_finishes_1 : decode cX8_finishes 1 = .ok (.istore_n 2, 1) := dk_61 (dk_at dksX8_finishes_0 1 rfl rfl)
theorem dX8_finishes_2 : decode cX8_finishes 2 = .ok (.iload_n 2, 1) := dk_28 (dk_at dksX8_finishes_0 2 rfl rfl)
theorem dX8_finishes_3 : decode cX8_finishes 3 = .ok (.aload_n 0, 1) := dk_42 (dk_at dksX8_finishes_0 3 rfl rfl)
theorem dX8_finishes_4 : decode cX8_finishes 4 = .ok (.iconst 0, 1) := dk_3 (dk_at dksX8_finishes_0 4 rfl rfl)
theorem dX8_finishes_5 : decode cX8_finishes 5 = .ok (.invokevirtual 143, 3) := dk_182 0 143 (dk_at dksX8_finishes_0 5 rfl rfl)
theorem dX8_finishes_8 : decode cX8_finishes 8 = .ok (.if_icmp .ge 67, 3) := dk_162 0 67 (dk_at dksX8_finishes_0 8 rfl rfl)
theorem dX8_finishes_11 : decode cX8_finishes 11 = .ok (.aload_n 0, 1) := dk_42 (dk_at dksX8_finishes_0 11 rfl rfl)
theorem dX8_finishes_12 : decode cX8_finishes 12 = .ok (.getfield 88, 3) := dk_180 0 88 (dk_at dksX8_finishes_0 12 rfl rfl)
theorem dX8_finishes_15 : decode cX8_finishes 15 = .ok (.iload_n 2, 1) := dk_28 (dk_at dksX8_finishes_0 15 rfl rfl)
theorem dX8_finishes_16 : decode cX8_finishes 16 = .ok (.iaload, 1) := dk_46 (dk_at dksX8_finishes_0 16 rfl rfl)
theorem dX8_finishes_17 : decode cX8_finishes 17 = .ok (.iconst (-1), 1) := dk_2 (dk_at dksX8_finishes_0 17 rfl rfl)
theorem dX8_finishes_18 : decode cX8_finishes 18 = .ok (.if_icmp .eq 51, 3) := dk_159 0 51 (dk_at dksX8_finishes_0 18 rfl rfl)
theorem dX8_finishes_21 : decode cX8_finishes 21 = .ok (.aload_n 0, 1) := dk_42 (dk_at dksX8_finishes_0 21 rfl rfl)
theorem dX8_finishes_22 : decode cX8_finishes 22 = .ok (.getfield 91, 3) := dk_180 0 91 (dk_at dksX8_finishes_1 0 rfl rfl)
theorem dX8_finishes_25 : decode cX8_finishes 25 = .ok (.iload_n 2, 1) := dk_28 (dk_at dksX8_finishes_1 3 rfl rfl)
theorem dX8_finishes_26 : decode cX8_finishes 26 = .ok (.iaload, 1) := dk_46 (dk_at dksX8_finishes_1 4 rfl rfl)
theorem dX8_finishes_27 : decode cX8_finishes 27 = .ok (.iload_n 1, 1) := dk_27 (dk_at dksX8_finishes_1 5 rfl rfl)
theorem dX8_finishes_28 : decode cX8_finishes 28 = .ok (.if_icmp .eq 6, 3) := dk_159 0 6 (dk_at dksX8_finishes_1 6 rfl rfl)
theorem dX8_finishes_31 : decode cX8_finishes 31 = .ok (.goto 38, 3) := dk_167 0 38 (dk_at dksX8_finishes_1 9 rfl rfl)
theorem dX8_finishes_34 : decode cX8_finishes 34 = .ok (.aload_n 0, 1) := dk_42 (dk_at dksX8_finishes_1 12 rfl rfl)
theorem dX8_finishes_35 : decode cX8_finishes 35 = .ok (.getfield 88, 3) := dk_180 0 88 (dk_at dksX8_finishes_1 13 rfl rfl)
theorem dX8_finishes_38 : decode cX8_finishes 38 = .ok (.iload_n 2, 1) := dk_28 (dk_at dksX8_finishes_1 16 rfl rfl)
theorem dX8_finishes_39 : decode cX8_finishes 39 = .ok (.iaload, 1) := dk_46 (dk_at dksX8_finishes_1 17 rfl rfl)
theorem dX8_finishes_40 : decode cX8_finishes 40 = .ok (.istore_n 3, 1) := dk_62 (dk_at dksX8_finishes_1 18 rfl rfl)
theorem dX8_finishes_41 : decode cX8_finishes 41 = .ok (.aload_n 0, 1) := dk_42 (dk_at dksX8_finishes_1 19 rfl rfl)
theorem dX8_finishes_42 : decode cX8_finishes 42 = .ok (.getfield 88, 3) := dk_180 0 88 (dk_at dksX8_finishes_1 20 rfl rfl)
theorem dX8_finishes_45 : decode cX8_finishes 45 = .ok (.iload_n 2, 1) := dk_28 (dk_at dksX8_finishes_1 23 rfl rfl)
theorem dX8_finishes_46 : decode cX8_finishes 46 = .ok (.iconst (-1), 1) := dk_2 (dk_at dksX8_finishes_2 0 rfl rfl)
theorem dX8_finishes_47 : decode cX8_finishes 47 = .ok (.iastore, 1) := dk_79 (dk_at dksX8_finishes_2 1 rfl rfl)
theorem dX8_finishes_48 : decode cX8_finishes 48 = .ok (.aload_n 0, 1) := dk_42 (dk_at dksX8_finishes_2 2 rfl rfl)
theorem dX8_finishes_49 : decode cX8_finishes 49 = .ok (.getfield 55, 3) := dk_180 0 55 (dk_at dksX8_finishes_2 3 rfl rfl)
theorem dX8_finishes_52 : decode cX8_finishes 52 = .ok (.iload_n 3, 1) := dk_29 (dk_at dksX8_finishes_2 6 rfl rfl)
theorem dX8_finishes_53 : decode cX8_finishes 53 = .ok (.iconst 2, 1) := dk_5 (dk_at dksX8_finishes_2 7 rfl rfl)
theorem dX8_finishes_54 : decode cX8_finishes 54 = .ok (.iastore, 1) := dk_79 (dk_at dksX8_finishes_2 8 rfl rfl)
theorem dX8_finishes_55 : decode cX8_finishes 55 = .ok (.aload_n 0, 1) := dk_42 (dk_at dksX8_finishes_2 9 rfl rfl)
theorem dX8_finishes_56 : decode cX8_finishes 56 = .ok (.getfield 58, 3) := dk_180 0 58 (dk_at dksX8_finishes_2 10 rfl rfl)
theorem dX8_finishes_59 : decode cX8_finishes 59 = .ok (.iload_n 3, 1) := dk_29 (dk_at dksX8_finishes_2 13 rfl rfl)
theorem dX8_finishes_60 : decode cX8_finishes 60 = .ok (.iconst 0, 1) := dk_3 (dk_at dksX8_finishes_2 14 rfl rfl)
theorem dX8_finishes_61 : decode cX8_finishes 61 = .ok (.iastore, 1) := dk_79 (dk_at dksX8_finishes_2 15 rfl rfl)
theorem dX8_finishes_62 : decode cX8_finishes 62 = .ok (.aload_n 0, 1) := dk_42 (dk_at dksX8_finishes_2 16 rfl rfl)
theorem dX8_finishes_63 : decode cX8_finishes 63 = .ok (.getfield 67, 3) := dk_180 0 67 (dk_at dksX8_finishes_2 17 rfl rfl)
theorem dX8_finishes_66 : decode cX8_finishes 66 = .ok (.iload_n 3, 1) := dk_29 (dk_at dksX8_finishes_2 20 rfl rfl)
theorem dX8_finishes_67 : decode cX8_finishes 67 = .ok (.iload_n 1, 1) := dk_27 (dk_at dksX8_finishes_2 21 rfl rfl)
theorem dX8_finishes_68 : decode cX8_finishes 68 = .ok (.iastore, 1) := dk_79 (dk_at dksX8_finishes_2 22 rfl rfl)
theorem dX8_finishes_69 : decode cX8_finishes 69 = .ok (.iinc 2 1, 3) := dk_132 2 1 (dk_at dksX8_finishes_3 0 rfl rfl)
theorem dX8_finishes_72 : decode cX8_finishes 72 = .ok (.goto (-70), 3) := dk_167 255 186 (dk_at dksX8_finishes_3 3 rfl rfl)
theorem dX8_finishes_75 : decode cX8_finishes 75 = .ok (.iconst 0, 1) := dk_3 (dk_at dksX8_finishes_3 6 rfl rfl)
theorem dX8_finishes_76 : decode cX8_finishes 76 = .ok (.istore_n 2, 1) := dk_61 (dk_at dksX8_finishes_3 7 rfl rfl)
theorem dX8_finishes_77 : decode cX8_finishes 77 = .ok (.iload_n 2, 1) := dk_28 (dk_at dksX8_finishes_3 8 rfl rfl)
theorem dX8_finishes_78 : decode cX8_finishes 78 = .ok (.aload_n 0, 1) := dk_42 (dk_at dksX8_finishes_3 9 rfl rfl)
theorem dX8_finishes_79 : decode cX8_finishes 79 = .ok (.iconst 1, 1) := dk_4 (dk_at dksX8_finishes_3 10 rfl rfl)
theorem dX8_finishes_80 : decode cX8_finishes 80 = .ok (.invokevirtual 143, 3) := dk_182 0 143 (dk_at dksX8_finishes_3 11 rfl rfl)
theorem dX8_finishes_83 : decode cX8_finishes 83 = .ok (.if_icmp .ge 63, 3) := dk_162 0 63 (dk_at dksX8_finishes_3 14 rfl rfl)
theorem dX8_finishes_86 : decode cX8_finishes 86 = .ok (.aload_n 0, 1) := dk_42 (dk_at dksX8_finishes_3 17 rfl rfl)
theorem dX8_finishes_87 : decode cX8_finishes 87 = .ok (.getfield 103, 3) := dk_180 0 103 (dk_at dksX8_finishes_3 18 rfl rfl)
theorem dX8_finishes_90 : decode cX8_finishes 90 = .ok (.iload_n 2, 1) := dk_28 (dk_at dksX8_finishes_3 21 rfl rfl)
theorem dX8_finishes_91 : decode cX8_finishes 91 = .ok (.iaload, 1) := dk_46 (dk_at dksX8_finishes_3 22 rfl rfl)
theorem dX8_finishes_92 : decode cX8_finishes 92 = .ok (.iconst (-1), 1) := dk_2 (dk_at dksX8_finishes_3 23 rfl rfl)
theorem dX8_finishes_93 : decode cX8_finishes 93 = .ok (.if_icmp .eq 47, 3) := dk_159 0 47 (dk_at dksX8_finishes_4 0 rfl rfl)
theorem dX8_finishes_96 : decode cX8_finishes 96 = .ok (.aload_n 0, 1) := dk_42 (dk_at dksX8_finishes_4 3 rfl rfl)
theorem dX8_finishes_97 : decode cX8_finishes 97 = .ok (.getfield 106, 3) := dk_180 0 106 (dk_at dksX8_finishes_4 4 rfl rfl)
theorem dX8_finishes_100 : decode cX8_finishes 100 = .ok (.iload_n 2, 1) := dk_28 (dk_at dksX8_finishes_4 7 rfl rfl)
theorem dX8_finishes_101 : decode cX8_finishes 101 = .ok (.iaload, 1) := dk_46 (dk_at dksX8_finishes_4 8 rfl rfl)
theorem dX8_finishes_102 : decode cX8_finishes 102 = .ok (.iload_n 1, 1) := dk_27 (dk_at dksX8_finishes_4 9 rfl rfl)
theorem dX8_finishes_103 : decode cX8_finishes 103 = .ok (.if_icmp .eq 6, 3) := dk_159 0 6 (dk_at dksX8_finishes_4 10 rfl rfl)
theorem dX8_finishes_106 : decode cX8_finishes 106 = .ok (.goto 34, 3) := dk_167 0 34 (dk_at dksX8_finishes_4 13 rfl rfl)
theorem dX8_finishes_109 : decode cX8_finishes 109 = .ok (.aload_n 0, 1) := dk_42 (dk_at dksX8_finishes_4 16 rfl rfl)
theorem dX8_finishes_110 : decode cX8_finishes 110 = .ok (.getfield 55, 3) := dk_180 0 55 (dk_at dksX8_finishes_4 17 rfl rfl)
theorem dX8_finishes_113 : decode cX8_finishes 113 = .ok (.aload_n 0, 1) := dk_42 (dk_at dksX8_finishes_4 20 rfl rfl)
theorem dX8_finishes_114 : decode cX8_finishes 114 = .ok (.getfield 103, 3) := dk_180 0 103 (dk_at dksX8_finishes_4 21 rfl rfl)
theorem dX8_finishes_117 : decode cX8_finishes 117 = .ok (.iload_n 2, 1) := dk_28 (dk_at dksX8_finishes_5 0 rfl rfl)
theorem dX8_finishes_118 : decode cX8_finishes 118 = .ok (.iaload, 1) := dk_46 (dk_at dksX8_finishes_5 1 rfl rfl)
theorem dX8_finishes_119 : decode cX8_finishes 119 = .ok (.iconst 5, 1) := dk_8 (dk_at dksX8_finishes_5 2 rfl rfl)
theorem dX8_finishes_120 : decode cX8_finishes 120 = .ok (.iastore, 1) := dk_79 (dk_at dksX8_finishes_5 3 rfl rfl)
theorem dX8_finishes_121 : decode cX8_finishes 121 = .ok (.aload_n 0, 1) := dk_42 (dk_at dksX8_finishes_5 4 rfl rfl)
theorem dX8_finishes_122 : decode cX8_finishes 122 = .ok (.getfield 76, 3) := dk_180 0 76 (dk_at dksX8_finishes_5 5 rfl rfl)
theorem dX8_finishes_125 : decode cX8_finishes 125 = .ok (.aload_n 0, 1) := dk_42 (dk_at dksX8_finishes_5 8 rfl rfl)
theorem dX8_finishes_126 : decode cX8_finishes 126 = .ok (.getfield 103, 3) := dk_180 0 103 (dk_at dksX8_finishes_5 9 rfl rfl)
theorem dX8_finishes_129 : decode cX8_finishes 129 = .ok (.iload_n 2, 1) := dk_28 (dk_at dksX8_finishes_5 12 rfl rfl)
theorem dX8_finishes_130 : decode cX8_finishes 130 = .ok (.iaload, 1) := dk_46 (dk_at dksX8_finishes_5 13 rfl rfl)
theorem dX8_finishes_131 : decode cX8_finishes 131 = .ok (.iload_n 1, 1) := dk_27 (dk_at dksX8_finishes_5 14 rfl rfl)
theorem dX8_finishes_132 : decode cX8_finishes 132 = .ok (.iastore, 1) := dk_79 (dk_at dksX8_finishes_5 15 rfl rfl)
theorem dX8_finishes_133 : decode cX8_finishes 133 = .ok (.aload_n 0, 1) := dk_42 (dk_at dksX8_finishes_5 16 rfl rfl)
theorem dX8_finishes_134 : decode cX8_finishes 134 = .ok (.getfield 103, 3) := dk_180 0 103 (dk_at dksX8_finishes_5 17 rfl rfl)
theorem dX8_finishes_137 : decode cX8_finishes 137 = .ok (.iload_n 2, 1) := dk_28 (dk_at dksX8_finishes_5 20 rfl rfl)
theorem dX8_finishes_138 : decode cX8_finishes 138 = .ok (.iconst (-1), 1) := dk_2 (dk_at dksX8_finishes_5 21 rfl rfl)
theorem dX8_finishes_139 : decode cX8_finishes 139 = .ok (.iastore, 1) := dk_79 (dk_at dksX8_finishes_5 22 rfl rfl)
theorem dX8_finishes_140 : decode cX8_finishes 140 = .ok (.iinc 2 1, 3) := dk_132 2 1 (dk_at dksX8_finishes_6 0 rfl rfl)
theorem dX8_finishes_143 : decode cX8_finishes 143 = .ok (.goto (-66), 3) := dk_167 255 190 (dk_at dksX8_finishes_6 3 rfl rfl)
theorem dX8_finishes_146 : decode cX8_finishes 146 = .ok (.return_, 1) := dk_177 (dk_at dksX8_finishes_6 6 rfl rfl)
abbrev cX8_loses : ByteArray := prog_13_method_68_code
def yX8_loses : MethodName := ⟨RX8, "loses", "(I)V"⟩
def dkwX8_loses_2 : List UInt8 := [27, 79, 42, 28, 182, 1, 74, 132, 2, 1, 167, 255, 200, 177]
abbrev dktX8_loses_2 : List UInt8 := dkwX8_loses_2 ++ []
def dkwX8_loses_1 : List UInt8 := [42, 28, 182, 1, 71, 163, 0, 6, 167, 0, 23, 42, 180, 0, 55, 28, 16, 6, 79, 42, 180, 0, 79, 28]
abbrev dktX8_loses_1 : List UInt8 := dkwX8_loses_1 ++ dktX8_loses_2
def dkwX8_loses_0 : List UInt8 := [3, 61, 28, 42, 182, 0, 147, 162, 0, 54, 42, 28, 182, 1, 68, 153, 0, 40, 42, 180, 0, 58, 28, 46]
abbrev dktX8_loses_0 : List UInt8 := dkwX8_loses_0 ++ dktX8_loses_1
theorem dksX8_loses_0 : cX8_loses.data.toList.drop 0 = dktX8_loses_0 := by decide +kernel
theorem dksX8_loses_1 : cX8_loses.data.toList.drop 24 = dktX8_loses_1 := dk_seg dksX8_loses_0 24 rfl rfl
theorem dksX8_loses_2 : cX8_loses.data.toList.drop 48 = dktX8_loses_2 := dk_seg dksX8_loses_1 24 rfl rfl
theorem dX8_loses_0 : decode cX8_loses 0 = .ok (.iconst 0, 1) := dk_3 (dk_at dksX8_loses_0 0 rfl rfl)
theorem dX8_loses_1 : decode cX8_loses 1 = .ok (.istore_n 2, 1) := dk_61 (dk_at dksX8_loses_0 1 rfl rfl)
theorem dX8_loses_2 : decode cX8_loses 2 = .ok (.iload_n 2, 1) := dk_28 (dk_at dksX8_loses_0 2 rfl rfl)
theorem dX8_loses_3 : decode cX8_loses 3 = .ok (.aload_n 0, 1) := dk_42 (dk_at dksX8_loses_0 3 rfl rfl)
theorem dX8_loses_4 : decode cX8_loses 4 = .ok (.invokevirtual 147, 3) := dk_182 0 147 (dk_at dksX8_loses_0 4 rfl rfl)
theorem dX8_loses_7 : decode cX8_loses 7 = .ok (.if_icmp .ge 54, 3) := dk_162 0 54 (dk_at dksX8_loses_0 7 rfl rfl)
theorem dX8_loses_10 : decode cX8_loses 10 = .ok (.aload_n 0, 1) := dk_42 (dk_at dksX8_loses_0 10 rfl rfl)
theorem dX8_loses_11 : decode cX8_loses 11 = .ok (.iload_n 2, 1) := dk_28 (dk_at dksX8_loses_0 11 rfl rfl)
theorem dX8_loses_12 : decode cX8_loses 12 = .ok (.invokevirtual 324, 3) := dk_182 1 68 (dk_at dksX8_loses_0 12 rfl rfl)
theorem dX8_loses_15 : decode cX8_loses 15 = .ok (.ifCond .eq 40, 3) := dk_153 0 40 (dk_at dksX8_loses_0 15 rfl rfl)
theorem dX8_loses_18 : decode cX8_loses 18 = .ok (.aload_n 0, 1) := dk_42 (dk_at dksX8_loses_0 18 rfl rfl)
theorem dX8_loses_19 : decode cX8_loses 19 = .ok (.getfield 58, 3) := dk_180 0 58 (dk_at dksX8_loses_0 19 rfl rfl)
theorem dX8_loses_22 : decode cX8_loses 22 = .ok (.iload_n 2, 1) := dk_28 (dk_at dksX8_loses_0 22 rfl rfl)
theorem dX8_loses_23 : decode cX8_loses 23 = .ok (.iaload, 1) := dk_46 (dk_at dksX8_loses_0 23 rfl rfl)
theorem dX8_loses_24 : decode cX8_loses 24 = .ok (.aload_n 0, 1) := dk_42 (dk_at dksX8_loses_1 0 rfl rfl)
theorem dX8_loses_25 : decode cX8_loses 25 = .ok (.iload_n 2, 1) := dk_28 (dk_at dksX8_loses_1 1 rfl rfl)
theorem dX8_loses_26 : decode cX8_loses 26 = .ok (.invokevirtual 327, 3) := dk_182 1 71 (dk_at dksX8_loses_1 2 rfl rfl)
theorem dX8_loses_29 : decode cX8_loses 29 = .ok (.if_icmp .gt 6, 3) := dk_163 0 6 (dk_at dksX8_loses_1 5 rfl rfl)
theorem dX8_loses_32 : decode cX8_loses 32 = .ok (.goto 23, 3) := dk_167 0 23 (dk_at dksX8_loses_1 8 rfl rfl)
theorem dX8_loses_35 : decode cX8_loses 35 = .ok (.aload_n 0, 1) := dk_42 (dk_at dksX8_loses_1 11 rfl rfl)
theorem dX8_loses_36 : decode cX8_loses 36 = .ok (.getfield 55, 3) := dk_180 0 55 (dk_at dksX8_loses_1 12 rfl rfl)
theorem dX8_loses_39 : decode cX8_loses 39 = .ok (.iload_n 2, 1) := dk_28 (dk_at dksX8_loses_1 15 rfl rfl)
theorem dX8_loses_40 : decode cX8_loses 40 = .ok (.bipush 6, 2) := dk_16 6 (dk_at dksX8_loses_1 16 rfl rfl)
theorem dX8_loses_42 : decode cX8_loses 42 = .ok (.iastore, 1) := dk_79 (dk_at dksX8_loses_1 18 rfl rfl)
theorem dX8_loses_43 : decode cX8_loses 43 = .ok (.aload_n 0, 1) := dk_42 (dk_at dksX8_loses_1 19 rfl rfl)
theorem dX8_loses_44 : decode cX8_loses 44 = .ok (.getfield 79, 3) := dk_180 0 79 (dk_at dksX8_loses_1 20 rfl rfl)
theorem dX8_loses_47 : decode cX8_loses 47 = .ok (.iload_n 2, 1) := dk_28 (dk_at dksX8_loses_1 23 rfl rfl)
theorem dX8_loses_48 : decode cX8_loses 48 = .ok (.iload_n 1, 1) := dk_27 (dk_at dksX8_loses_2 0 rfl rfl)
theorem dX8_loses_49 : decode cX8_loses 49 = .ok (.iastore, 1) := dk_79 (dk_at dksX8_loses_2 1 rfl rfl)
theorem dX8_loses_50 : decode cX8_loses 50 = .ok (.aload_n 0, 1) := dk_42 (dk_at dksX8_loses_2 2 rfl rfl)
theorem dX8_loses_51 : decode cX8_loses 51 = .ok (.iload_n 2, 1) := dk_28 (dk_at dksX8_loses_2 3 rfl rfl)
theorem dX8_loses_52 : decode cX8_loses 52 = .ok (.invokevirtual 330, 3) := dk_182 1 74 (dk_at dksX8_loses_2 4 rfl rfl)
theorem dX8_loses_55 : decode cX8_loses 55 = .ok (.iinc 2 1, 3) := dk_132 2 1 (dk_at dksX8_loses_2 7 rfl rfl)
theorem dX8_loses_58 : decode cX8_loses 58 = .ok (.goto (-56), 3) := dk_167 255 200 (dk_at dksX8_loses_2 10 rfl rfl)
theorem dX8_loses_61 : decode cX8_loses 61 = .ok (.return_, 1) := dk_177 (dk_at dksX8_loses_2 13 rfl rfl)
abbrev cX8_isProofing : ByteArray := prog_13_method_59_code
def yX8_isProofing : MethodName := ⟨RX8, "isProofing", "(I)Z"⟩
def dkwX8_isProofing_1 : List UInt8 := [3, 172]
abbrev dktX8_isProofing_1 : List UInt8 := dkwX8_isProofing_1 ++ []
def dkwX8_isProofing_0 : List UInt8 := [42, 180, 0, 55, 27, 46, 5, 159, 0, 13, 42, 180, 0, 55, 27, 46, 6, 160, 0, 7, 4, 167, 0, 4]
abbrev dktX8_isProofing_0 : List UInt8 := dkwX8_isProofing_0 ++ dktX8_isProofing_1
theorem dksX8_isProofing_0 : cX8_isProofing.data.toList.drop 0 = dktX8_isProofing_0 := by decide +kernel
theorem dksX8_isProofing_1 : cX8_isProofing.data.toList.drop 24 = dktX8_isProofing_1 := dk_seg dksX8_isProofing_0 24 rfl rfl
theorem dX8_isProofing_0 : decode cX8_isProofing 0 = .ok (.aload_n 0, 1) := dk_42 (dk_at dksX8_isProofing_0 0 rfl rfl)
theorem dX8_isProofing_1 : decode cX8_isProofing 1 = .ok (.getfield 55, 3) := dk_180 0 55 (dk_at dksX8_isProofing_0 1 rfl rfl)
theorem dX8_isProofing_4 : decode cX8_isProofing 4 = .ok (.iload_n 1, 1) := dk_27 (dk_at dksX8_isProofing_0 4 rfl rfl)
theorem dX8_isProofing_5 : decode cX8_isProofing 5 = .ok (.iaload, 1) := dk_46 (dk_at dksX8_isProofing_0 5 rfl rfl)
theorem dX8_isProofing_6 : decode cX8_isProofing 6 = .ok (.iconst 2, 1) := dk_5 (dk_at dksX8_isProofing_0 6 rfl rfl)
theorem dX8_isProofing_7 : decode cX8_isProofing 7 = .ok (.if_icmp .eq 13, 3) := dk_159 0 13 (dk_at dksX8_isProofing_0 7 rfl rfl)
theorem dX8_isProofing_10 : decode cX8_isProofing 10 = .ok (.aload_n 0, 1) := dk_42 (dk_at dksX8_isProofing_0 10 rfl rfl)
theorem dX8_isProofing_11 : decode cX8_isProofing 11 = .ok (.getfield 55, 3) := dk_180 0 55 (dk_at dksX8_isProofing_0 11 rfl rfl)
theorem dX8_isProofing_14 : decode cX8_isProofing 14 = .ok (.iload_n 1, 1) := dk_27 (dk_at dksX8_isProofing_0 14 rfl rfl)
theorem dX8_isProofing_15 : decode cX8_isProofing 15 = .ok (.iaload, 1) := dk_46 (dk_at dksX8_isProofing_0 15 rfl rfl)
theorem dX8_isProofing_16 : decode cX8_isProofing 16 = .ok (.iconst 3, 1) := dk_6 (dk_at dksX8_isProofing_0 16 rfl rfl)
theorem dX8_isProofing_17 : decode cX8_isProofing 17 = .ok (.if_icmp .ne 7, 3) := dk_160 0 7 (dk_at dksX8_isProofing_0 17 rfl rfl)
theorem dX8_isProofing_20 : decode cX8_isProofing 20 = .ok (.iconst 1, 1) := dk_4 (dk_at dksX8_isProofing_0 20 rfl rfl)
theorem dX8_isProofing_21 : decode cX8_isProofing 21 = .ok (.goto 4, 3) := dk_167 0 4 (dk_at dksX8_isProofing_0 21 rfl rfl)
theorem dX8_isProofing_24 : decode cX8_isProofing 24 = .ok (.iconst 0, 1) := dk_3 (dk_at dksX8_isProofing_1 0 rfl rfl)
theorem dX8_isProofing_25 : decode cX8_isProofing 25 = .ok (.ireturn, 1) := dk_172 (dk_at dksX8_isProofing_1 1 rfl rfl)
abbrev cX8_oldParts : ByteArray := prog_13_method_61_code
def yX8_oldParts : MethodName := ⟨RX8, "oldParts", "(I)I"⟩
def dkwX8_oldParts_1 : List UInt8 := [182, 0, 143, 104, 172]
abbrev dktX8_oldParts_1 : List UInt8 := dkwX8_oldParts_1 ++ []
def dkwX8_oldParts_0 : List UInt8 := [42, 180, 0, 19, 42, 27, 182, 1, 56, 46, 42, 180, 0, 22, 42, 27, 182, 1, 56, 46, 96, 42, 7]
abbrev dktX8_oldParts_0 : List UInt8 := dkwX8_oldParts_0 ++ dktX8_oldParts_1
theorem dksX8_oldParts_0 : cX8_oldParts.data.toList.drop 0 = dktX8_oldParts_0 := by decide +kernel
theorem dksX8_oldParts_1 : cX8_oldParts.data.toList.drop 23 = dktX8_oldParts_1 := dk_seg dksX8_oldParts_0 23 rfl rfl
theorem dX8_oldParts_0 : decode cX8_oldParts 0 = .ok (.aload_n 0, 1) := dk_42 (dk_at dksX8_oldParts_0 0 rfl rfl)
theorem dX8_oldParts_1 : decode cX8_oldParts 1 = .ok (.getfield 19, 3) := dk_180 0 19 (dk_at dksX8_oldParts_0 1 rfl rfl)
theorem dX8_oldParts_4 : decode cX8_oldParts 4 = .ok (.aload_n 0, 1) := dk_42 (dk_at dksX8_oldParts_0 4 rfl rfl)
theorem dX8_oldParts_5 : decode cX8_oldParts 5 = .ok (.iload_n 1, 1) := dk_27 (dk_at dksX8_oldParts_0 5 rfl rfl)
theorem dX8_oldParts_6 : decode cX8_oldParts 6 = .ok (.invokevirtual 312, 3) := dk_182 1 56 (dk_at dksX8_oldParts_0 6 rfl rfl)
theorem dX8_oldParts_9 : decode cX8_oldParts 9 = .ok (.iaload, 1) := dk_46 (dk_at dksX8_oldParts_0 9 rfl rfl)
theorem dX8_oldParts_10 : decode cX8_oldParts 10 = .ok (.aload_n 0, 1) := dk_42 (dk_at dksX8_oldParts_0 10 rfl rfl)
theorem dX8_oldParts_11 : decode cX8_oldParts 11 = .ok (.getfield 22, 3) := dk_180 0 22 (dk_at dksX8_oldParts_0 11 rfl rfl)
theorem dX8_oldParts_14 : decode cX8_oldParts 14 = .ok (.aload_n 0, 1) := dk_42 (dk_at dksX8_oldParts_0 14 rfl rfl)
theorem dX8_oldParts_15 : decode cX8_oldParts 15 = .ok (.iload_n 1, 1) := dk_27 (dk_at dksX8_oldParts_0 15 rfl rfl)
theorem dX8_oldParts_16 : decode cX8_oldParts 16 = .ok (.invokevirtual 312, 3) := dk_182 1 56 (dk_at dksX8_oldParts_0 16 rfl rfl)
theorem dX8_oldParts_19 : decode cX8_oldParts 19 = .ok (.iaload, 1) := dk_46 (dk_at dksX8_oldParts_0 19 rfl rfl)
theorem dX8_oldParts_20 : decode cX8_oldParts 20 = .ok (.iadd, 1) := dk_96 (dk_at dksX8_oldParts_0 20 rfl rfl)
theorem dX8_oldParts_21 : decode cX8_oldParts 21 = .ok (.aload_n 0, 1) := dk_42 (dk_at dksX8_oldParts_0 21 rfl rfl)
theorem dX8_oldParts_22 : decode cX8_oldParts 22 = .ok (.iconst 4, 1) := dk_7 (dk_at dksX8_oldParts_0 22 rfl rfl)
theorem dX8_oldParts_23 : decode cX8_oldParts 23 = .ok (.invokevirtual 143, 3) := dk_182 0 143 (dk_at dksX8_oldParts_1 0 rfl rfl)
theorem dX8_oldParts_26 : decode cX8_oldParts 26 = .ok (.imul, 1) := dk_104 (dk_at dksX8_oldParts_1 3 rfl rfl)
theorem dX8_oldParts_27 : decode cX8_oldParts 27 = .ok (.ireturn, 1) := dk_172 (dk_at dksX8_oldParts_1 4 rfl rfl)
abbrev cX8_productOfBatch : ByteArray := prog_13_method_58_code
def yX8_productOfBatch : MethodName := ⟨RX8, "productOfBatch", "(I)I"⟩
def dkwX8_productOfBatch_0 : List UInt8 := [42, 27, 3, 182, 1, 50, 172]
abbrev dktX8_productOfBatch_0 : List UInt8 := dkwX8_productOfBatch_0 ++ []
theorem dksX8_productOfBatch_0 : cX8_productOfBatch.data.toList.drop 0 = dktX8_productOfBatch_0 := by decide +kernel
theorem dX8_productOfBatch_0 : decode cX8_productOfBatch 0 = .ok (.aload_n 0, 1) := dk_42 (dk_at dksX8_productOfBatch_0 0 rfl rfl)
theorem dX8_productOfBatch_1 : decode cX8_productOfBatch 1 = .ok (.iload_n 1, 1) := dk_27 (dk_at dksX8_productOfBatch_0 1 rfl rfl)
theorem dX8_productOfBatch_2 : decode cX8_productOfBatch 2 = .ok (.iconst 0, 1) := dk_3 (dk_at dksX8_productOfBatch_0 2 rfl rfl)
theorem dX8_productOfBatch_3 : decode cX8_productOfBatch 3 = .ok (.invokevirtual 306, 3) := dk_182 1 50 (dk_at dksX8_productOfBatch_0 3 rfl rfl)
theorem dX8_productOfBatch_6 : decode cX8_productOfBatch 6 = .ok (.ireturn, 1) := dk_172 (dk_at dksX8_productOfBatch_0 6 rfl rfl)
abbrev cX8_unreserve : ByteArray := prog_13_method_67_code
def yX8_unreserve : MethodName := ⟨RX8, "unreserve", "(I)V"⟩
def dkwX8_unreserve_1 : List UInt8 := [180, 0, 100, 28, 2, 79, 132, 2, 1, 167, 255, 227, 177]
abbrev dktX8_unreserve_1 : List UInt8 := dkwX8_unreserve_1 ++ []
def dkwX8_unreserve_0 : List UInt8 := [3, 61, 28, 42, 4, 182, 0, 143, 162, 0, 26, 42, 180, 0, 100, 28, 46, 27, 160, 0, 10, 42]
abbrev dktX8_unreserve_0 : List UInt8 := dkwX8_unreserve_0 ++ dktX8_unreserve_1
theorem dksX8_unreserve_0 : cX8_unreserve.data.toList.drop 0 = dktX8_unreserve_0 := by decide +kernel
theorem dksX8_unreserve_1 : cX8_unreserve.data.toList.drop 22 = dktX8_unreserve_1 := dk_seg dksX8_unreserve_0 22 rfl rfl
theorem dX8_unreserve_0 : decode cX8_unreserve 0 = .ok (.iconst 0, 1) := dk_3 (dk_at dksX8_unreserve_0 0 rfl rfl)
theorem dX8_unreserve_1 : decode cX8_unreserve 1 = .ok (.istore_n 2, 1) := dk_61 (dk_at dksX8_unreserve_0 1 rfl rfl)
theorem dX8_unreserve_2 : decode cX8_unreserve 2 = .ok (.iload_n 2, 1) := dk_28 (dk_at dksX8_unreserve_0 2 rfl rfl)
theorem dX8_unreserve_3 : decode cX8_unreserve 3 = .ok (.aload_n 0, 1) := dk_42 (dk_at dksX8_unreserve_0 3 rfl rfl)
theorem dX8_unreserve_4 : decode cX8_unreserve 4 = .ok (.iconst 1, 1) := dk_4 (dk_at dksX8_unreserve_0 4 rfl rfl)
theorem dX8_unreserve_5 : decode cX8_unreserve 5 = .ok (.invokevirtual 143, 3) := dk_182 0 143 (dk_at dksX8_unreserve_0 5 rfl rfl)
theorem dX8_unreserve_8 : decode cX8_unreserve 8 = .ok (.if_icmp .ge 26, 3) := dk_162 0 26 (dk_at dksX8_unreserve_0 8 rfl rfl)
theorem dX8_unreserve_11 : decode cX8_unreserve 11 = .ok (.aload_n 0, 1) := dk_42 (dk_at dksX8_unreserve_0 11 rfl rfl)
theorem dX8_unreserve_12 : decode cX8_unreserve 12 = .ok (.getfield 100, 3) := dk_180 0 100 (dk_at dksX8_unreserve_0 12 rfl rfl)
theorem dX8_unreserve_15 : decode cX8_unreserve 15 = .ok (.iload_n 2, 1) := dk_28 (dk_at dksX8_unreserve_0 15 rfl rfl)
theorem dX8_unreserve_16 : decode cX8_unreserve 16 = .ok (.iaload, 1) := dk_46 (dk_at dksX8_unreserve_0 16 rfl rfl)
theorem dX8_unreserve_17 : decode cX8_unreserve 17 = .ok (.iload_n 1, 1) := dk_27 (dk_at dksX8_unreserve_0 17 rfl rfl)
theorem dX8_unreserve_18 : decode cX8_unreserve 18 = .ok (.if_icmp .ne 10, 3) := dk_160 0 10 (dk_at dksX8_unreserve_0 18 rfl rfl)
theorem dX8_unreserve_21 : decode cX8_unreserve 21 = .ok (.aload_n 0, 1) := dk_42 (dk_at dksX8_unreserve_0 21 rfl rfl)
theorem dX8_unreserve_22 : decode cX8_unreserve 22 = .ok (.getfield 100, 3) := dk_180 0 100 (dk_at dksX8_unreserve_1 0 rfl rfl)
theorem dX8_unreserve_25 : decode cX8_unreserve 25 = .ok (.iload_n 2, 1) := dk_28 (dk_at dksX8_unreserve_1 3 rfl rfl)
theorem dX8_unreserve_26 : decode cX8_unreserve 26 = .ok (.iconst (-1), 1) := dk_2 (dk_at dksX8_unreserve_1 4 rfl rfl)
theorem dX8_unreserve_27 : decode cX8_unreserve 27 = .ok (.iastore, 1) := dk_79 (dk_at dksX8_unreserve_1 5 rfl rfl)
theorem dX8_unreserve_28 : decode cX8_unreserve 28 = .ok (.iinc 2 1, 3) := dk_132 2 1 (dk_at dksX8_unreserve_1 6 rfl rfl)
theorem dX8_unreserve_31 : decode cX8_unreserve 31 = .ok (.goto (-29), 3) := dk_167 255 227 (dk_at dksX8_unreserve_1 9 rfl rfl)
theorem dX8_unreserve_34 : decode cX8_unreserve 34 = .ok (.return_, 1) := dk_177 (dk_at dksX8_unreserve_1 12 rfl rfl)
abbrev cX8_reserves : ByteArray := prog_13_method_75_code
def yX8_reserves : MethodName := ⟨RX8, "reserves", "()V"⟩
def dkwX8_reserves_1 : List UInt8 := [42, 27, 182, 1, 101, 79, 132, 1, 1, 167, 255, 225, 177]
abbrev dktX8_reserves_1 : List UInt8 := dkwX8_reserves_1 ++ []
def dkwX8_reserves_0 : List UInt8 := [3, 60, 27, 42, 4, 182, 0, 143, 162, 0, 28, 42, 27, 182, 1, 98, 153, 0, 14, 42, 180, 0, 100, 27]
abbrev dktX8_reserves_0 : List UInt8 := dkwX8_reserves_0 ++ dktX8_reserves_1
theorem dksX8_reserves_0 : cX8_reserves.data.toList.drop 0 = dktX8_reserves_0 := by decide +kernel
theorem dksX8_reserves_1 : cX8_reserves.data.toList.drop 24 = dktX8_reserves_1 := dk_seg dksX8_reserves_0 24 rfl rfl
theorem dX8_reserves_0 : decode cX8_reserves 0 = .ok (.iconst 0, 1) := dk_3 (dk_at dksX8_reserves_0 0 rfl rfl)
theorem dX8_reserves_1 : decode cX8_reserves 1 = .ok (.istore_n 1, 1) := dk_60 (dk_at dksX8_reserves_0 1 rfl rfl)
theorem dX8_reserves_2 : decode cX8_reserves 2 = .ok (.iload_n 1, 1) := dk_27 (dk_at dksX8_reserves_0 2 rfl rfl)
theorem dX8_reserves_3 : decode cX8_reserves 3 = .ok (.aload_n 0, 1) := dk_42 (dk_at dksX8_reserves_0 3 rfl rfl)
theorem dX8_reserves_4 : decode cX8_reserves 4 = .ok (.iconst 1, 1) := dk_4 (dk_at dksX8_reserves_0 4 rfl rfl)
theorem dX8_reserves_5 : decode cX8_reserves 5 = .ok (.invokevirtual 143, 3) := dk_182 0 143 (dk_at dksX8_reserves_0 5 rfl rfl)
theorem dX8_reserves_8 : decode cX8_reserves 8 = .ok (.if_icmp .ge 28, 3) := dk_162 0 28 (dk_at dksX8_reserves_0 8 rfl rfl)
theorem dX8_reserves_11 : decode cX8_reserves 11 = .ok (.aload_n 0, 1) := dk_42 (dk_at dksX8_reserves_0 11 rfl rfl)
theorem dX8_reserves_12 : decode cX8_reserves 12 = .ok (.iload_n 1, 1) := dk_27 (dk_at dksX8_reserves_0 12 rfl rfl)
theorem dX8_reserves_13 : decode cX8_reserves 13 = .ok (.invokevirtual 354, 3) := dk_182 1 98 (dk_at dksX8_reserves_0 13 rfl rfl)
theorem dX8_reserves_16 : decode cX8_reserves 16 = .ok (.ifCond .eq 14, 3) := dk_153 0 14 (dk_at dksX8_reserves_0 16 rfl rfl)
theorem dX8_reserves_19 : decode cX8_reserves 19 = .ok (.aload_n 0, 1) := dk_42 (dk_at dksX8_reserves_0 19 rfl rfl)
theorem dX8_reserves_20 : decode cX8_reserves 20 = .ok (.getfield 100, 3) := dk_180 0 100 (dk_at dksX8_reserves_0 20 rfl rfl)
theorem dX8_reserves_23 : decode cX8_reserves 23 = .ok (.iload_n 1, 1) := dk_27 (dk_at dksX8_reserves_0 23 rfl rfl)
theorem dX8_reserves_24 : decode cX8_reserves 24 = .ok (.aload_n 0, 1) := dk_42 (dk_at dksX8_reserves_1 0 rfl rfl)
theorem dX8_reserves_25 : decode cX8_reserves 25 = .ok (.iload_n 1, 1) := dk_27 (dk_at dksX8_reserves_1 1 rfl rfl)
theorem dX8_reserves_26 : decode cX8_reserves 26 = .ok (.invokevirtual 357, 3) := dk_182 1 101 (dk_at dksX8_reserves_1 2 rfl rfl)
theorem dX8_reserves_29 : decode cX8_reserves 29 = .ok (.iastore, 1) := dk_79 (dk_at dksX8_reserves_1 5 rfl rfl)
theorem dX8_reserves_30 : decode cX8_reserves 30 = .ok (.iinc 1 1, 3) := dk_132 1 1 (dk_at dksX8_reserves_1 6 rfl rfl)
theorem dX8_reserves_33 : decode cX8_reserves 33 = .ok (.goto (-31), 3) := dk_167 255 225 (dk_at dksX8_reserves_1 9 rfl rfl)
theorem dX8_reserves_36 : decode cX8_reserves 36 = .ok (.return_, 1) := dk_177 (dk_at dksX8_reserves_1 12 rfl rfl)
abbrev cX8_isFreeDeck : ByteArray := prog_13_method_74_code
def yX8_isFreeDeck : MethodName := ⟨RX8, "isFreeDeck", "(I)Z"⟩
def dkwX8_isFreeDeck_1 : List UInt8 := [3, 172]
abbrev dktX8_isFreeDeck_1 : List UInt8 := dkwX8_isFreeDeck_1 ++ []
def dkwX8_isFreeDeck_0 : List UInt8 := [42, 180, 0, 100, 27, 46, 2, 160, 0, 17, 42, 180, 0, 103, 27, 46, 2, 160, 0, 7, 4, 167, 0, 4]
abbrev dktX8_isFreeDeck_0 : List UInt8 := dkwX8_isFreeDeck_0 ++ dktX8_isFreeDeck_1
theorem dksX8_isFreeDeck_0 : cX8_isFreeDeck.data.toList.drop 0 = dktX8_isFreeDeck_0 := by decide +kernel
theorem dksX8_isFreeDeck_1 : cX8_isFreeDeck.data.toList.drop 24 = dktX8_isFreeDeck_1 := dk_seg dksX8_isFreeDeck_0 24 rfl rfl
theorem dX8_isFreeDeck_0 : decode cX8_isFreeDeck 0 = .ok (.aload_n 0, 1) := dk_42 (dk_at dksX8_isFreeDeck_0 0 rfl rfl)
theorem dX8_isFreeDeck_1 : decode cX8_isFreeDeck 1 = .ok (.getfield 100, 3) := dk_180 0 100 (dk_at dksX8_isFreeDeck_0 1 rfl rfl)
theorem dX8_isFreeDeck_4 : decode cX8_isFreeDeck 4 = .ok (.iload_n 1, 1) := dk_27 (dk_at dksX8_isFreeDeck_0 4 rfl rfl)
theorem dX8_isFreeDeck_5 : decode cX8_isFreeDeck 5 = .ok (.iaload, 1) := dk_46 (dk_at dksX8_isFreeDeck_0 5 rfl rfl)
theorem dX8_isFreeDeck_6 : decode cX8_isFreeDeck 6 = .ok (.iconst (-1), 1) := dk_2 (dk_at dksX8_isFreeDeck_0 6 rfl rfl)
theorem dX8_isFreeDeck_7 : decode cX8_isFreeDeck 7 = .ok (.if_icmp .ne 17, 3) := dk_160 0 17 (dk_at dksX8_isFreeDeck_0 7 rfl rfl)
theorem dX8_isFreeDeck_10 : decode cX8_isFreeDeck 10 = .ok (.aload_n 0, 1) := dk_42 (dk_at dksX8_isFreeDeck_0 10 rfl rfl)
theorem dX8_isFreeDeck_11 : decode cX8_isFreeDeck 11 = .ok (.getfield 103, 3) := dk_180 0 103 (dk_at dksX8_isFreeDeck_0 11 rfl rfl)
theorem dX8_isFreeDeck_14 : decode cX8_isFreeDeck 14 = .ok (.iload_n 1, 1) := dk_27 (dk_at dksX8_isFreeDeck_0 14 rfl rfl)
theorem dX8_isFreeDeck_15 : decode cX8_isFreeDeck 15 = .ok (.iaload, 1) := dk_46 (dk_at dksX8_isFreeDeck_0 15 rfl rfl)
theorem dX8_isFreeDeck_16 : decode cX8_isFreeDeck 16 = .ok (.iconst (-1), 1) := dk_2 (dk_at dksX8_isFreeDeck_0 16 rfl rfl)
theorem dX8_isFreeDeck_17 : decode cX8_isFreeDeck 17 = .ok (.if_icmp .ne 7, 3) := dk_160 0 7 (dk_at dksX8_isFreeDeck_0 17 rfl rfl)
theorem dX8_isFreeDeck_20 : decode cX8_isFreeDeck 20 = .ok (.iconst 1, 1) := dk_4 (dk_at dksX8_isFreeDeck_0 20 rfl rfl)
theorem dX8_isFreeDeck_21 : decode cX8_isFreeDeck 21 = .ok (.goto 4, 3) := dk_167 0 4 (dk_at dksX8_isFreeDeck_0 21 rfl rfl)
theorem dX8_isFreeDeck_24 : decode cX8_isFreeDeck 24 = .ok (.iconst 0, 1) := dk_3 (dk_at dksX8_isFreeDeck_1 0 rfl rfl)
theorem dX8_isFreeDeck_25 : decode cX8_isFreeDeck 25 = .ok (.ireturn, 1) := dk_172 (dk_at dksX8_isFreeDeck_1 1 rfl rfl)
abbrev cX8_bestFor : ByteArray := prog_13_method_73_code
def yX8_bestFor : MethodName := ⟨RX8, "bestFor", "(I)I"⟩
def dkwX8_bestFor_3 : List UInt8 := [167, 255, 192, 28, 172]
abbrev dktX8_bestFor_3 : List UInt8 := dkwX8_bestFor_3 ++ []
def dkwX8_bestFor_2 : List UInt8 := [2, 159, 0, 16, 42, 29, 182, 1, 95, 42, 28, 182, 1, 95, 162, 0, 5, 29, 61, 132, 3, 1]
abbrev dktX8_bestFor_2 : List UInt8 := dkwX8_bestFor_2 ++ dktX8_bestFor_3
def dkwX8_bestFor_1 : List UInt8 := [182, 1, 86, 154, 0, 40, 42, 29, 182, 1, 89, 42, 27, 29, 182, 1, 92, 164, 0, 6, 167, 0, 23, 28]
abbrev dktX8_bestFor_1 : List UInt8 := dkwX8_bestFor_1 ++ dktX8_bestFor_2
def dkwX8_bestFor_0 : List UInt8 := [2, 61, 3, 62, 29, 42, 182, 0, 147, 162, 0, 62, 42, 29, 182, 1, 68, 153, 0, 48, 42, 29]
abbrev dktX8_bestFor_0 : List UInt8 := dkwX8_bestFor_0 ++ dktX8_bestFor_1
theorem dksX8_bestFor_0 : cX8_bestFor.data.toList.drop 0 = dktX8_bestFor_0 := by decide +kernel
theorem dksX8_bestFor_1 : cX8_bestFor.data.toList.drop 22 = dktX8_bestFor_1 := dk_seg dksX8_bestFor_0 22 rfl rfl
theorem dksX8_bestFor_2 : cX8_bestFor.data.toList.drop 46 = dktX8_bestFor_2 := dk_seg dksX8_bestFor_1 24 rfl rfl
theorem dksX8_bestFor_3 : cX8_bestFor.data.toList.drop 68 = dktX8_bestFor_3 := dk_seg dksX8_bestFor_2 22 rfl rfl
theorem dX8_bestFor_0 : decode cX8_bestFor 0 = .ok (.iconst (-1), 1) := dk_2 (dk_at dksX8_bestFor_0 0 rfl rfl)
theorem dX8_bestFor_1 : decode cX8_bestFor 1 = .ok (.istore_n 2, 1) := dk_61 (dk_at dksX8_bestFor_0 1 rfl rfl)
theorem dX8_bestFor_2 : decode cX8_bestFor 2 = .ok (.iconst 0, 1) := dk_3 (dk_at dksX8_bestFor_0 2 rfl rfl)
theorem dX8_bestFor_3 : decode cX8_bestFor 3 = .ok (.istore_n 3, 1) := dk_62 (dk_at dksX8_bestFor_0 3 rfl rfl)
theorem dX8_bestFor_4 : decode cX8_bestFor 4 = .ok (.iload_n 3, 1) := dk_29 (dk_at dksX8_bestFor_0 4 rfl rfl)
theorem dX8_bestFor_5 : decode cX8_bestFor 5 = .ok (.aload_n 0, 1) := dk_42 (dk_at dksX8_bestFor_0 5 rfl rfl)
theorem dX8_bestFor_6 : decode cX8_bestFor 6 = .ok (.invokevirtual 147, 3) := dk_182 0 147 (dk_at dksX8_bestFor_0 6 rfl rfl)
theorem dX8_bestFor_9 : decode cX8_bestFor 9 = .ok (.if_icmp .ge 62, 3) := dk_162 0 62 (dk_at dksX8_bestFor_0 9 rfl rfl)
theorem dX8_bestFor_12 : decode cX8_bestFor 12 = .ok (.aload_n 0, 1) := dk_42 (dk_at dksX8_bestFor_0 12 rfl rfl)
theorem dX8_bestFor_13 : decode cX8_bestFor 13 = .ok (.iload_n 3, 1) := dk_29 (dk_at dksX8_bestFor_0 13 rfl rfl)
theorem dX8_bestFor_14 : decode cX8_bestFor 14 = .ok (.invokevirtual 324, 3) := dk_182 1 68 (dk_at dksX8_bestFor_0 14 rfl rfl)
theorem dX8_bestFor_17 : decode cX8_bestFor 17 = .ok (.ifCond .eq 48, 3) := dk_153 0 48 (dk_at dksX8_bestFor_0 17 rfl rfl)
theorem dX8_bestFor_20 : decode cX8_bestFor 20 = .ok (.aload_n 0, 1) := dk_42 (dk_at dksX8_bestFor_0 20 rfl rfl)
theorem dX8_bestFor_21 : decode cX8_bestFor 21 = .ok (.iload_n 3, 1) := dk_29 (dk_at dksX8_bestFor_0 21 rfl rfl)
theorem dX8_bestFor_22 : decode cX8_bestFor 22 = .ok (.invokevirtual 342, 3) := dk_182 1 86 (dk_at dksX8_bestFor_1 0 rfl rfl)
theorem dX8_bestFor_25 : decode cX8_bestFor 25 = .ok (.ifCond .ne 40, 3) := dk_154 0 40 (dk_at dksX8_bestFor_1 3 rfl rfl)
theorem dX8_bestFor_28 : decode cX8_bestFor 28 = .ok (.aload_n 0, 1) := dk_42 (dk_at dksX8_bestFor_1 6 rfl rfl)
theorem dX8_bestFor_29 : decode cX8_bestFor 29 = .ok (.iload_n 3, 1) := dk_29 (dk_at dksX8_bestFor_1 7 rfl rfl)
theorem dX8_bestFor_30 : decode cX8_bestFor 30 = .ok (.invokevirtual 345, 3) := dk_182 1 89 (dk_at dksX8_bestFor_1 8 rfl rfl)
theorem dX8_bestFor_33 : decode cX8_bestFor 33 = .ok (.aload_n 0, 1) := dk_42 (dk_at dksX8_bestFor_1 11 rfl rfl)
theorem dX8_bestFor_34 : decode cX8_bestFor 34 = .ok (.iload_n 1, 1) := dk_27 (dk_at dksX8_bestFor_1 12 rfl rfl)
theorem dX8_bestFor_35 : decode cX8_bestFor 35 = .ok (.iload_n 3, 1) := dk_29 (dk_at dksX8_bestFor_1 13 rfl rfl)
theorem dX8_bestFor_36 : decode cX8_bestFor 36 = .ok (.invokevirtual 348, 3) := dk_182 1 92 (dk_at dksX8_bestFor_1 14 rfl rfl)
theorem dX8_bestFor_39 : decode cX8_bestFor 39 = .ok (.if_icmp .le 6, 3) := dk_164 0 6 (dk_at dksX8_bestFor_1 17 rfl rfl)
theorem dX8_bestFor_42 : decode cX8_bestFor 42 = .ok (.goto 23, 3) := dk_167 0 23 (dk_at dksX8_bestFor_1 20 rfl rfl)
theorem dX8_bestFor_45 : decode cX8_bestFor 45 = .ok (.iload_n 2, 1) := dk_28 (dk_at dksX8_bestFor_1 23 rfl rfl)
theorem dX8_bestFor_46 : decode cX8_bestFor 46 = .ok (.iconst (-1), 1) := dk_2 (dk_at dksX8_bestFor_2 0 rfl rfl)
theorem dX8_bestFor_47 : decode cX8_bestFor 47 = .ok (.if_icmp .eq 16, 3) := dk_159 0 16 (dk_at dksX8_bestFor_2 1 rfl rfl)
theorem dX8_bestFor_50 : decode cX8_bestFor 50 = .ok (.aload_n 0, 1) := dk_42 (dk_at dksX8_bestFor_2 4 rfl rfl)
theorem dX8_bestFor_51 : decode cX8_bestFor 51 = .ok (.iload_n 3, 1) := dk_29 (dk_at dksX8_bestFor_2 5 rfl rfl)
theorem dX8_bestFor_52 : decode cX8_bestFor 52 = .ok (.invokevirtual 351, 3) := dk_182 1 95 (dk_at dksX8_bestFor_2 6 rfl rfl)
theorem dX8_bestFor_55 : decode cX8_bestFor 55 = .ok (.aload_n 0, 1) := dk_42 (dk_at dksX8_bestFor_2 9 rfl rfl)
theorem dX8_bestFor_56 : decode cX8_bestFor 56 = .ok (.iload_n 2, 1) := dk_28 (dk_at dksX8_bestFor_2 10 rfl rfl)
theorem dX8_bestFor_57 : decode cX8_bestFor 57 = .ok (.invokevirtual 351, 3) := dk_182 1 95 (dk_at dksX8_bestFor_2 11 rfl rfl)
theorem dX8_bestFor_60 : decode cX8_bestFor 60 = .ok (.if_icmp .ge 5, 3) := dk_162 0 5 (dk_at dksX8_bestFor_2 14 rfl rfl)
theorem dX8_bestFor_63 : decode cX8_bestFor 63 = .ok (.iload_n 3, 1) := dk_29 (dk_at dksX8_bestFor_2 17 rfl rfl)
theorem dX8_bestFor_64 : decode cX8_bestFor 64 = .ok (.istore_n 2, 1) := dk_61 (dk_at dksX8_bestFor_2 18 rfl rfl)
theorem dX8_bestFor_65 : decode cX8_bestFor 65 = .ok (.iinc 3 1, 3) := dk_132 3 1 (dk_at dksX8_bestFor_2 19 rfl rfl)
theorem dX8_bestFor_68 : decode cX8_bestFor 68 = .ok (.goto (-64), 3) := dk_167 255 192 (dk_at dksX8_bestFor_3 0 rfl rfl)
theorem dX8_bestFor_71 : decode cX8_bestFor 71 = .ok (.iload_n 2, 1) := dk_28 (dk_at dksX8_bestFor_3 3 rfl rfl)
theorem dX8_bestFor_72 : decode cX8_bestFor 72 = .ok (.ireturn, 1) := dk_172 (dk_at dksX8_bestFor_3 4 rfl rfl)
abbrev cX8_isReserved : ByteArray := prog_13_method_69_code
def yX8_isReserved : MethodName := ⟨RX8, "isReserved", "(I)Z"⟩
def dkwX8_isReserved_1 : List UInt8 := [132, 2, 1, 167, 255, 232, 3, 172]
abbrev dktX8_isReserved_1 : List UInt8 := dkwX8_isReserved_1 ++ []
def dkwX8_isReserved_0 : List UInt8 := [3, 61, 28, 42, 4, 182, 0, 143, 162, 0, 21, 42, 180, 0, 100, 28, 46, 27, 160, 0, 5, 4, 172]
abbrev dktX8_isReserved_0 : List UInt8 := dkwX8_isReserved_0 ++ dktX8_isReserved_1
theorem dksX8_isReserved_0 : cX8_isReserved.data.toList.drop 0 = dktX8_isReserved_0 := by decide +kernel
theorem dksX8_isReserved_1 : cX8_isReserved.data.toList.drop 23 = dktX8_isReserved_1 := dk_seg dksX8_isReserved_0 23 rfl rfl
theorem dX8_isReserved_0 : decode cX8_isReserved 0 = .ok (.iconst 0, 1) := dk_3 (dk_at dksX8_isReserved_0 0 rfl rfl)
theorem dX8_isReserved_1 : decode cX8_isReserved 1 = .ok (.istore_n 2, 1) := dk_61 (dk_at dksX8_isReserved_0 1 rfl rfl)
theorem dX8_isReserved_2 : decode cX8_isReserved 2 = .ok (.iload_n 2, 1) := dk_28 (dk_at dksX8_isReserved_0 2 rfl rfl)
theorem dX8_isReserved_3 : decode cX8_isReserved 3 = .ok (.aload_n 0, 1) := dk_42 (dk_at dksX8_isReserved_0 3 rfl rfl)
theorem dX8_isReserved_4 : decode cX8_isReserved 4 = .ok (.iconst 1, 1) := dk_4 (dk_at dksX8_isReserved_0 4 rfl rfl)
theorem dX8_isReserved_5 : decode cX8_isReserved 5 = .ok (.invokevirtual 143, 3) := dk_182 0 143 (dk_at dksX8_isReserved_0 5 rfl rfl)
theorem dX8_isReserved_8 : decode cX8_isReserved 8 = .ok (.if_icmp .ge 21, 3) := dk_162 0 21 (dk_at dksX8_isReserved_0 8 rfl rfl)
theorem dX8_isReserved_11 : decode cX8_isReserved 11 = .ok (.aload_n 0, 1) := dk_42 (dk_at dksX8_isReserved_0 11 rfl rfl)
theorem dX8_isReserved_12 : decode cX8_isReserved 12 = .ok (.getfield 100, 3) := dk_180 0 100 (dk_at dksX8_isReserved_0 12 rfl rfl)
theorem dX8_isReserved_15 : decode cX8_isReserved 15 = .ok (.iload_n 2, 1) := dk_28 (dk_at dksX8_isReserved_0 15 rfl rfl)
theorem dX8_isReserved_16 : decode cX8_isReserved 16 = .ok (.iaload, 1) := dk_46 (dk_at dksX8_isReserved_0 16 rfl rfl)
theorem dX8_isReserved_17 : decode cX8_isReserved 17 = .ok (.iload_n 1, 1) := dk_27 (dk_at dksX8_isReserved_0 17 rfl rfl)
theorem dX8_isReserved_18 : decode cX8_isReserved 18 = .ok (.if_icmp .ne 5, 3) := dk_160 0 5 (dk_at dksX8_isReserved_0 18 rfl rfl)
theorem dX8_isReserved_21 : decode cX8_isReserved 21 = .ok (.iconst 1, 1) := dk_4 (dk_at dksX8_isReserved_0 21 rfl rfl)
theorem dX8_isReserved_22 : decode cX8_isReserved 22 = .ok (.ireturn, 1) := dk_172 (dk_at dksX8_isReserved_0 22 rfl rfl)
theorem dX8_isReserved_23 : decode cX8_isReserved 23 = .ok (.iinc 2 1, 3) := dk_132 2 1 (dk_at dksX8_isReserved_1 0 rfl rfl)
theorem dX8_isReserved_26 : decode cX8_isReserved 26 = .ok (.goto (-24), 3) := dk_167 255 232 (dk_at dksX8_isReserved_1 3 rfl rfl)
theorem dX8_isReserved_29 : decode cX8_isReserved 29 = .ok (.iconst 0, 1) := dk_3 (dk_at dksX8_isReserved_1 6 rfl rfl)
theorem dX8_isReserved_30 : decode cX8_isReserved 30 = .ok (.ireturn, 1) := dk_172 (dk_at dksX8_isReserved_1 7 rfl rfl)
abbrev cX8_ripening : ByteArray := prog_13_method_70_code
def yX8_ripening : MethodName := ⟨RX8, "ripening", "(I)I"⟩
def dkwX8_ripening_1 : List UInt8 := [42, 7, 182, 0, 143, 184, 1, 80, 172]
abbrev dktX8_ripening_1 : List UInt8 := dkwX8_ripening_1 ++ []
def dkwX8_ripening_0 : List UInt8 := [42, 27, 182, 1, 77, 153, 0, 7, 3, 167, 0, 23, 42, 27, 182, 1, 59, 42, 180, 0, 58, 27, 46, 100]
abbrev dktX8_ripening_0 : List UInt8 := dkwX8_ripening_0 ++ dktX8_ripening_1
theorem dksX8_ripening_0 : cX8_ripening.data.toList.drop 0 = dktX8_ripening_0 := by decide +kernel
theorem dksX8_ripening_1 : cX8_ripening.data.toList.drop 24 = dktX8_ripening_1 := dk_seg dksX8_ripening_0 24 rfl rfl
theorem dX8_ripening_0 : decode cX8_ripening 0 = .ok (.aload_n 0, 1) := dk_42 (dk_at dksX8_ripening_0 0 rfl rfl)
theorem dX8_ripening_1 : decode cX8_ripening 1 = .ok (.iload_n 1, 1) := dk_27 (dk_at dksX8_ripening_0 1 rfl rfl)
theorem dX8_ripening_2 : decode cX8_ripening 2 = .ok (.invokevirtual 333, 3) := dk_182 1 77 (dk_at dksX8_ripening_0 2 rfl rfl)
theorem dX8_ripening_5 : decode cX8_ripening 5 = .ok (.ifCond .eq 7, 3) := dk_153 0 7 (dk_at dksX8_ripening_0 5 rfl rfl)
theorem dX8_ripening_8 : decode cX8_ripening 8 = .ok (.iconst 0, 1) := dk_3 (dk_at dksX8_ripening_0 8 rfl rfl)
theorem dX8_ripening_9 : decode cX8_ripening 9 = .ok (.goto 23, 3) := dk_167 0 23 (dk_at dksX8_ripening_0 9 rfl rfl)
theorem dX8_ripening_12 : decode cX8_ripening 12 = .ok (.aload_n 0, 1) := dk_42 (dk_at dksX8_ripening_0 12 rfl rfl)
theorem dX8_ripening_13 : decode cX8_ripening 13 = .ok (.iload_n 1, 1) := dk_27 (dk_at dksX8_ripening_0 13 rfl rfl)
theorem dX8_ripening_14 : decode cX8_ripening 14 = .ok (.invokevirtual 315, 3) := dk_182 1 59 (dk_at dksX8_ripening_0 14 rfl rfl)
theorem dX8_ripening_17 : decode cX8_ripening 17 = .ok (.aload_n 0, 1) := dk_42 (dk_at dksX8_ripening_0 17 rfl rfl)
theorem dX8_ripening_18 : decode cX8_ripening 18 = .ok (.getfield 58, 3) := dk_180 0 58 (dk_at dksX8_ripening_0 18 rfl rfl)
theorem dX8_ripening_21 : decode cX8_ripening 21 = .ok (.iload_n 1, 1) := dk_27 (dk_at dksX8_ripening_0 21 rfl rfl)
theorem dX8_ripening_22 : decode cX8_ripening 22 = .ok (.iaload, 1) := dk_46 (dk_at dksX8_ripening_0 22 rfl rfl)
theorem dX8_ripening_23 : decode cX8_ripening 23 = .ok (.isub, 1) := dk_100 (dk_at dksX8_ripening_0 23 rfl rfl)
theorem dX8_ripening_24 : decode cX8_ripening 24 = .ok (.aload_n 0, 1) := dk_42 (dk_at dksX8_ripening_1 0 rfl rfl)
theorem dX8_ripening_25 : decode cX8_ripening 25 = .ok (.iconst 4, 1) := dk_7 (dk_at dksX8_ripening_1 1 rfl rfl)
theorem dX8_ripening_26 : decode cX8_ripening 26 = .ok (.invokevirtual 143, 3) := dk_182 0 143 (dk_at dksX8_ripening_1 2 rfl rfl)
theorem dX8_ripening_29 : decode cX8_ripening 29 = .ok (.invokestatic 336, 3) := dk_184 1 80 (dk_at dksX8_ripening_1 5 rfl rfl)
theorem dX8_ripening_32 : decode cX8_ripening 32 = .ok (.ireturn, 1) := dk_172 (dk_at dksX8_ripening_1 8 rfl rfl)
abbrev cX8_isRipe : ByteArray := prog_13_method_62_code
def yX8_isRipe : MethodName := ⟨RX8, "isRipe", "(I)Z"⟩
def dkwX8_isRipe_0 : List UInt8 := [42, 180, 0, 58, 27, 46, 42, 27, 182, 1, 59, 161, 0, 7, 4, 167, 0, 4, 3, 172]
abbrev dktX8_isRipe_0 : List UInt8 := dkwX8_isRipe_0 ++ []
theorem dksX8_isRipe_0 : cX8_isRipe.data.toList.drop 0 = dktX8_isRipe_0 := by decide +kernel
theorem dX8_isRipe_0 : decode cX8_isRipe 0 = .ok (.aload_n 0, 1) := dk_42 (dk_at dksX8_isRipe_0 0 rfl rfl)
theorem dX8_isRipe_1 : decode cX8_isRipe 1 = .ok (.getfield 58, 3) := dk_180 0 58 (dk_at dksX8_isRipe_0 1 rfl rfl)
theorem dX8_isRipe_4 : decode cX8_isRipe 4 = .ok (.iload_n 1, 1) := dk_27 (dk_at dksX8_isRipe_0 4 rfl rfl)
theorem dX8_isRipe_5 : decode cX8_isRipe 5 = .ok (.iaload, 1) := dk_46 (dk_at dksX8_isRipe_0 5 rfl rfl)
theorem dX8_isRipe_6 : decode cX8_isRipe 6 = .ok (.aload_n 0, 1) := dk_42 (dk_at dksX8_isRipe_0 6 rfl rfl)
theorem dX8_isRipe_7 : decode cX8_isRipe 7 = .ok (.iload_n 1, 1) := dk_27 (dk_at dksX8_isRipe_0 7 rfl rfl)
theorem dX8_isRipe_8 : decode cX8_isRipe 8 = .ok (.invokevirtual 315, 3) := dk_182 1 59 (dk_at dksX8_isRipe_0 8 rfl rfl)
theorem dX8_isRipe_11 : decode cX8_isRipe 11 = .ok (.if_icmp .lt 7, 3) := dk_161 0 7 (dk_at dksX8_isRipe_0 11 rfl rfl)
theorem dX8_isRipe_14 : decode cX8_isRipe 14 = .ok (.iconst 1, 1) := dk_4 (dk_at dksX8_isRipe_0 14 rfl rfl)
theorem dX8_isRipe_15 : decode cX8_isRipe 15 = .ok (.goto 4, 3) := dk_167 0 4 (dk_at dksX8_isRipe_0 15 rfl rfl)
theorem dX8_isRipe_18 : decode cX8_isRipe 18 = .ok (.iconst 0, 1) := dk_3 (dk_at dksX8_isRipe_0 18 rfl rfl)
theorem dX8_isRipe_19 : decode cX8_isRipe 19 = .ok (.ireturn, 1) := dk_172 (dk_at dksX8_isRipe_0 19 rfl rfl)
abbrev cX8_ripeParts : ByteArray := prog_13_method_60_code
def yX8_ripeParts : MethodName := ⟨RX8, "ripeParts", "(I)I"⟩
def dkwX8_ripeParts_0 : List UInt8 := [42, 180, 0, 19, 42, 27, 182, 1, 56, 46, 42, 7, 182, 0, 143, 104, 172]
abbrev dktX8_ripeParts_0 : List UInt8 := dkwX8_ripeParts_0 ++ []
theorem dksX8_ripeParts_0 : cX8_ripeParts.data.toList.drop 0 = dktX8_ripeParts_0 := by decide +kernel
theorem dX8_ripeParts_0 : decode cX8_ripeParts 0 = .ok (.aload_n 0, 1) := dk_42 (dk_at dksX8_ripeParts_0 0 rfl rfl)
theorem dX8_ripeParts_1 : decode cX8_ripeParts 1 = .ok (.getfield 19, 3) := dk_180 0 19 (dk_at dksX8_ripeParts_0 1 rfl rfl)
theorem dX8_ripeParts_4 : decode cX8_ripeParts 4 = .ok (.aload_n 0, 1) := dk_42 (dk_at dksX8_ripeParts_0 4 rfl rfl)
theorem dX8_ripeParts_5 : decode cX8_ripeParts 5 = .ok (.iload_n 1, 1) := dk_27 (dk_at dksX8_ripeParts_0 5 rfl rfl)
theorem dX8_ripeParts_6 : decode cX8_ripeParts 6 = .ok (.invokevirtual 312, 3) := dk_182 1 56 (dk_at dksX8_ripeParts_0 6 rfl rfl)
theorem dX8_ripeParts_9 : decode cX8_ripeParts 9 = .ok (.iaload, 1) := dk_46 (dk_at dksX8_ripeParts_0 9 rfl rfl)
theorem dX8_ripeParts_10 : decode cX8_ripeParts 10 = .ok (.aload_n 0, 1) := dk_42 (dk_at dksX8_ripeParts_0 10 rfl rfl)
theorem dX8_ripeParts_11 : decode cX8_ripeParts 11 = .ok (.iconst 4, 1) := dk_7 (dk_at dksX8_ripeParts_0 11 rfl rfl)
theorem dX8_ripeParts_12 : decode cX8_ripeParts 12 = .ok (.invokevirtual 143, 3) := dk_182 0 143 (dk_at dksX8_ripeParts_0 12 rfl rfl)
theorem dX8_ripeParts_15 : decode cX8_ripeParts 15 = .ok (.imul, 1) := dk_104 (dk_at dksX8_ripeParts_0 15 rfl rfl)
theorem dX8_ripeParts_16 : decode cX8_ripeParts 16 = .ok (.ireturn, 1) := dk_172 (dk_at dksX8_ripeParts_0 16 rfl rfl)
abbrev cX8_quotientUp : ByteArray := prog_13_method_63_code
def yX8_quotientUp : MethodName := ⟨RX8, "quotientUp", "(II)I"⟩
def dkwX8_quotientUp_0 : List UInt8 := [26, 27, 96, 4, 100, 27, 108, 172]
abbrev dktX8_quotientUp_0 : List UInt8 := dkwX8_quotientUp_0 ++ []
theorem dksX8_quotientUp_0 : cX8_quotientUp.data.toList.drop 0 = dktX8_quotientUp_0 := by decide +kernel
theorem dX8_quotientUp_0 : decode cX8_quotientUp 0 = .ok (.iload_n 0, 1) := dk_26 (dk_at dksX8_quotientUp_0 0 rfl rfl)
theorem dX8_quotientUp_1 : decode cX8_quotientUp 1 = .ok (.iload_n 1, 1) := dk_27 (dk_at dksX8_quotientUp_0 1 rfl rfl)
theorem dX8_quotientUp_2 : decode cX8_quotientUp 2 = .ok (.iadd, 1) := dk_96 (dk_at dksX8_quotientUp_0 2 rfl rfl)
theorem dX8_quotientUp_3 : decode cX8_quotientUp 3 = .ok (.iconst 1, 1) := dk_4 (dk_at dksX8_quotientUp_0 3 rfl rfl)
theorem dX8_quotientUp_4 : decode cX8_quotientUp 4 = .ok (.isub, 1) := dk_100 (dk_at dksX8_quotientUp_0 4 rfl rfl)
theorem dX8_quotientUp_5 : decode cX8_quotientUp 5 = .ok (.iload_n 1, 1) := dk_27 (dk_at dksX8_quotientUp_0 5 rfl rfl)
theorem dX8_quotientUp_6 : decode cX8_quotientUp 6 = .ok (.idiv, 1) := dk_108 (dk_at dksX8_quotientUp_0 6 rfl rfl)
theorem dX8_quotientUp_7 : decode cX8_quotientUp 7 = .ok (.ireturn, 1) := dk_172 (dk_at dksX8_quotientUp_0 7 rfl rfl)
abbrev cX8_heating : ByteArray := prog_13_method_71_code
def yX8_heating : MethodName := ⟨RX8, "heating", "(II)I"⟩
def dkwX8_heating_1 : List UInt8 := [184, 1, 80, 172]
abbrev dktX8_heating_1 : List UInt8 := dkwX8_heating_1 ++ []
def dkwX8_heating_0 : List UInt8 := [42, 180, 0, 28, 42, 28, 182, 1, 56, 46, 42, 180, 0, 109, 27, 46, 184, 1, 83, 42, 8, 182, 0, 143]
abbrev dktX8_heating_0 : List UInt8 := dkwX8_heating_0 ++ dktX8_heating_1
theorem dksX8_heating_0 : cX8_heating.data.toList.drop 0 = dktX8_heating_0 := by decide +kernel
theorem dksX8_heating_1 : cX8_heating.data.toList.drop 24 = dktX8_heating_1 := dk_seg dksX8_heating_0 24 rfl rfl
theorem dX8_heating_0 : decode cX8_heating 0 = .ok (.aload_n 0, 1) := dk_42 (dk_at dksX8_heating_0 0 rfl rfl)
theorem dX8_heating_1 : decode cX8_heating 1 = .ok (.getfield 28, 3) := dk_180 0 28 (dk_at dksX8_heating_0 1 rfl rfl)
theorem dX8_heating_4 : decode cX8_heating 4 = .ok (.aload_n 0, 1) := dk_42 (dk_at dksX8_heating_0 4 rfl rfl)
theorem dX8_heating_5 : decode cX8_heating 5 = .ok (.iload_n 2, 1) := dk_28 (dk_at dksX8_heating_0 5 rfl rfl)
theorem dX8_heating_6 : decode cX8_heating 6 = .ok (.invokevirtual 312, 3) := dk_182 1 56 (dk_at dksX8_heating_0 6 rfl rfl)
theorem dX8_heating_9 : decode cX8_heating 9 = .ok (.iaload, 1) := dk_46 (dk_at dksX8_heating_0 9 rfl rfl)
theorem dX8_heating_10 : decode cX8_heating 10 = .ok (.aload_n 0, 1) := dk_42 (dk_at dksX8_heating_0 10 rfl rfl)
theorem dX8_heating_11 : decode cX8_heating 11 = .ok (.getfield 109, 3) := dk_180 0 109 (dk_at dksX8_heating_0 11 rfl rfl)
theorem dX8_heating_14 : decode cX8_heating 14 = .ok (.iload_n 1, 1) := dk_27 (dk_at dksX8_heating_0 14 rfl rfl)
theorem dX8_heating_15 : decode cX8_heating 15 = .ok (.iaload, 1) := dk_46 (dk_at dksX8_heating_0 15 rfl rfl)
theorem dX8_heating_16 : decode cX8_heating 16 = .ok (.invokestatic 339, 3) := dk_184 1 83 (dk_at dksX8_heating_0 16 rfl rfl)
theorem dX8_heating_19 : decode cX8_heating 19 = .ok (.aload_n 0, 1) := dk_42 (dk_at dksX8_heating_0 19 rfl rfl)
theorem dX8_heating_20 : decode cX8_heating 20 = .ok (.iconst 5, 1) := dk_8 (dk_at dksX8_heating_0 20 rfl rfl)
theorem dX8_heating_21 : decode cX8_heating 21 = .ok (.invokevirtual 143, 3) := dk_182 0 143 (dk_at dksX8_heating_0 21 rfl rfl)
theorem dX8_heating_24 : decode cX8_heating 24 = .ok (.invokestatic 336, 3) := dk_184 1 80 (dk_at dksX8_heating_1 0 rfl rfl)
theorem dX8_heating_27 : decode cX8_heating 27 = .ok (.ireturn, 1) := dk_172 (dk_at dksX8_heating_1 3 rfl rfl)
abbrev cX8_apart : ByteArray := prog_13_method_64_code
def yX8_apart : MethodName := ⟨RX8, "apart", "(II)I"⟩
def dkwX8_apart_0 : List UInt8 := [26, 27, 162, 0, 9, 27, 26, 100, 167, 0, 6, 26, 27, 100, 172]
abbrev dktX8_apart_0 : List UInt8 := dkwX8_apart_0 ++ []
theorem dksX8_apart_0 : cX8_apart.data.toList.drop 0 = dktX8_apart_0 := by decide +kernel
theorem dX8_apart_0 : decode cX8_apart 0 = .ok (.iload_n 0, 1) := dk_26 (dk_at dksX8_apart_0 0 rfl rfl)
theorem dX8_apart_1 : decode cX8_apart 1 = .ok (.iload_n 1, 1) := dk_27 (dk_at dksX8_apart_0 1 rfl rfl)
theorem dX8_apart_2 : decode cX8_apart 2 = .ok (.if_icmp .ge 9, 3) := dk_162 0 9 (dk_at dksX8_apart_0 2 rfl rfl)
theorem dX8_apart_5 : decode cX8_apart 5 = .ok (.iload_n 1, 1) := dk_27 (dk_at dksX8_apart_0 5 rfl rfl)
theorem dX8_apart_6 : decode cX8_apart 6 = .ok (.iload_n 0, 1) := dk_26 (dk_at dksX8_apart_0 6 rfl rfl)
theorem dX8_apart_7 : decode cX8_apart 7 = .ok (.isub, 1) := dk_100 (dk_at dksX8_apart_0 7 rfl rfl)
theorem dX8_apart_8 : decode cX8_apart 8 = .ok (.goto 6, 3) := dk_167 0 6 (dk_at dksX8_apart_0 8 rfl rfl)
theorem dX8_apart_11 : decode cX8_apart 11 = .ok (.iload_n 0, 1) := dk_26 (dk_at dksX8_apart_0 11 rfl rfl)
theorem dX8_apart_12 : decode cX8_apart 12 = .ok (.iload_n 1, 1) := dk_27 (dk_at dksX8_apart_0 12 rfl rfl)
theorem dX8_apart_13 : decode cX8_apart 13 = .ok (.isub, 1) := dk_100 (dk_at dksX8_apart_0 13 rfl rfl)
theorem dX8_apart_14 : decode cX8_apart 14 = .ok (.ireturn, 1) := dk_172 (dk_at dksX8_apart_0 14 rfl rfl)
abbrev cX8_rank : ByteArray := prog_13_method_72_code
def yX8_rank : MethodName := ⟨RX8, "rank", "(I)I"⟩
def dkwX8_rank_2 : List UInt8 := [27, 172, 42, 27, 182, 1, 71, 42, 180, 0, 58, 27, 46, 100, 172, 42, 27, 5, 182, 1, 50, 172]
abbrev dktX8_rank_2 : List UInt8 := dkwX8_rank_2 ++ []
def dkwX8_rank_1 : List UInt8 := [171, 0, 0, 0, 0, 41, 0, 0, 0, 2, 0, 0, 0, 0, 0, 0, 0, 26, 0, 0, 0, 1, 0, 0, 0, 28]
abbrev dktX8_rank_1 : List UInt8 := dkwX8_rank_1 ++ dktX8_rank_2
def dkwX8_rank_0 : List UInt8 := [42, 16, 7, 182, 0, 143]
abbrev dktX8_rank_0 : List UInt8 := dkwX8_rank_0 ++ dktX8_rank_1
theorem dksX8_rank_0 : cX8_rank.data.toList.drop 0 = dktX8_rank_0 := by decide +kernel
theorem dksX8_rank_1 : cX8_rank.data.toList.drop 6 = dktX8_rank_1 := dk_seg dksX8_rank_0 6 rfl rfl
theorem dksX8_rank_2 : cX8_rank.data.toList.drop 32 = dktX8_rank_2 := dk_seg dksX8_rank_1 26 rfl rfl
theorem dX8_rank_0 : decode cX8_rank 0 = .ok (.aload_n 0, 1) := dk_42 (dk_at dksX8_rank_0 0 rfl rfl)
theorem dX8_rank_1 : decode cX8_rank 1 = .ok (.bipush 7, 2) := dk_16 7 (dk_at dksX8_rank_0 1 rfl rfl)
theorem dX8_rank_3 : decode cX8_rank 3 = .ok (.invokevirtual 143, 3) := dk_182 0 143 (dk_at dksX8_rank_0 3 rfl rfl)
theorem dX8_rank_6 : decode cX8_rank 6 = .ok (.lookupswitch 41 #[(0, 26), (1, 28)], 26) := by decide +kernel
theorem dX8_rank_32 : decode cX8_rank 32 = .ok (.iload_n 1, 1) := dk_27 (dk_at dksX8_rank_2 0 rfl rfl)
theorem dX8_rank_33 : decode cX8_rank 33 = .ok (.ireturn, 1) := dk_172 (dk_at dksX8_rank_2 1 rfl rfl)
theorem dX8_rank_34 : decode cX8_rank 34 = .ok (.aload_n 0, 1) := dk_42 (dk_at dksX8_rank_2 2 rfl rfl)
theorem dX8_rank_35 : decode cX8_rank 35 = .ok (.iload_n 1, 1) := dk_27 (dk_at dksX8_rank_2 3 rfl rfl)
theorem dX8_rank_36 : decode cX8_rank 36 = .ok (.invokevirtual 327, 3) := dk_182 1 71 (dk_at dksX8_rank_2 4 rfl rfl)
theorem dX8_rank_39 : decode cX8_rank 39 = .ok (.aload_n 0, 1) := dk_42 (dk_at dksX8_rank_2 7 rfl rfl)
theorem dX8_rank_40 : decode cX8_rank 40 = .ok (.getfield 58, 3) := dk_180 0 58 (dk_at dksX8_rank_2 8 rfl rfl)
theorem dX8_rank_43 : decode cX8_rank 43 = .ok (.iload_n 1, 1) := dk_27 (dk_at dksX8_rank_2 11 rfl rfl)
theorem dX8_rank_44 : decode cX8_rank 44 = .ok (.iaload, 1) := dk_46 (dk_at dksX8_rank_2 12 rfl rfl)
theorem dX8_rank_45 : decode cX8_rank 45 = .ok (.isub, 1) := dk_100 (dk_at dksX8_rank_2 13 rfl rfl)
theorem dX8_rank_46 : decode cX8_rank 46 = .ok (.ireturn, 1) := dk_172 (dk_at dksX8_rank_2 14 rfl rfl)
theorem dX8_rank_47 : decode cX8_rank 47 = .ok (.aload_n 0, 1) := dk_42 (dk_at dksX8_rank_2 15 rfl rfl)
theorem dX8_rank_48 : decode cX8_rank 48 = .ok (.iload_n 1, 1) := dk_27 (dk_at dksX8_rank_2 16 rfl rfl)
theorem dX8_rank_49 : decode cX8_rank 49 = .ok (.iconst 2, 1) := dk_5 (dk_at dksX8_rank_2 17 rfl rfl)
theorem dX8_rank_50 : decode cX8_rank 50 = .ok (.invokevirtual 306, 3) := dk_182 1 50 (dk_at dksX8_rank_2 18 rfl rfl)
theorem dX8_rank_53 : decode cX8_rank 53 = .ok (.ireturn, 1) := dk_172 (dk_at dksX8_rank_2 21 rfl rfl)
abbrev cX8_beginsBaking : ByteArray := prog_13_method_76_code
def yX8_beginsBaking : MethodName := ⟨RX8, "beginsBaking", "(I)V"⟩
def dkwX8_beginsBaking_5 : List UInt8 := [79, 132, 2, 1, 167, 255, 137, 177]
abbrev dktX8_beginsBaking_5 : List UInt8 := dkwX8_beginsBaking_5 ++ []
def dkwX8_beginsBaking_4 : List UInt8 := [180, 0, 70, 29, 28, 79, 42, 180, 0, 73, 29, 27, 79, 42, 180, 0, 85, 29, 42, 180, 0, 58, 29, 46]
abbrev dktX8_beginsBaking_4 : List UInt8 := dkwX8_beginsBaking_4 ++ dktX8_beginsBaking_5
def dkwX8_beginsBaking_3 : List UInt8 := [28, 27, 42, 180, 0, 25, 42, 29, 182, 1, 56, 46, 96, 79, 42, 180, 0, 55, 29, 7, 79, 42]
abbrev dktX8_beginsBaking_3 : List UInt8 := dkwX8_beginsBaking_3 ++ dktX8_beginsBaking_4
def dkwX8_beginsBaking_2 : List UInt8 := [154, 0, 6, 167, 0, 68, 42, 180, 0, 100, 28, 2, 79, 42, 180, 0, 103, 28, 29, 79, 42, 180, 0, 106]
abbrev dktX8_beginsBaking_2 : List UInt8 := dkwX8_beginsBaking_2 ++ dktX8_beginsBaking_3
def dkwX8_beginsBaking_1 : List UInt8 := [180, 0, 109, 28, 46, 42, 180, 0, 28, 42, 29, 182, 1, 56, 46, 160, 0, 79, 42, 29, 182, 1, 77]
abbrev dktX8_beginsBaking_1 : List UInt8 := dkwX8_beginsBaking_1 ++ dktX8_beginsBaking_2
def dkwX8_beginsBaking_0 : List UInt8 := [3, 61, 28, 42, 4, 182, 0, 143, 162, 0, 116, 42, 180, 0, 100, 28, 46, 62, 29, 2, 159, 0, 98, 42]
abbrev dktX8_beginsBaking_0 : List UInt8 := dkwX8_beginsBaking_0 ++ dktX8_beginsBaking_1
theorem dksX8_beginsBaking_0 : cX8_beginsBaking.data.toList.drop 0 = dktX8_beginsBaking_0 := by decide +kernel
theorem dksX8_beginsBaking_1 : cX8_beginsBaking.data.toList.drop 24 = dktX8_beginsBaking_1 := dk_seg dksX8_beginsBaking_0 24 rfl rfl
theorem dksX8_beginsBaking_2 : cX8_beginsBaking.data.toList.drop 47 = dktX8_beginsBaking_2 := dk_seg dksX8_beginsBaking_1 23 rfl rfl
theorem dksX8_beginsBaking_3 : cX8_beginsBaking.data.toList.drop 71 = dktX8_beginsBaking_3 := dk_seg dksX8_beginsBaking_2 24 rfl rfl
theorem dksX8_beginsBaking_4 : cX8_beginsBaking.data.toList.drop 93 = dktX8_beginsBaking_4 := dk_seg dksX8_beginsBaking_3 22 rfl rfl
theorem dksX8_beginsBaking_5 : cX8_beginsBaking.data.toList.drop 117 = dktX8_beginsBaking_5 := dk_seg dksX8_beginsBaking_4 24 rfl rfl
theorem dX8_beginsBaking_0 : decode cX8_beginsBaking 0 = .ok (.iconst 0, 1) := dk_3 (dk_at dksX8_beginsBaking_0 0 rfl rfl)
theorem dX8_beginsBaking_1 : decode cX8_beginsBaking 1 = .ok (.istore_n 2, 1) := dk_61 (dk_at dksX8_beginsBaking_0 1 rfl rfl)
theorem dX8_beginsBaking_2 : decode cX8_beginsBaking 2 = .ok (.iload_n 2, 1) := dk_28 (dk_at dksX8_beginsBaking_0 2 rfl rfl)
theorem dX8_beginsBaking_3 : decode cX8_beginsBaking 3 = .ok (.aload_n 0, 1) := dk_42 (dk_at dksX8_beginsBaking_0 3 rfl rfl)
theorem dX8_beginsBaking_4 : decode cX8_beginsBaking 4 = .ok (.iconst 1, 1) := dk_4 (dk_at dksX8_beginsBaking_0 4 rfl rfl)
theorem dX8_beginsBaking_5 : decode cX8_beginsBaking 5 = .ok (.invokevirtual 143, 3) := dk_182 0 143 (dk_at dksX8_beginsBaking_0 5 rfl rfl)
theorem dX8_beginsBaking_8 : decode cX8_beginsBaking 8 = .ok (.if_icmp .ge 116, 3) := dk_162 0 116 (dk_at dksX8_beginsBaking_0 8 rfl rfl)
theorem dX8_beginsBaking_11 : decode cX8_beginsBaking 11 = .ok (.aload_n 0, 1) := dk_42 (dk_at dksX8_beginsBaking_0 11 rfl rfl)
theorem dX8_beginsBaking_12 : decode cX8_beginsBaking 12 = .ok (.getfield 100, 3) := dk_180 0 100 (dk_at dksX8_beginsBaking_0 12 rfl rfl)
theorem dX8_beginsBaking_15 : decode cX8_beginsBaking 15 = .ok (.iload_n 2, 1) := dk_28 (dk_at dksX8_beginsBaking_0 15 rfl rfl)
theorem dX8_beginsBaking_16 : decode cX8_beginsBaking 16 = .ok (.iaload, 1) := dk_46 (dk_at dksX8_beginsBaking_0 16 rfl rfl)
theorem dX8_beginsBaking_17 : decode cX8_beginsBaking 17 = .ok (.istore_n 3, 1) := dk_62 (dk_at dksX8_beginsBaking_0 17 rfl rfl)
theorem dX8_beginsBaking_18 : decode cX8_beginsBaking 18 = .ok (.iload_n 3, 1) := dk_29 (dk_at dksX8_beginsBaking_0 18 rfl rfl)
theorem dX8_beginsBaking_19 : decode cX8_beginsBaking 19 = .ok (.iconst (-1), 1) := dk_2 (dk_at dksX8_beginsBaking_0 19 rfl rfl)
theorem dX8_beginsBaking_20 : decode cX8_beginsBaking 20 = .ok (.if_icmp .eq 98, 3) := dk_159 0 98 (dk_at dksX8_beginsBaking_0 20 rfl rfl)
theorem dX8_beginsBaking_23 : decode cX8_beginsBaking 23 = .ok (.aload_n 0, 1) := dk_42 (dk_at dksX8_beginsBaking_0 23 rfl rfl)
theorem dX8_beginsBaking_24 : decode cX8_beginsBaking 24 = .ok (.getfield 109, 3) := dk_180 0 109 (dk_at dksX8_beginsBaking_1 0 rfl rfl)
theorem dX8_beginsBaking_27 : decode cX8_beginsBaking 27 = .ok (.iload_n 2, 1) := dk_28 (dk_at dksX8_beginsBaking_1 3 rfl rfl)
theorem dX8_beginsBaking_28 : decode cX8_beginsBaking 28 = .ok (.iaload, 1) := dk_46 (dk_at dksX8_beginsBaking_1 4 rfl rfl)
theorem dX8_beginsBaking_29 : decode cX8_beginsBaking 29 = .ok (.aload_n 0, 1) := dk_42 (dk_at dksX8_beginsBaking_1 5 rfl rfl)
theorem dX8_beginsBaking_30 : decode cX8_beginsBaking 30 = .ok (.getfield 28, 3) := dk_180 0 28 (dk_at dksX8_beginsBaking_1 6 rfl rfl)
theorem dX8_beginsBaking_33 : decode cX8_beginsBaking 33 = .ok (.aload_n 0, 1) := dk_42 (dk_at dksX8_beginsBaking_1 9 rfl rfl)
theorem dX8_beginsBaking_34 : decode cX8_beginsBaking 34 = .ok (.iload_n 3, 1) := dk_29 (dk_at dksX8_beginsBaking_1 10 rfl rfl)
theorem dX8_beginsBaking_35 : decode cX8_beginsBaking 35 = .ok (.invokevirtual 312, 3) := dk_182 1 56 (dk_at dksX8_beginsBaking_1 11 rfl rfl)
theorem dX8_beginsBaking_38 : decode cX8_beginsBaking 38 = .ok (.iaload, 1) := dk_46 (dk_at dksX8_beginsBaking_1 14 rfl rfl)
theorem dX8_beginsBaking_39 : decode cX8_beginsBaking 39 = .ok (.if_icmp .ne 79, 3) := dk_160 0 79 (dk_at dksX8_beginsBaking_1 15 rfl rfl)
theorem dX8_beginsBaking_42 : decode cX8_beginsBaking 42 = .ok (.aload_n 0, 1) := dk_42 (dk_at dksX8_beginsBaking_1 18 rfl rfl)
theorem dX8_beginsBaking_43 : decode cX8_beginsBaking 43 = .ok (.iload_n 3, 1) := dk_29 (dk_at dksX8_beginsBaking_1 19 rfl rfl)
theorem dX8_beginsBaking_44 : decode cX8_beginsBaking 44 = .ok (.invokevirtual 333, 3) := dk_182 1 77 (dk_at dksX8_beginsBaking_1 20 rfl rfl)
theorem dX8_beginsBaking_47 : decode cX8_beginsBaking 47 = .ok (.ifCond .ne 6, 3) := dk_154 0 6 (dk_at dksX8_beginsBaking_2 0 rfl rfl)
theorem dX8_beginsBaking_50 : decode cX8_beginsBaking 50 = .ok (.goto 68, 3) := dk_167 0 68 (dk_at dksX8_beginsBaking_2 3 rfl rfl)
theorem dX8_beginsBaking_53 : decode cX8_beginsBaking 53 = .ok (.aload_n 0, 1) := dk_42 (dk_at dksX8_beginsBaking_2 6 rfl rfl)
theorem dX8_beginsBaking_54 : decode cX8_beginsBaking 54 = .ok (.getfield 100, 3) := dk_180 0 100 (dk_at dksX8_beginsBaking_2 7 rfl rfl)
theorem dX8_beginsBaking_57 : decode cX8_beginsBaking 57 = .ok (.iload_n 2, 1) := dk_28 (dk_at dksX8_beginsBaking_2 10 rfl rfl)
theorem dX8_beginsBaking_58 : decode cX8_beginsBaking 58 = .ok (.iconst (-1), 1) := dk_2 (dk_at dksX8_beginsBaking_2 11 rfl rfl)
theorem dX8_beginsBaking_59 : decode cX8_beginsBaking 59 = .ok (.iastore, 1) := dk_79 (dk_at dksX8_beginsBaking_2 12 rfl rfl)
theorem dX8_beginsBaking_60 : decode cX8_beginsBaking 60 = .ok (.aload_n 0, 1) := dk_42 (dk_at dksX8_beginsBaking_2 13 rfl rfl)
theorem dX8_beginsBaking_61 : decode cX8_beginsBaking 61 = .ok (.getfield 103, 3) := dk_180 0 103 (dk_at dksX8_beginsBaking_2 14 rfl rfl)
theorem dX8_beginsBaking_64 : decode cX8_beginsBaking 64 = .ok (.iload_n 2, 1) := dk_28 (dk_at dksX8_beginsBaking_2 17 rfl rfl)
theorem dX8_beginsBaking_65 : decode cX8_beginsBaking 65 = .ok (.iload_n 3, 1) := dk_29 (dk_at dksX8_beginsBaking_2 18 rfl rfl)
theorem dX8_beginsBaking_66 : decode cX8_beginsBaking 66 = .ok (.iastore, 1) := dk_79 (dk_at dksX8_beginsBaking_2 19 rfl rfl)
theorem dX8_beginsBaking_67 : decode cX8_beginsBaking 67 = .ok (.aload_n 0, 1) := dk_42 (dk_at dksX8_beginsBaking_2 20 rfl rfl)
theorem dX8_beginsBaking_68 : decode cX8_beginsBaking 68 = .ok (.getfield 106, 3) := dk_180 0 106 (dk_at dksX8_beginsBaking_2 21 rfl rfl)
theorem dX8_beginsBaking_71 : decode cX8_beginsBaking 71 = .ok (.iload_n 2, 1) := dk_28 (dk_at dksX8_beginsBaking_3 0 rfl rfl)
theorem dX8_beginsBaking_72 : decode cX8_beginsBaking 72 = .ok (.iload_n 1, 1) := dk_27 (dk_at dksX8_beginsBaking_3 1 rfl rfl)
theorem dX8_beginsBaking_73 : decode cX8_beginsBaking 73 = .ok (.aload_n 0, 1) := dk_42 (dk_at dksX8_beginsBaking_3 2 rfl rfl)
theorem dX8_beginsBaking_74 : decode cX8_beginsBaking 74 = .ok (.getfield 25, 3) := dk_180 0 25 (dk_at dksX8_beginsBaking_3 3 rfl rfl)
theorem dX8_beginsBaking_77 : decode cX8_beginsBaking 77 = .ok (.aload_n 0, 1) := dk_42 (dk_at dksX8_beginsBaking_3 6 rfl rfl)
theorem dX8_beginsBaking_78 : decode cX8_beginsBaking 78 = .ok (.iload_n 3, 1) := dk_29 (dk_at dksX8_beginsBaking_3 7 rfl rfl)
theorem dX8_beginsBaking_79 : decode cX8_beginsBaking 79 = .ok (.invokevirtual 312, 3) := dk_182 1 56 (dk_at dksX8_beginsBaking_3 8 rfl rfl)
theorem dX8_beginsBaking_82 : decode cX8_beginsBaking 82 = .ok (.iaload, 1) := dk_46 (dk_at dksX8_beginsBaking_3 11 rfl rfl)
theorem dX8_beginsBaking_83 : decode cX8_beginsBaking 83 = .ok (.iadd, 1) := dk_96 (dk_at dksX8_beginsBaking_3 12 rfl rfl)
theorem dX8_beginsBaking_84 : decode cX8_beginsBaking 84 = .ok (.iastore, 1) := dk_79 (dk_at dksX8_beginsBaking_3 13 rfl rfl)
theorem dX8_beginsBaking_85 : decode cX8_beginsBaking 85 = .ok (.aload_n 0, 1) := dk_42 (dk_at dksX8_beginsBaking_3 14 rfl rfl)
theorem dX8_beginsBaking_86 : decode cX8_beginsBaking 86 = .ok (.getfield 55, 3) := dk_180 0 55 (dk_at dksX8_beginsBaking_3 15 rfl rfl)
theorem dX8_beginsBaking_89 : decode cX8_beginsBaking 89 = .ok (.iload_n 3, 1) := dk_29 (dk_at dksX8_beginsBaking_3 18 rfl rfl)
theorem dX8_beginsBaking_90 : decode cX8_beginsBaking 90 = .ok (.iconst 4, 1) := dk_7 (dk_at dksX8_beginsBaking_3 19 rfl rfl)
theorem dX8_beginsBaking_91 : decode cX8_beginsBaking 91 = .ok (.iastore, 1) := dk_79 (dk_at dksX8_beginsBaking_3 20 rfl rfl)
theorem dX8_beginsBaking_92 : decode cX8_beginsBaking 92 = .ok (.aload_n 0, 1) := dk_42 (dk_at dksX8_beginsBaking_3 21 rfl rfl)
theorem dX8_beginsBaking_93 : decode cX8_beginsBaking 93 = .ok (.getfield 70, 3) := dk_180 0 70 (dk_at dksX8_beginsBaking_4 0 rfl rfl)
theorem dX8_beginsBaking_96 : decode cX8_beginsBaking 96 = .ok (.iload_n 3, 1) := dk_29 (dk_at dksX8_beginsBaking_4 3 rfl rfl)
theorem dX8_beginsBaking_97 : decode cX8_beginsBaking 97 = .ok (.iload_n 2, 1) := dk_28 (dk_at dksX8_beginsBaking_4 4 rfl rfl)
theorem dX8_beginsBaking_98 : decode cX8_beginsBaking 98 = .ok (.iastore, 1) := dk_79 (dk_at dksX8_beginsBaking_4 5 rfl rfl)
theorem dX8_beginsBaking_99 : decode cX8_beginsBaking 99 = .ok (.aload_n 0, 1) := dk_42 (dk_at dksX8_beginsBaking_4 6 rfl rfl)
theorem dX8_beginsBaking_100 : decode cX8_beginsBaking 100 = .ok (.getfield 73, 3) := dk_180 0 73 (dk_at dksX8_beginsBaking_4 7 rfl rfl)
theorem dX8_beginsBaking_103 : decode cX8_beginsBaking 103 = .ok (.iload_n 3, 1) := dk_29 (dk_at dksX8_beginsBaking_4 10 rfl rfl)
theorem dX8_beginsBaking_104 : decode cX8_beginsBaking 104 = .ok (.iload_n 1, 1) := dk_27 (dk_at dksX8_beginsBaking_4 11 rfl rfl)
theorem dX8_beginsBaking_105 : decode cX8_beginsBaking 105 = .ok (.iastore, 1) := dk_79 (dk_at dksX8_beginsBaking_4 12 rfl rfl)
theorem dX8_beginsBaking_106 : decode cX8_beginsBaking 106 = .ok (.aload_n 0, 1) := dk_42 (dk_at dksX8_beginsBaking_4 13 rfl rfl)
theorem dX8_beginsBaking_107 : decode cX8_beginsBaking 107 = .ok (.getfield 85, 3) := dk_180 0 85 (dk_at dksX8_beginsBaking_4 14 rfl rfl)
theorem dX8_beginsBaking_110 : decode cX8_beginsBaking 110 = .ok (.iload_n 3, 1) := dk_29 (dk_at dksX8_beginsBaking_4 17 rfl rfl)
theorem dX8_beginsBaking_111 : decode cX8_beginsBaking 111 = .ok (.aload_n 0, 1) := dk_42 (dk_at dksX8_beginsBaking_4 18 rfl rfl)
theorem dX8_beginsBaking_112 : decode cX8_beginsBaking 112 = .ok (.getfield 58, 3) := dk_180 0 58 (dk_at dksX8_beginsBaking_4 19 rfl rfl)
theorem dX8_beginsBaking_115 : decode cX8_beginsBaking 115 = .ok (.iload_n 3, 1) := dk_29 (dk_at dksX8_beginsBaking_4 22 rfl rfl)
theorem dX8_beginsBaking_116 : decode cX8_beginsBaking 116 = .ok (.iaload, 1) := dk_46 (dk_at dksX8_beginsBaking_4 23 rfl rfl)
theorem dX8_beginsBaking_117 : decode cX8_beginsBaking 117 = .ok (.iastore, 1) := dk_79 (dk_at dksX8_beginsBaking_5 0 rfl rfl)
theorem dX8_beginsBaking_118 : decode cX8_beginsBaking 118 = .ok (.iinc 2 1, 3) := dk_132 2 1 (dk_at dksX8_beginsBaking_5 1 rfl rfl)
theorem dX8_beginsBaking_121 : decode cX8_beginsBaking 121 = .ok (.goto (-119), 3) := dk_167 255 137 (dk_at dksX8_beginsBaking_5 4 rfl rfl)
theorem dX8_beginsBaking_124 : decode cX8_beginsBaking 124 = .ok (.return_, 1) := dk_177 (dk_at dksX8_beginsBaking_5 7 rfl rfl)
abbrev cX8_shelves : ByteArray := prog_13_method_78_code
def yX8_shelves : MethodName := ⟨RX8, "shelves", "()V"⟩
def dkwX8_shelves_2 : List UInt8 := [42, 180, 0, 55, 28, 6, 79, 132, 1, 1, 132, 2, 1, 167, 255, 205, 177]
abbrev dktX8_shelves_2 : List UInt8 := dkwX8_shelves_2 ++ []
def dkwX8_shelves_1 : List UInt8 := [162, 0, 40, 42, 180, 0, 55, 28, 46, 5, 160, 0, 24, 42, 28, 182, 1, 77, 154, 0, 6, 167, 0, 13]
abbrev dktX8_shelves_1 : List UInt8 := dkwX8_shelves_1 ++ dktX8_shelves_2
def dkwX8_shelves_0 : List UInt8 := [42, 6, 182, 1, 104, 60, 3, 61, 28, 42, 182, 0, 147, 162, 0, 49, 27, 42, 5, 182, 0, 143]
abbrev dktX8_shelves_0 : List UInt8 := dkwX8_shelves_0 ++ dktX8_shelves_1
theorem dksX8_shelves_0 : cX8_shelves.data.toList.drop 0 = dktX8_shelves_0 := by decide +kernel
theorem dksX8_shelves_1 : cX8_shelves.data.toList.drop 22 = dktX8_shelves_1 := dk_seg dksX8_shelves_0 22 rfl rfl
theorem dksX8_shelves_2 : cX8_shelves.data.toList.drop 46 = dktX8_shelves_2 := dk_seg dksX8_shelves_1 24 rfl rfl
theorem dX8_shelves_0 : decode cX8_shelves 0 = .ok (.aload_n 0, 1) := dk_42 (dk_at dksX8_shelves_0 0 rfl rfl)
theorem dX8_shelves_1 : decode cX8_shelves 1 = .ok (.iconst 3, 1) := dk_6 (dk_at dksX8_shelves_0 1 rfl rfl)
theorem dX8_shelves_2 : decode cX8_shelves 2 = .ok (.invokevirtual 360, 3) := dk_182 1 104 (dk_at dksX8_shelves_0 2 rfl rfl)
theorem dX8_shelves_5 : decode cX8_shelves 5 = .ok (.istore_n 1, 1) := dk_60 (dk_at dksX8_shelves_0 5 rfl rfl)
theorem dX8_shelves_6 : decode cX8_shelves 6 = .ok (.iconst 0, 1) := dk_3 (dk_at dksX8_shelves_0 6 rfl rfl)
theorem dX8_shelves_7 : decode cX8_shelves 7 = .ok (.istore_n 2, 1) := dk_61 (dk_at dksX8_shelves_0 7 rfl rfl)
theorem dX8_shelves_8 : decode cX8_shelves 8 = .ok (.iload_n 2, 1) := dk_28 (dk_at dksX8_shelves_0 8 rfl rfl)
theorem dX8_shelves_9 : decode cX8_shelves 9 = .ok (.aload_n 0, 1) := dk_42 (dk_at dksX8_shelves_0 9 rfl rfl)
theorem dX8_shelves_10 : decode cX8_shelves 10 = .ok (.invokevirtual 147, 3) := dk_182 0 147 (dk_at dksX8_shelves_0 10 rfl rfl)
theorem dX8_shelves_13 : decode cX8_shelves 13 = .ok (.if_icmp .ge 49, 3) := dk_162 0 49 (dk_at dksX8_shelves_0 13 rfl rfl)
theorem dX8_shelves_16 : decode cX8_shelves 16 = .ok (.iload_n 1, 1) := dk_27 (dk_at dksX8_shelves_0 16 rfl rfl)
theorem dX8_shelves_17 : decode cX8_shelves 17 = .ok (.aload_n 0, 1) := dk_42 (dk_at dksX8_shelves_0 17 rfl rfl)
theorem dX8_shelves_18 : decode cX8_shelves 18 = .ok (.iconst 2, 1) := dk_5 (dk_at dksX8_shelves_0 18 rfl rfl)
theorem dX8_shelves_19 : decode cX8_shelves 19 = .ok (.invokevirtual 143, 3) := dk_182 0 143 (dk_at dksX8_shelves_0 19 rfl rfl)
theorem dX8_shelves_22 : decode cX8_shelves 22 = .ok (.if_icmp .ge 40, 3) := dk_162 0 40 (dk_at dksX8_shelves_1 0 rfl rfl)
theorem dX8_shelves_25 : decode cX8_shelves 25 = .ok (.aload_n 0, 1) := dk_42 (dk_at dksX8_shelves_1 3 rfl rfl)
theorem dX8_shelves_26 : decode cX8_shelves 26 = .ok (.getfield 55, 3) := dk_180 0 55 (dk_at dksX8_shelves_1 4 rfl rfl)
theorem dX8_shelves_29 : decode cX8_shelves 29 = .ok (.iload_n 2, 1) := dk_28 (dk_at dksX8_shelves_1 7 rfl rfl)
theorem dX8_shelves_30 : decode cX8_shelves 30 = .ok (.iaload, 1) := dk_46 (dk_at dksX8_shelves_1 8 rfl rfl)
theorem dX8_shelves_31 : decode cX8_shelves 31 = .ok (.iconst 2, 1) := dk_5 (dk_at dksX8_shelves_1 9 rfl rfl)
theorem dX8_shelves_32 : decode cX8_shelves 32 = .ok (.if_icmp .ne 24, 3) := dk_160 0 24 (dk_at dksX8_shelves_1 10 rfl rfl)
theorem dX8_shelves_35 : decode cX8_shelves 35 = .ok (.aload_n 0, 1) := dk_42 (dk_at dksX8_shelves_1 13 rfl rfl)
theorem dX8_shelves_36 : decode cX8_shelves 36 = .ok (.iload_n 2, 1) := dk_28 (dk_at dksX8_shelves_1 14 rfl rfl)
theorem dX8_shelves_37 : decode cX8_shelves 37 = .ok (.invokevirtual 333, 3) := dk_182 1 77 (dk_at dksX8_shelves_1 15 rfl rfl)
theorem dX8_shelves_40 : decode cX8_shelves 40 = .ok (.ifCond .ne 6, 3) := dk_154 0 6 (dk_at dksX8_shelves_1 18 rfl rfl)
theorem dX8_shelves_43 : decode cX8_shelves 43 = .ok (.goto 13, 3) := dk_167 0 13 (dk_at dksX8_shelves_1 21 rfl rfl)
theorem dX8_shelves_46 : decode cX8_shelves 46 = .ok (.aload_n 0, 1) := dk_42 (dk_at dksX8_shelves_2 0 rfl rfl)
theorem dX8_shelves_47 : decode cX8_shelves 47 = .ok (.getfield 55, 3) := dk_180 0 55 (dk_at dksX8_shelves_2 1 rfl rfl)
theorem dX8_shelves_50 : decode cX8_shelves 50 = .ok (.iload_n 2, 1) := dk_28 (dk_at dksX8_shelves_2 4 rfl rfl)
theorem dX8_shelves_51 : decode cX8_shelves 51 = .ok (.iconst 3, 1) := dk_6 (dk_at dksX8_shelves_2 5 rfl rfl)
theorem dX8_shelves_52 : decode cX8_shelves 52 = .ok (.iastore, 1) := dk_79 (dk_at dksX8_shelves_2 6 rfl rfl)
theorem dX8_shelves_53 : decode cX8_shelves 53 = .ok (.iinc 1 1, 3) := dk_132 1 1 (dk_at dksX8_shelves_2 7 rfl rfl)
theorem dX8_shelves_56 : decode cX8_shelves 56 = .ok (.iinc 2 1, 3) := dk_132 2 1 (dk_at dksX8_shelves_2 10 rfl rfl)
theorem dX8_shelves_59 : decode cX8_shelves 59 = .ok (.goto (-51), 3) := dk_167 255 205 (dk_at dksX8_shelves_2 13 rfl rfl)
theorem dX8_shelves_62 : decode cX8_shelves 62 = .ok (.return_, 1) := dk_177 (dk_at dksX8_shelves_2 16 rfl rfl)
abbrev cX8_manyAt : ByteArray := prog_13_method_77_code
def yX8_manyAt : MethodName := ⟨RX8, "manyAt", "(I)I"⟩
def dkwX8_manyAt_1 : List UInt8 := [132, 2, 1, 132, 3, 1, 167, 255, 232, 28, 172]
abbrev dktX8_manyAt_1 : List UInt8 := dkwX8_manyAt_1 ++ []
def dkwX8_manyAt_0 : List UInt8 := [3, 61, 3, 62, 29, 42, 182, 0, 147, 162, 0, 22, 42, 180, 0, 55, 29, 46, 27, 160, 0, 6]
abbrev dktX8_manyAt_0 : List UInt8 := dkwX8_manyAt_0 ++ dktX8_manyAt_1
theorem dksX8_manyAt_0 : cX8_manyAt.data.toList.drop 0 = dktX8_manyAt_0 := by decide +kernel
theorem dksX8_manyAt_1 : cX8_manyAt.data.toList.drop 22 = dktX8_manyAt_1 := dk_seg dksX8_manyAt_0 22 rfl rfl
theorem dX8_manyAt_0 : decode cX8_manyAt 0 = .ok (.iconst 0, 1) := dk_3 (dk_at dksX8_manyAt_0 0 rfl rfl)
theorem dX8_manyAt_1 : decode cX8_manyAt 1 = .ok (.istore_n 2, 1) := dk_61 (dk_at dksX8_manyAt_0 1 rfl rfl)
theorem dX8_manyAt_2 : decode cX8_manyAt 2 = .ok (.iconst 0, 1) := dk_3 (dk_at dksX8_manyAt_0 2 rfl rfl)
theorem dX8_manyAt_3 : decode cX8_manyAt 3 = .ok (.istore_n 3, 1) := dk_62 (dk_at dksX8_manyAt_0 3 rfl rfl)
theorem dX8_manyAt_4 : decode cX8_manyAt 4 = .ok (.iload_n 3, 1) := dk_29 (dk_at dksX8_manyAt_0 4 rfl rfl)
theorem dX8_manyAt_5 : decode cX8_manyAt 5 = .ok (.aload_n 0, 1) := dk_42 (dk_at dksX8_manyAt_0 5 rfl rfl)
theorem dX8_manyAt_6 : decode cX8_manyAt 6 = .ok (.invokevirtual 147, 3) := dk_182 0 147 (dk_at dksX8_manyAt_0 6 rfl rfl)
theorem dX8_manyAt_9 : decode cX8_manyAt 9 = .ok (.if_icmp .ge 22, 3) := dk_162 0 22 (dk_at dksX8_manyAt_0 9 rfl rfl)
theorem dX8_manyAt_12 : decode cX8_manyAt 12 = .ok (.aload_n 0, 1) := dk_42 (dk_at dksX8_manyAt_0 12 rfl rfl)
theorem dX8_manyAt_13 : decode cX8_manyAt 13 = .ok (.getfield 55, 3) := dk_180 0 55 (dk_at dksX8_manyAt_0 13 rfl rfl)
theorem dX8_manyAt_16 : decode cX8_manyAt 16 = .ok (.iload_n 3, 1) := dk_29 (dk_at dksX8_manyAt_0 16 rfl rfl)
theorem dX8_manyAt_17 : decode cX8_manyAt 17 = .ok (.iaload, 1) := dk_46 (dk_at dksX8_manyAt_0 17 rfl rfl)
theorem dX8_manyAt_18 : decode cX8_manyAt 18 = .ok (.iload_n 1, 1) := dk_27 (dk_at dksX8_manyAt_0 18 rfl rfl)
theorem dX8_manyAt_19 : decode cX8_manyAt 19 = .ok (.if_icmp .ne 6, 3) := dk_160 0 6 (dk_at dksX8_manyAt_0 19 rfl rfl)
theorem dX8_manyAt_22 : decode cX8_manyAt 22 = .ok (.iinc 2 1, 3) := dk_132 2 1 (dk_at dksX8_manyAt_1 0 rfl rfl)
theorem dX8_manyAt_25 : decode cX8_manyAt 25 = .ok (.iinc 3 1, 3) := dk_132 3 1 (dk_at dksX8_manyAt_1 3 rfl rfl)
theorem dX8_manyAt_28 : decode cX8_manyAt 28 = .ok (.goto (-24), 3) := dk_167 255 232 (dk_at dksX8_manyAt_1 6 rfl rfl)
theorem dX8_manyAt_31 : decode cX8_manyAt 31 = .ok (.iload_n 2, 1) := dk_28 (dk_at dksX8_manyAt_1 9 rfl rfl)
theorem dX8_manyAt_32 : decode cX8_manyAt 32 = .ok (.ireturn, 1) := dk_172 (dk_at dksX8_manyAt_1 10 rfl rfl)
abbrev cX8_beginsMixing : ByteArray := prog_13_method_80_code
def yX8_beginsMixing : MethodName := ⟨RX8, "beginsMixing", "(I)V"⟩
def dkwX8_beginsMixing_8 : List UInt8 := [167, 255, 75, 177]
abbrev dktX8_beginsMixing_8 : List UInt8 := dkwX8_beginsMixing_8 ++ []
def dkwX8_beginsMixing_7 : List UInt8 := [180, 0, 55, 29, 4, 79, 42, 180, 0, 61, 29, 28, 79, 42, 180, 0, 64, 29, 21, 6, 79, 132, 2, 1]
abbrev dktX8_beginsMixing_7 : List UInt8 := dkwX8_beginsMixing_7 ++ dktX8_beginsMixing_8
def dkwX8_beginsMixing_6 : List UInt8 := [180, 0, 88, 28, 29, 79, 42, 180, 0, 91, 28, 21, 6, 42, 180, 0, 16, 21, 4, 46, 96, 79, 42]
abbrev dktX8_beginsMixing_6 : List UInt8 := dkwX8_beginsMixing_6 ++ dktX8_beginsMixing_7
def dkwX8_beginsMixing_5 : List UInt8 := [180, 0, 94, 28, 42, 180, 0, 13, 21, 4, 46, 79, 42, 180, 0, 97, 28, 92, 46, 4, 96, 79, 42]
abbrev dktX8_beginsMixing_5 : List UInt8 := dkwX8_beginsMixing_5 ++ dktX8_beginsMixing_6
def dkwX8_beginsMixing_4 : List UInt8 := [181, 1, 62, 21, 5, 153, 0, 13, 27, 42, 6, 182, 0, 143, 96, 167, 0, 4, 27, 54, 6, 42]
abbrev dktX8_beginsMixing_4 : List UInt8 := dkwX8_beginsMixing_4 ++ dktX8_beginsMixing_5
def dkwX8_beginsMixing_3 : List UInt8 := [159, 0, 7, 4, 167, 0, 4, 3, 54, 5, 21, 5, 153, 0, 13, 42, 89, 180, 1, 62, 4, 96]
abbrev dktX8_beginsMixing_3 : List UInt8 := dkwX8_beginsMixing_3 ++ dktX8_beginsMixing_4
def dkwX8_beginsMixing_2 : List UInt8 := [180, 0, 94, 28, 46, 2, 159, 0, 23, 42, 180, 0, 94, 28, 46, 42, 180, 0, 13, 21, 4, 46]
abbrev dktX8_beginsMixing_2 : List UInt8 := dkwX8_beginsMixing_2 ++ dktX8_beginsMixing_3
def dkwX8_beginsMixing_1 : List UInt8 := [182, 1, 107, 167, 0, 4, 2, 62, 29, 2, 160, 0, 6, 167, 0, 144, 42, 29, 182, 1, 56, 54, 4, 42]
abbrev dktX8_beginsMixing_1 : List UInt8 := dkwX8_beginsMixing_1 ++ dktX8_beginsMixing_2
def dkwX8_beginsMixing_0 : List UInt8 := [3, 61, 28, 42, 3, 182, 0, 143, 162, 0, 178, 42, 180, 0, 88, 28, 46, 2, 160, 0, 11, 42, 27]
abbrev dktX8_beginsMixing_0 : List UInt8 := dkwX8_beginsMixing_0 ++ dktX8_beginsMixing_1
theorem dksX8_beginsMixing_0 : cX8_beginsMixing.data.toList.drop 0 = dktX8_beginsMixing_0 := by decide +kernel
theorem dksX8_beginsMixing_1 : cX8_beginsMixing.data.toList.drop 23 = dktX8_beginsMixing_1 := dk_seg dksX8_beginsMixing_0 23 rfl rfl
theorem dksX8_beginsMixing_2 : cX8_beginsMixing.data.toList.drop 47 = dktX8_beginsMixing_2 := dk_seg dksX8_beginsMixing_1 24 rfl rfl
theorem dksX8_beginsMixing_3 : cX8_beginsMixing.data.toList.drop 69 = dktX8_beginsMixing_3 := dk_seg dksX8_beginsMixing_2 22 rfl rfl
theorem dksX8_beginsMixing_4 : cX8_beginsMixing.data.toList.drop 91 = dktX8_beginsMixing_4 := dk_seg dksX8_beginsMixing_3 22 rfl rfl
theorem dksX8_beginsMixing_5 : cX8_beginsMixing.data.toList.drop 113 = dktX8_beginsMixing_5 := dk_seg dksX8_beginsMixing_4 22 rfl rfl
theorem dksX8_beginsMixing_6 : cX8_beginsMixing.data.toList.drop 136 = dktX8_beginsMixing_6 := dk_seg dksX8_beginsMixing_5 23 rfl rfl
theorem dksX8_beginsMixing_7 : cX8_beginsMixing.data.toList.drop 159 = dktX8_beginsMixing_7 := dk_seg dksX8_beginsMixing_6 23 rfl rfl
theorem dksX8_beginsMixing_8 : cX8_beginsMixing.data.toList.drop 183 = dktX8_beginsMixing_8 := dk_seg dksX8_beginsMixing_7 24 rfl rfl
theorem dX8_beginsMixing_0 : decode cX8_beginsMixing 0 = .ok (.iconst 0, 1) := dk_3 (dk_at dksX8_beginsMixing_0 0 rfl rfl)
theorem dX8_beginsMixing_1 : decode cX8_beginsMixing 1 = .ok (.istore_n 2, 1) := dk_61 (dk_at dksX8_beginsMixing_0 1 rfl rfl)
theorem dX8_beginsMixing_2 : decode cX8_beginsMixing 2 = .ok (.iload_n 2, 1) := dk_28 (dk_at dksX8_beginsMixing_0 2 rfl rfl)
theorem dX8_beginsMixing_3 : decode cX8_beginsMixing 3 = .ok (.aload_n 0, 1) := dk_42 (dk_at dksX8_beginsMixing_0 3 rfl rfl)
theorem dX8_beginsMixing_4 : decode cX8_beginsMixing 4 = .ok (.iconst 0, 1) := dk_3 (dk_at dksX8_beginsMixing_0 4 rfl rfl)
theorem dX8_beginsMixing_5 : decode cX8_beginsMixing 5 = .ok (.invokevirtual 143, 3) := dk_182 0 143 (dk_at dksX8_beginsMixing_0 5 rfl rfl)
theorem dX8_beginsMixing_8 : decode cX8_beginsMixing 8 = .ok (.if_icmp .ge 178, 3) := dk_162 0 178 (dk_at dksX8_beginsMixing_0 8 rfl rfl)
theorem dX8_beginsMixing_11 : decode cX8_beginsMixing 11 = .ok (.aload_n 0, 1) := dk_42 (dk_at dksX8_beginsMixing_0 11 rfl rfl)
theorem dX8_beginsMixing_12 : decode cX8_beginsMixing 12 = .ok (.getfield 88, 3) := dk_180 0 88 (dk_at dksX8_beginsMixing_0 12 rfl rfl)
theorem dX8_beginsMixing_15 : decode cX8_beginsMixing 15 = .ok (.iload_n 2, 1) := dk_28 (dk_at dksX8_beginsMixing_0 15 rfl rfl)
theorem dX8_beginsMixing_16 : decode cX8_beginsMixing 16 = .ok (.iaload, 1) := dk_46 (dk_at dksX8_beginsMixing_0 16 rfl rfl)
theorem dX8_beginsMixing_17 : decode cX8_beginsMixing 17 = .ok (.iconst (-1), 1) := dk_2 (dk_at dksX8_beginsMixing_0 17 rfl rfl)
theorem dX8_beginsMixing_18 : decode cX8_beginsMixing 18 = .ok (.if_icmp .ne 11, 3) := dk_160 0 11 (dk_at dksX8_beginsMixing_0 18 rfl rfl)
theorem dX8_beginsMixing_21 : decode cX8_beginsMixing 21 = .ok (.aload_n 0, 1) := dk_42 (dk_at dksX8_beginsMixing_0 21 rfl rfl)
theorem dX8_beginsMixing_22 : decode cX8_beginsMixing 22 = .ok (.iload_n 1, 1) := dk_27 (dk_at dksX8_beginsMixing_0 22 rfl rfl)
theorem dX8_beginsMixing_23 : decode cX8_beginsMixing 23 = .ok (.invokevirtual 363, 3) := dk_182 1 107 (dk_at dksX8_beginsMixing_1 0 rfl rfl)
theorem dX8_beginsMixing_26 : decode cX8_beginsMixing 26 = .ok (.goto 4, 3) := dk_167 0 4 (dk_at dksX8_beginsMixing_1 3 rfl rfl)
theorem dX8_beginsMixing_29 : decode cX8_beginsMixing 29 = .ok (.iconst (-1), 1) := dk_2 (dk_at dksX8_beginsMixing_1 6 rfl rfl)
theorem dX8_beginsMixing_30 : decode cX8_beginsMixing 30 = .ok (.istore_n 3, 1) := dk_62 (dk_at dksX8_beginsMixing_1 7 rfl rfl)
theorem dX8_beginsMixing_31 : decode cX8_beginsMixing 31 = .ok (.iload_n 3, 1) := dk_29 (dk_at dksX8_beginsMixing_1 8 rfl rfl)
theorem dX8_beginsMixing_32 : decode cX8_beginsMixing 32 = .ok (.iconst (-1), 1) := dk_2 (dk_at dksX8_beginsMixing_1 9 rfl rfl)
theorem dX8_beginsMixing_33 : decode cX8_beginsMixing 33 = .ok (.if_icmp .ne 6, 3) := dk_160 0 6 (dk_at dksX8_beginsMixing_1 10 rfl rfl)
theorem dX8_beginsMixing_36 : decode cX8_beginsMixing 36 = .ok (.goto 144, 3) := dk_167 0 144 (dk_at dksX8_beginsMixing_1 13 rfl rfl)
theorem dX8_beginsMixing_39 : decode cX8_beginsMixing 39 = .ok (.aload_n 0, 1) := dk_42 (dk_at dksX8_beginsMixing_1 16 rfl rfl)
theorem dX8_beginsMixing_40 : decode cX8_beginsMixing 40 = .ok (.iload_n 3, 1) := dk_29 (dk_at dksX8_beginsMixing_1 17 rfl rfl)
theorem dX8_beginsMixing_41 : decode cX8_beginsMixing 41 = .ok (.invokevirtual 312, 3) := dk_182 1 56 (dk_at dksX8_beginsMixing_1 18 rfl rfl)
theorem dX8_beginsMixing_44 : decode cX8_beginsMixing 44 = .ok (.istore 4, 2) := dk_54 4 (dk_at dksX8_beginsMixing_1 21 rfl rfl)
theorem dX8_beginsMixing_46 : decode cX8_beginsMixing 46 = .ok (.aload_n 0, 1) := dk_42 (dk_at dksX8_beginsMixing_1 23 rfl rfl)
theorem dX8_beginsMixing_47 : decode cX8_beginsMixing 47 = .ok (.getfield 94, 3) := dk_180 0 94 (dk_at dksX8_beginsMixing_2 0 rfl rfl)
theorem dX8_beginsMixing_50 : decode cX8_beginsMixing 50 = .ok (.iload_n 2, 1) := dk_28 (dk_at dksX8_beginsMixing_2 3 rfl rfl)
theorem dX8_beginsMixing_51 : decode cX8_beginsMixing 51 = .ok (.iaload, 1) := dk_46 (dk_at dksX8_beginsMixing_2 4 rfl rfl)
theorem dX8_beginsMixing_52 : decode cX8_beginsMixing 52 = .ok (.iconst (-1), 1) := dk_2 (dk_at dksX8_beginsMixing_2 5 rfl rfl)
theorem dX8_beginsMixing_53 : decode cX8_beginsMixing 53 = .ok (.if_icmp .eq 23, 3) := dk_159 0 23 (dk_at dksX8_beginsMixing_2 6 rfl rfl)
theorem dX8_beginsMixing_56 : decode cX8_beginsMixing 56 = .ok (.aload_n 0, 1) := dk_42 (dk_at dksX8_beginsMixing_2 9 rfl rfl)
theorem dX8_beginsMixing_57 : decode cX8_beginsMixing 57 = .ok (.getfield 94, 3) := dk_180 0 94 (dk_at dksX8_beginsMixing_2 10 rfl rfl)
theorem dX8_beginsMixing_60 : decode cX8_beginsMixing 60 = .ok (.iload_n 2, 1) := dk_28 (dk_at dksX8_beginsMixing_2 13 rfl rfl)
theorem dX8_beginsMixing_61 : decode cX8_beginsMixing 61 = .ok (.iaload, 1) := dk_46 (dk_at dksX8_beginsMixing_2 14 rfl rfl)
theorem dX8_beginsMixing_62 : decode cX8_beginsMixing 62 = .ok (.aload_n 0, 1) := dk_42 (dk_at dksX8_beginsMixing_2 15 rfl rfl)
theorem dX8_beginsMixing_63 : decode cX8_beginsMixing 63 = .ok (.getfield 13, 3) := dk_180 0 13 (dk_at dksX8_beginsMixing_2 16 rfl rfl)
theorem dX8_beginsMixing_66 : decode cX8_beginsMixing 66 = .ok (.iload 4, 2) := dk_21 4 (dk_at dksX8_beginsMixing_2 19 rfl rfl)
theorem dX8_beginsMixing_68 : decode cX8_beginsMixing 68 = .ok (.iaload, 1) := dk_46 (dk_at dksX8_beginsMixing_2 21 rfl rfl)
theorem dX8_beginsMixing_69 : decode cX8_beginsMixing 69 = .ok (.if_icmp .eq 7, 3) := dk_159 0 7 (dk_at dksX8_beginsMixing_3 0 rfl rfl)
theorem dX8_beginsMixing_72 : decode cX8_beginsMixing 72 = .ok (.iconst 1, 1) := dk_4 (dk_at dksX8_beginsMixing_3 3 rfl rfl)
theorem dX8_beginsMixing_73 : decode cX8_beginsMixing 73 = .ok (.goto 4, 3) := dk_167 0 4 (dk_at dksX8_beginsMixing_3 4 rfl rfl)
theorem dX8_beginsMixing_76 : decode cX8_beginsMixing 76 = .ok (.iconst 0, 1) := dk_3 (dk_at dksX8_beginsMixing_3 7 rfl rfl)
theorem dX8_beginsMixing_77 : decode cX8_beginsMixing 77 = .ok (.istore 5, 2) := dk_54 5 (dk_at dksX8_beginsMixing_3 8 rfl rfl)
theorem dX8_beginsMixing_79 : decode cX8_beginsMixing 79 = .ok (.iload 5, 2) := dk_21 5 (dk_at dksX8_beginsMixing_3 10 rfl rfl)
theorem dX8_beginsMixing_81 : decode cX8_beginsMixing 81 = .ok (.ifCond .eq 13, 3) := dk_153 0 13 (dk_at dksX8_beginsMixing_3 12 rfl rfl)
theorem dX8_beginsMixing_84 : decode cX8_beginsMixing 84 = .ok (.aload_n 0, 1) := dk_42 (dk_at dksX8_beginsMixing_3 15 rfl rfl)
theorem dX8_beginsMixing_85 : decode cX8_beginsMixing 85 = .ok (.dup, 1) := dk_89 (dk_at dksX8_beginsMixing_3 16 rfl rfl)
theorem dX8_beginsMixing_86 : decode cX8_beginsMixing 86 = .ok (.getfield 318, 3) := dk_180 1 62 (dk_at dksX8_beginsMixing_3 17 rfl rfl)
theorem dX8_beginsMixing_89 : decode cX8_beginsMixing 89 = .ok (.iconst 1, 1) := dk_4 (dk_at dksX8_beginsMixing_3 20 rfl rfl)
theorem dX8_beginsMixing_90 : decode cX8_beginsMixing 90 = .ok (.iadd, 1) := dk_96 (dk_at dksX8_beginsMixing_3 21 rfl rfl)
theorem dX8_beginsMixing_91 : decode cX8_beginsMixing 91 = .ok (.putfield 318, 3) := dk_181 1 62 (dk_at dksX8_beginsMixing_4 0 rfl rfl)
theorem dX8_beginsMixing_94 : decode cX8_beginsMixing 94 = .ok (.iload 5, 2) := dk_21 5 (dk_at dksX8_beginsMixing_4 3 rfl rfl)
theorem dX8_beginsMixing_96 : decode cX8_beginsMixing 96 = .ok (.ifCond .eq 13, 3) := dk_153 0 13 (dk_at dksX8_beginsMixing_4 5 rfl rfl)
theorem dX8_beginsMixing_99 : decode cX8_beginsMixing 99 = .ok (.iload_n 1, 1) := dk_27 (dk_at dksX8_beginsMixing_4 8 rfl rfl)
theorem dX8_beginsMixing_100 : decode cX8_beginsMixing 100 = .ok (.aload_n 0, 1) := dk_42 (dk_at dksX8_beginsMixing_4 9 rfl rfl)
theorem dX8_beginsMixing_101 : decode cX8_beginsMixing 101 = .ok (.iconst 3, 1) := dk_6 (dk_at dksX8_beginsMixing_4 10 rfl rfl)
theorem dX8_beginsMixing_102 : decode cX8_beginsMixing 102 = .ok (.invokevirtual 143, 3) := dk_182 0 143 (dk_at dksX8_beginsMixing_4 11 rfl rfl)
theorem dX8_beginsMixing_105 : decode cX8_beginsMixing 105 = .ok (.iadd, 1) := dk_96 (dk_at dksX8_beginsMixing_4 14 rfl rfl)
theorem dX8_beginsMixing_106 : decode cX8_beginsMixing 106 = .ok (.goto 4, 3) := dk_167 0 4 (dk_at dksX8_beginsMixing_4 15 rfl rfl)
theorem dX8_beginsMixing_109 : decode cX8_beginsMixing 109 = .ok (.iload_n 1, 1) := dk_27 (dk_at dksX8_beginsMixing_4 18 rfl rfl)
theorem dX8_beginsMixing_110 : decode cX8_beginsMixing 110 = .ok (.istore 6, 2) := dk_54 6 (dk_at dksX8_beginsMixing_4 19 rfl rfl)
theorem dX8_beginsMixing_112 : decode cX8_beginsMixing 112 = .ok (.aload_n 0, 1) := dk_42 (dk_at dksX8_beginsMixing_4 21 rfl rfl)
theorem dX8_beginsMixing_113 : decode cX8_beginsMixing 113 = .ok (.getfield 94, 3) := dk_180 0 94 (dk_at dksX8_beginsMixing_5 0 rfl rfl)
theorem dX8_beginsMixing_116 : decode cX8_beginsMixing 116 = .ok (.iload_n 2, 1) := dk_28 (dk_at dksX8_beginsMixing_5 3 rfl rfl)
theorem dX8_beginsMixing_117 : decode cX8_beginsMixing 117 = .ok (.aload_n 0, 1) := dk_42 (dk_at dksX8_beginsMixing_5 4 rfl rfl)
theorem dX8_beginsMixing_118 : decode cX8_beginsMixing 118 = .ok (.getfield 13, 3) := dk_180 0 13 (dk_at dksX8_beginsMixing_5 5 rfl rfl)
theorem dX8_beginsMixing_121 : decode cX8_beginsMixing 121 = .ok (.iload 4, 2) := dk_21 4 (dk_at dksX8_beginsMixing_5 8 rfl rfl)
theorem dX8_beginsMixing_123 : decode cX8_beginsMixing 123 = .ok (.iaload, 1) := dk_46 (dk_at dksX8_beginsMixing_5 10 rfl rfl)
theorem dX8_beginsMixing_124 : decode cX8_beginsMixing 124 = .ok (.iastore, 1) := dk_79 (dk_at dksX8_beginsMixing_5 11 rfl rfl)
theorem dX8_beginsMixing_125 : decode cX8_beginsMixing 125 = .ok (.aload_n 0, 1) := dk_42 (dk_at dksX8_beginsMixing_5 12 rfl rfl)
theorem dX8_beginsMixing_126 : decode cX8_beginsMixing 126 = .ok (.getfield 97, 3) := dk_180 0 97 (dk_at dksX8_beginsMixing_5 13 rfl rfl)
theorem dX8_beginsMixing_129 : decode cX8_beginsMixing 129 = .ok (.iload_n 2, 1) := dk_28 (dk_at dksX8_beginsMixing_5 16 rfl rfl)
theorem dX8_beginsMixing_130 : decode cX8_beginsMixing 130 = .ok (.dup2, 1) := dk_92 (dk_at dksX8_beginsMixing_5 17 rfl rfl)
theorem dX8_beginsMixing_131 : decode cX8_beginsMixing 131 = .ok (.iaload, 1) := dk_46 (dk_at dksX8_beginsMixing_5 18 rfl rfl)
theorem dX8_beginsMixing_132 : decode cX8_beginsMixing 132 = .ok (.iconst 1, 1) := dk_4 (dk_at dksX8_beginsMixing_5 19 rfl rfl)
theorem dX8_beginsMixing_133 : decode cX8_beginsMixing 133 = .ok (.iadd, 1) := dk_96 (dk_at dksX8_beginsMixing_5 20 rfl rfl)
theorem dX8_beginsMixing_134 : decode cX8_beginsMixing 134 = .ok (.iastore, 1) := dk_79 (dk_at dksX8_beginsMixing_5 21 rfl rfl)
theorem dX8_beginsMixing_135 : decode cX8_beginsMixing 135 = .ok (.aload_n 0, 1) := dk_42 (dk_at dksX8_beginsMixing_5 22 rfl rfl)
theorem dX8_beginsMixing_136 : decode cX8_beginsMixing 136 = .ok (.getfield 88, 3) := dk_180 0 88 (dk_at dksX8_beginsMixing_6 0 rfl rfl)
theorem dX8_beginsMixing_139 : decode cX8_beginsMixing 139 = .ok (.iload_n 2, 1) := dk_28 (dk_at dksX8_beginsMixing_6 3 rfl rfl)
theorem dX8_beginsMixing_140 : decode cX8_beginsMixing 140 = .ok (.iload_n 3, 1) := dk_29 (dk_at dksX8_beginsMixing_6 4 rfl rfl)
theorem dX8_beginsMixing_141 : decode cX8_beginsMixing 141 = .ok (.iastore, 1) := dk_79 (dk_at dksX8_beginsMixing_6 5 rfl rfl)
theorem dX8_beginsMixing_142 : decode cX8_beginsMixing 142 = .ok (.aload_n 0, 1) := dk_42 (dk_at dksX8_beginsMixing_6 6 rfl rfl)
theorem dX8_beginsMixing_143 : decode cX8_beginsMixing 143 = .ok (.getfield 91, 3) := dk_180 0 91 (dk_at dksX8_beginsMixing_6 7 rfl rfl)
theorem dX8_beginsMixing_146 : decode cX8_beginsMixing 146 = .ok (.iload_n 2, 1) := dk_28 (dk_at dksX8_beginsMixing_6 10 rfl rfl)
theorem dX8_beginsMixing_147 : decode cX8_beginsMixing 147 = .ok (.iload 6, 2) := dk_21 6 (dk_at dksX8_beginsMixing_6 11 rfl rfl)
theorem dX8_beginsMixing_149 : decode cX8_beginsMixing 149 = .ok (.aload_n 0, 1) := dk_42 (dk_at dksX8_beginsMixing_6 13 rfl rfl)
theorem dX8_beginsMixing_150 : decode cX8_beginsMixing 150 = .ok (.getfield 16, 3) := dk_180 0 16 (dk_at dksX8_beginsMixing_6 14 rfl rfl)
theorem dX8_beginsMixing_153 : decode cX8_beginsMixing 153 = .ok (.iload 4, 2) := dk_21 4 (dk_at dksX8_beginsMixing_6 17 rfl rfl)
theorem dX8_beginsMixing_155 : decode cX8_beginsMixing 155 = .ok (.iaload, 1) := dk_46 (dk_at dksX8_beginsMixing_6 19 rfl rfl)
theorem dX8_beginsMixing_156 : decode cX8_beginsMixing 156 = .ok (.iadd, 1) := dk_96 (dk_at dksX8_beginsMixing_6 20 rfl rfl)
theorem dX8_beginsMixing_157 : decode cX8_beginsMixing 157 = .ok (.iastore, 1) := dk_79 (dk_at dksX8_beginsMixing_6 21 rfl rfl)
theorem dX8_beginsMixing_158 : decode cX8_beginsMixing 158 = .ok (.aload_n 0, 1) := dk_42 (dk_at dksX8_beginsMixing_6 22 rfl rfl)
theorem dX8_beginsMixing_159 : decode cX8_beginsMixing 159 = .ok (.getfield 55, 3) := dk_180 0 55 (dk_at dksX8_beginsMixing_7 0 rfl rfl)
theorem dX8_beginsMixing_162 : decode cX8_beginsMixing 162 = .ok (.iload_n 3, 1) := dk_29 (dk_at dksX8_beginsMixing_7 3 rfl rfl)
theorem dX8_beginsMixing_163 : decode cX8_beginsMixing 163 = .ok (.iconst 1, 1) := dk_4 (dk_at dksX8_beginsMixing_7 4 rfl rfl)
theorem dX8_beginsMixing_164 : decode cX8_beginsMixing 164 = .ok (.iastore, 1) := dk_79 (dk_at dksX8_beginsMixing_7 5 rfl rfl)
theorem dX8_beginsMixing_165 : decode cX8_beginsMixing 165 = .ok (.aload_n 0, 1) := dk_42 (dk_at dksX8_beginsMixing_7 6 rfl rfl)
theorem dX8_beginsMixing_166 : decode cX8_beginsMixing 166 = .ok (.getfield 61, 3) := dk_180 0 61 (dk_at dksX8_beginsMixing_7 7 rfl rfl)
theorem dX8_beginsMixing_169 : decode cX8_beginsMixing 169 = .ok (.iload_n 3, 1) := dk_29 (dk_at dksX8_beginsMixing_7 10 rfl rfl)
theorem dX8_beginsMixing_170 : decode cX8_beginsMixing 170 = .ok (.iload_n 2, 1) := dk_28 (dk_at dksX8_beginsMixing_7 11 rfl rfl)
theorem dX8_beginsMixing_171 : decode cX8_beginsMixing 171 = .ok (.iastore, 1) := dk_79 (dk_at dksX8_beginsMixing_7 12 rfl rfl)
theorem dX8_beginsMixing_172 : decode cX8_beginsMixing 172 = .ok (.aload_n 0, 1) := dk_42 (dk_at dksX8_beginsMixing_7 13 rfl rfl)
theorem dX8_beginsMixing_173 : decode cX8_beginsMixing 173 = .ok (.getfield 64, 3) := dk_180 0 64 (dk_at dksX8_beginsMixing_7 14 rfl rfl)
theorem dX8_beginsMixing_176 : decode cX8_beginsMixing 176 = .ok (.iload_n 3, 1) := dk_29 (dk_at dksX8_beginsMixing_7 17 rfl rfl)
theorem dX8_beginsMixing_177 : decode cX8_beginsMixing 177 = .ok (.iload 6, 2) := dk_21 6 (dk_at dksX8_beginsMixing_7 18 rfl rfl)
theorem dX8_beginsMixing_179 : decode cX8_beginsMixing 179 = .ok (.iastore, 1) := dk_79 (dk_at dksX8_beginsMixing_7 20 rfl rfl)
theorem dX8_beginsMixing_180 : decode cX8_beginsMixing 180 = .ok (.iinc 2 1, 3) := dk_132 2 1 (dk_at dksX8_beginsMixing_7 21 rfl rfl)
theorem dX8_beginsMixing_183 : decode cX8_beginsMixing 183 = .ok (.goto (-181), 3) := dk_167 255 75 (dk_at dksX8_beginsMixing_8 0 rfl rfl)
theorem dX8_beginsMixing_186 : decode cX8_beginsMixing 186 = .ok (.return_, 1) := dk_177 (dk_at dksX8_beginsMixing_8 3 rfl rfl)
abbrev cX8_nextInList : ByteArray := prog_13_method_79_code
def yX8_nextInList : MethodName := ⟨RX8, "nextInList", "(I)I"⟩
def dkwX8_nextInList_1 : List UInt8 := [182, 1, 50, 27, 163, 0, 5, 28, 172, 132, 2, 1, 167, 255, 224, 2, 172]
abbrev dktX8_nextInList_1 : List UInt8 := dkwX8_nextInList_1 ++ []
def dkwX8_nextInList_0 : List UInt8 := [3, 61, 28, 42, 182, 0, 147, 162, 0, 30, 42, 180, 0, 55, 28, 46, 154, 0, 15, 42, 28, 4]
abbrev dktX8_nextInList_0 : List UInt8 := dkwX8_nextInList_0 ++ dktX8_nextInList_1
theorem dksX8_nextInList_0 : cX8_nextInList.data.toList.drop 0 = dktX8_nextInList_0 := by decide +kernel
theorem dksX8_nextInList_1 : cX8_nextInList.data.toList.drop 22 = dktX8_nextInList_1 := dk_seg dksX8_nextInList_0 22 rfl rfl
theorem dX8_nextInList_0 : decode cX8_nextInList 0 = .ok (.iconst 0, 1) := dk_3 (dk_at dksX8_nextInList_0 0 rfl rfl)
theorem dX8_nextInList_1 : decode cX8_nextInList 1 = .ok (.istore_n 2, 1) := dk_61 (dk_at dksX8_nextInList_0 1 rfl rfl)
theorem dX8_nextInList_2 : decode cX8_nextInList 2 = .ok (.iload_n 2, 1) := dk_28 (dk_at dksX8_nextInList_0 2 rfl rfl)
theorem dX8_nextInList_3 : decode cX8_nextInList 3 = .ok (.aload_n 0, 1) := dk_42 (dk_at dksX8_nextInList_0 3 rfl rfl)
theorem dX8_nextInList_4 : decode cX8_nextInList 4 = .ok (.invokevirtual 147, 3) := dk_182 0 147 (dk_at dksX8_nextInList_0 4 rfl rfl)
theorem dX8_nextInList_7 : decode cX8_nextInList 7 = .ok (.if_icmp .ge 30, 3) := dk_162 0 30 (dk_at dksX8_nextInList_0 7 rfl rfl)
theorem dX8_nextInList_10 : decode cX8_nextInList 10 = .ok (.aload_n 0, 1) := dk_42 (dk_at dksX8_nextInList_0 10 rfl rfl)
theorem dX8_nextInList_11 : decode cX8_nextInList 11 = .ok (.getfield 55, 3) := dk_180 0 55 (dk_at dksX8_nextInList_0 11 rfl rfl)
theorem dX8_nextInList_14 : decode cX8_nextInList 14 = .ok (.iload_n 2, 1) := dk_28 (dk_at dksX8_nextInList_0 14 rfl rfl)
theorem dX8_nextInList_15 : decode cX8_nextInList 15 = .ok (.iaload, 1) := dk_46 (dk_at dksX8_nextInList_0 15 rfl rfl)
theorem dX8_nextInList_16 : decode cX8_nextInList 16 = .ok (.ifCond .ne 15, 3) := dk_154 0 15 (dk_at dksX8_nextInList_0 16 rfl rfl)
theorem dX8_nextInList_19 : decode cX8_nextInList 19 = .ok (.aload_n 0, 1) := dk_42 (dk_at dksX8_nextInList_0 19 rfl rfl)
theorem dX8_nextInList_20 : decode cX8_nextInList 20 = .ok (.iload_n 2, 1) := dk_28 (dk_at dksX8_nextInList_0 20 rfl rfl)
theorem dX8_nextInList_21 : decode cX8_nextInList 21 = .ok (.iconst 1, 1) := dk_4 (dk_at dksX8_nextInList_0 21 rfl rfl)
theorem dX8_nextInList_22 : decode cX8_nextInList 22 = .ok (.invokevirtual 306, 3) := dk_182 1 50 (dk_at dksX8_nextInList_1 0 rfl rfl)
theorem dX8_nextInList_25 : decode cX8_nextInList 25 = .ok (.iload_n 1, 1) := dk_27 (dk_at dksX8_nextInList_1 3 rfl rfl)
theorem dX8_nextInList_26 : decode cX8_nextInList 26 = .ok (.if_icmp .gt 5, 3) := dk_163 0 5 (dk_at dksX8_nextInList_1 4 rfl rfl)
theorem dX8_nextInList_29 : decode cX8_nextInList 29 = .ok (.iload_n 2, 1) := dk_28 (dk_at dksX8_nextInList_1 7 rfl rfl)
theorem dX8_nextInList_30 : decode cX8_nextInList 30 = .ok (.ireturn, 1) := dk_172 (dk_at dksX8_nextInList_1 8 rfl rfl)
theorem dX8_nextInList_31 : decode cX8_nextInList 31 = .ok (.iinc 2 1, 3) := dk_132 2 1 (dk_at dksX8_nextInList_1 9 rfl rfl)
theorem dX8_nextInList_34 : decode cX8_nextInList 34 = .ok (.goto (-32), 3) := dk_167 255 224 (dk_at dksX8_nextInList_1 12 rfl rfl)
theorem dX8_nextInList_37 : decode cX8_nextInList 37 = .ok (.iconst (-1), 1) := dk_2 (dk_at dksX8_nextInList_1 15 rfl rfl)
theorem dX8_nextInList_38 : decode cX8_nextInList 38 = .ok (.ireturn, 1) := dk_172 (dk_at dksX8_nextInList_1 16 rfl rfl)
abbrev cX8_grows : ByteArray := prog_13_method_81_code
def yX8_grows : MethodName := ⟨RX8, "grows", "()V"⟩
def dkwX8_grows_3 : List UInt8 := [167, 255, 188, 177]
abbrev dktX8_grows_3 : List UInt8 := dkwX8_grows_3 ++ []
def dkwX8_grows_2 : List UInt8 := [180, 0, 58, 27, 92, 46, 4, 96, 79, 42, 180, 0, 82, 27, 92, 46, 4, 96, 79, 132, 1, 1]
abbrev dktX8_grows_2 : List UInt8 := dkwX8_grows_2 ++ dktX8_grows_3
def dkwX8_grows_1 : List UInt8 := [27, 92, 46, 42, 7, 182, 0, 143, 96, 79, 42, 180, 0, 55, 27, 46, 6, 159, 0, 6, 167, 0, 23, 42]
abbrev dktX8_grows_1 : List UInt8 := dkwX8_grows_1 ++ dktX8_grows_2
def dkwX8_grows_0 : List UInt8 := [3, 60, 27, 42, 182, 0, 147, 162, 0, 66, 42, 180, 0, 55, 27, 46, 5, 160, 0, 17, 42, 180, 0, 58]
abbrev dktX8_grows_0 : List UInt8 := dkwX8_grows_0 ++ dktX8_grows_1
theorem dksX8_grows_0 : cX8_grows.data.toList.drop 0 = dktX8_grows_0 := by decide +kernel
theorem dksX8_grows_1 : cX8_grows.data.toList.drop 24 = dktX8_grows_1 := dk_seg dksX8_grows_0 24 rfl rfl
theorem dksX8_grows_2 : cX8_grows.data.toList.drop 48 = dktX8_grows_2 := dk_seg dksX8_grows_1 24 rfl rfl
theorem dksX8_grows_3 : cX8_grows.data.toList.drop 70 = dktX8_grows_3 := dk_seg dksX8_grows_2 22 rfl rfl
theorem dX8_grows_0 : decode cX8_grows 0 = .ok (.iconst 0, 1) := dk_3 (dk_at dksX8_grows_0 0 rfl rfl)
theorem dX8_grows_1 : decode cX8_grows 1 = .ok (.istore_n 1, 1) := dk_60 (dk_at dksX8_grows_0 1 rfl rfl)
theorem dX8_grows_2 : decode cX8_grows 2 = .ok (.iload_n 1, 1) := dk_27 (dk_at dksX8_grows_0 2 rfl rfl)
theorem dX8_grows_3 : decode cX8_grows 3 = .ok (.aload_n 0, 1) := dk_42 (dk_at dksX8_grows_0 3 rfl rfl)
theorem dX8_grows_4 : decode cX8_grows 4 = .ok (.invokevirtual 147, 3) := dk_182 0 147 (dk_at dksX8_grows_0 4 rfl rfl)
theorem dX8_grows_7 : decode cX8_grows 7 = .ok (.if_icmp .ge 66, 3) := dk_162 0 66 (dk_at dksX8_grows_0 7 rfl rfl)
theorem dX8_grows_10 : decode cX8_grows 10 = .ok (.aload_n 0, 1) := dk_42 (dk_at dksX8_grows_0 10 rfl rfl)
theorem dX8_grows_11 : decode cX8_grows 11 = .ok (.getfield 55, 3) := dk_180 0 55 (dk_at dksX8_grows_0 11 rfl rfl)
theorem dX8_grows_14 : decode cX8_grows 14 = .ok (.iload_n 1, 1) := dk_27 (dk_at dksX8_grows_0 14 rfl rfl)
theorem dX8_grows_15 : decode cX8_grows 15 = .ok (.iaload, 1) := dk_46 (dk_at dksX8_grows_0 15 rfl rfl)
theorem dX8_grows_16 : decode cX8_grows 16 = .ok (.iconst 2, 1) := dk_5 (dk_at dksX8_grows_0 16 rfl rfl)
theorem dX8_grows_17 : decode cX8_grows 17 = .ok (.if_icmp .ne 17, 3) := dk_160 0 17 (dk_at dksX8_grows_0 17 rfl rfl)
theorem dX8_grows_20 : decode cX8_grows 20 = .ok (.aload_n 0, 1) := dk_42 (dk_at dksX8_grows_0 20 rfl rfl)
theorem dX8_grows_21 : decode cX8_grows 21 = .ok (.getfield 58, 3) := dk_180 0 58 (dk_at dksX8_grows_0 21 rfl rfl)
theorem dX8_grows_24 : decode cX8_grows 24 = .ok (.iload_n 1, 1) := dk_27 (dk_at dksX8_grows_1 0 rfl rfl)
theorem dX8_grows_25 : decode cX8_grows 25 = .ok (.dup2, 1) := dk_92 (dk_at dksX8_grows_1 1 rfl rfl)
theorem dX8_grows_26 : decode cX8_grows 26 = .ok (.iaload, 1) := dk_46 (dk_at dksX8_grows_1 2 rfl rfl)
theorem dX8_grows_27 : decode cX8_grows 27 = .ok (.aload_n 0, 1) := dk_42 (dk_at dksX8_grows_1 3 rfl rfl)
theorem dX8_grows_28 : decode cX8_grows 28 = .ok (.iconst 4, 1) := dk_7 (dk_at dksX8_grows_1 4 rfl rfl)
theorem dX8_grows_29 : decode cX8_grows 29 = .ok (.invokevirtual 143, 3) := dk_182 0 143 (dk_at dksX8_grows_1 5 rfl rfl)
theorem dX8_grows_32 : decode cX8_grows 32 = .ok (.iadd, 1) := dk_96 (dk_at dksX8_grows_1 8 rfl rfl)
theorem dX8_grows_33 : decode cX8_grows 33 = .ok (.iastore, 1) := dk_79 (dk_at dksX8_grows_1 9 rfl rfl)
theorem dX8_grows_34 : decode cX8_grows 34 = .ok (.aload_n 0, 1) := dk_42 (dk_at dksX8_grows_1 10 rfl rfl)
theorem dX8_grows_35 : decode cX8_grows 35 = .ok (.getfield 55, 3) := dk_180 0 55 (dk_at dksX8_grows_1 11 rfl rfl)
theorem dX8_grows_38 : decode cX8_grows 38 = .ok (.iload_n 1, 1) := dk_27 (dk_at dksX8_grows_1 14 rfl rfl)
theorem dX8_grows_39 : decode cX8_grows 39 = .ok (.iaload, 1) := dk_46 (dk_at dksX8_grows_1 15 rfl rfl)
theorem dX8_grows_40 : decode cX8_grows 40 = .ok (.iconst 3, 1) := dk_6 (dk_at dksX8_grows_1 16 rfl rfl)
theorem dX8_grows_41 : decode cX8_grows 41 = .ok (.if_icmp .eq 6, 3) := dk_159 0 6 (dk_at dksX8_grows_1 17 rfl rfl)
theorem dX8_grows_44 : decode cX8_grows 44 = .ok (.goto 23, 3) := dk_167 0 23 (dk_at dksX8_grows_1 20 rfl rfl)
theorem dX8_grows_47 : decode cX8_grows 47 = .ok (.aload_n 0, 1) := dk_42 (dk_at dksX8_grows_1 23 rfl rfl)
theorem dX8_grows_48 : decode cX8_grows 48 = .ok (.getfield 58, 3) := dk_180 0 58 (dk_at dksX8_grows_2 0 rfl rfl)
theorem dX8_grows_51 : decode cX8_grows 51 = .ok (.iload_n 1, 1) := dk_27 (dk_at dksX8_grows_2 3 rfl rfl)
theorem dX8_grows_52 : decode cX8_grows 52 = .ok (.dup2, 1) := dk_92 (dk_at dksX8_grows_2 4 rfl rfl)
theorem dX8_grows_53 : decode cX8_grows 53 = .ok (.iaload, 1) := dk_46 (dk_at dksX8_grows_2 5 rfl rfl)
theorem dX8_grows_54 : decode cX8_grows 54 = .ok (.iconst 1, 1) := dk_4 (dk_at dksX8_grows_2 6 rfl rfl)
theorem dX8_grows_55 : decode cX8_grows 55 = .ok (.iadd, 1) := dk_96 (dk_at dksX8_grows_2 7 rfl rfl)
theorem dX8_grows_56 : decode cX8_grows 56 = .ok (.iastore, 1) := dk_79 (dk_at dksX8_grows_2 8 rfl rfl)
theorem dX8_grows_57 : decode cX8_grows 57 = .ok (.aload_n 0, 1) := dk_42 (dk_at dksX8_grows_2 9 rfl rfl)
theorem dX8_grows_58 : decode cX8_grows 58 = .ok (.getfield 82, 3) := dk_180 0 82 (dk_at dksX8_grows_2 10 rfl rfl)
theorem dX8_grows_61 : decode cX8_grows 61 = .ok (.iload_n 1, 1) := dk_27 (dk_at dksX8_grows_2 13 rfl rfl)
theorem dX8_grows_62 : decode cX8_grows 62 = .ok (.dup2, 1) := dk_92 (dk_at dksX8_grows_2 14 rfl rfl)
theorem dX8_grows_63 : decode cX8_grows 63 = .ok (.iaload, 1) := dk_46 (dk_at dksX8_grows_2 15 rfl rfl)
theorem dX8_grows_64 : decode cX8_grows 64 = .ok (.iconst 1, 1) := dk_4 (dk_at dksX8_grows_2 16 rfl rfl)
theorem dX8_grows_65 : decode cX8_grows 65 = .ok (.iadd, 1) := dk_96 (dk_at dksX8_grows_2 17 rfl rfl)
theorem dX8_grows_66 : decode cX8_grows 66 = .ok (.iastore, 1) := dk_79 (dk_at dksX8_grows_2 18 rfl rfl)
theorem dX8_grows_67 : decode cX8_grows 67 = .ok (.iinc 1 1, 3) := dk_132 1 1 (dk_at dksX8_grows_2 19 rfl rfl)
theorem dX8_grows_70 : decode cX8_grows 70 = .ok (.goto (-68), 3) := dk_167 255 188 (dk_at dksX8_grows_3 0 rfl rfl)
theorem dX8_grows_73 : decode cX8_grows 73 = .ok (.return_, 1) := dk_177 (dk_at dksX8_grows_3 3 rfl rfl)
abbrev cX8_heats : ByteArray := prog_13_method_82_code
def yX8_heats : MethodName := ⟨RX8, "heats", "()V"⟩
def dkwX8_heats_5 : List UInt8 := [180, 1, 65, 29, 96, 181, 1, 65, 132, 1, 1, 167, 255, 134, 177]
abbrev dktX8_heats_5 : List UInt8 := dkwX8_heats_5 ++ []
def dkwX8_heats_4 : List UInt8 := [92, 46, 28, 42, 180, 0, 109, 27, 46, 164, 0, 7, 29, 167, 0, 5, 29, 116, 96, 79, 42, 89]
abbrev dktX8_heats_4 : List UInt8 := dkwX8_heats_4 ++ dktX8_heats_5
def dkwX8_heats_3 : List UInt8 := [184, 1, 83, 62, 29, 42, 8, 182, 0, 143, 164, 0, 9, 42, 8, 182, 0, 143, 62, 42, 180, 0, 109, 27]
abbrev dktX8_heats_3 : List UInt8 := dkwX8_heats_3 ++ dktX8_heats_4
def dkwX8_heats_2 : List UInt8 := [180, 0, 28, 42, 42, 180, 0, 100, 27, 46, 182, 1, 56, 46, 61, 28, 42, 180, 0, 109, 27, 46]
abbrev dktX8_heats_2 : List UInt8 := dkwX8_heats_2 ++ dktX8_heats_3
def dkwX8_heats_1 : List UInt8 := [180, 0, 112, 27, 92, 46, 4, 96, 79, 42, 180, 0, 100, 27, 46, 2, 160, 0, 6, 167, 0, 80, 42]
abbrev dktX8_heats_1 : List UInt8 := dkwX8_heats_1 ++ dktX8_heats_2
def dkwX8_heats_0 : List UInt8 := [3, 60, 27, 42, 4, 182, 0, 143, 162, 0, 119, 42, 180, 0, 103, 27, 46, 2, 159, 0, 13, 42]
abbrev dktX8_heats_0 : List UInt8 := dkwX8_heats_0 ++ dktX8_heats_1
theorem dksX8_heats_0 : cX8_heats.data.toList.drop 0 = dktX8_heats_0 := by decide +kernel
theorem dksX8_heats_1 : cX8_heats.data.toList.drop 22 = dktX8_heats_1 := dk_seg dksX8_heats_0 22 rfl rfl
theorem dksX8_heats_2 : cX8_heats.data.toList.drop 45 = dktX8_heats_2 := dk_seg dksX8_heats_1 23 rfl rfl
theorem dksX8_heats_3 : cX8_heats.data.toList.drop 67 = dktX8_heats_3 := dk_seg dksX8_heats_2 22 rfl rfl
theorem dksX8_heats_4 : cX8_heats.data.toList.drop 91 = dktX8_heats_4 := dk_seg dksX8_heats_3 24 rfl rfl
theorem dksX8_heats_5 : cX8_heats.data.toList.drop 113 = dktX8_heats_5 := dk_seg dksX8_heats_4 22 rfl rfl
theorem dX8_heats_0 : decode cX8_heats 0 = .ok (.iconst 0, 1) := dk_3 (dk_at dksX8_heats_0 0 rfl rfl)
theorem dX8_heats_1 : decode cX8_heats 1 = .ok (.istore_n 1, 1) := dk_60 (dk_at dksX8_heats_0 1 rfl rfl)
theorem dX8_heats_2 : decode cX8_heats 2 = .ok (.iload_n 1, 1) := dk_27 (dk_at dksX8_heats_0 2 rfl rfl)
theorem dX8_heats_3 : decode cX8_heats 3 = .ok (.aload_n 0, 1) := dk_42 (dk_at dksX8_heats_0 3 rfl rfl)
theorem dX8_heats_4 : decode cX8_heats 4 = .ok (.iconst 1, 1) := dk_4 (dk_at dksX8_heats_0 4 rfl rfl)
theorem dX8_heats_5 : decode cX8_heats 5 = .ok (.invokevirtual 143, 3) := dk_182 0 143 (dk_at dksX8_heats_0 5 rfl rfl)
theorem dX8_heats_8 : decode cX8_heats 8 = .ok (.if_icmp .ge 119, 3) := dk_162 0 119 (dk_at dksX8_heats_0 8 rfl rfl)
theorem dX8_heats_11 : decode cX8_heats 11 = .ok (.aload_n 0, 1) := dk_42 (dk_at dksX8_heats_0 11 rfl rfl)
theorem dX8_heats_12 : decode cX8_heats 12 = .ok (.getfield 103, 3) := dk_180 0 103 (dk_at dksX8_heats_0 12 rfl rfl)
theorem dX8_heats_15 : decode cX8_heats 15 = .ok (.iload_n 1, 1) := dk_27 (dk_at dksX8_heats_0 15 rfl rfl)
theorem dX8_heats_16 : decode cX8_heats 16 = .ok (.iaload, 1) := dk_46 (dk_at dksX8_heats_0 16 rfl rfl)
theorem dX8_heats_17 : decode cX8_heats 17 = .ok (.iconst (-1), 1) := dk_2 (dk_at dksX8_heats_0 17 rfl rfl)
theorem dX8_heats_18 : decode cX8_heats 18 = .ok (.if_icmp .eq 13, 3) := dk_159 0 13 (dk_at dksX8_heats_0 18 rfl rfl)
theorem dX8_heats_21 : decode cX8_heats 21 = .ok (.aload_n 0, 1) := dk_42 (dk_at dksX8_heats_0 21 rfl rfl)
theorem dX8_heats_22 : decode cX8_heats 22 = .ok (.getfield 112, 3) := dk_180 0 112 (dk_at dksX8_heats_1 0 rfl rfl)
theorem dX8_heats_25 : decode cX8_heats 25 = .ok (.iload_n 1, 1) := dk_27 (dk_at dksX8_heats_1 3 rfl rfl)
theorem dX8_heats_26 : decode cX8_heats 26 = .ok (.dup2, 1) := dk_92 (dk_at dksX8_heats_1 4 rfl rfl)
theorem dX8_heats_27 : decode cX8_heats 27 = .ok (.iaload, 1) := dk_46 (dk_at dksX8_heats_1 5 rfl rfl)
theorem dX8_heats_28 : decode cX8_heats 28 = .ok (.iconst 1, 1) := dk_4 (dk_at dksX8_heats_1 6 rfl rfl)
theorem dX8_heats_29 : decode cX8_heats 29 = .ok (.iadd, 1) := dk_96 (dk_at dksX8_heats_1 7 rfl rfl)
theorem dX8_heats_30 : decode cX8_heats 30 = .ok (.iastore, 1) := dk_79 (dk_at dksX8_heats_1 8 rfl rfl)
theorem dX8_heats_31 : decode cX8_heats 31 = .ok (.aload_n 0, 1) := dk_42 (dk_at dksX8_heats_1 9 rfl rfl)
theorem dX8_heats_32 : decode cX8_heats 32 = .ok (.getfield 100, 3) := dk_180 0 100 (dk_at dksX8_heats_1 10 rfl rfl)
theorem dX8_heats_35 : decode cX8_heats 35 = .ok (.iload_n 1, 1) := dk_27 (dk_at dksX8_heats_1 13 rfl rfl)
theorem dX8_heats_36 : decode cX8_heats 36 = .ok (.iaload, 1) := dk_46 (dk_at dksX8_heats_1 14 rfl rfl)
theorem dX8_heats_37 : decode cX8_heats 37 = .ok (.iconst (-1), 1) := dk_2 (dk_at dksX8_heats_1 15 rfl rfl)
theorem dX8_heats_38 : decode cX8_heats 38 = .ok (.if_icmp .ne 6, 3) := dk_160 0 6 (dk_at dksX8_heats_1 16 rfl rfl)
theorem dX8_heats_41 : decode cX8_heats 41 = .ok (.goto 80, 3) := dk_167 0 80 (dk_at dksX8_heats_1 19 rfl rfl)
theorem dX8_heats_44 : decode cX8_heats 44 = .ok (.aload_n 0, 1) := dk_42 (dk_at dksX8_heats_1 22 rfl rfl)
theorem dX8_heats_45 : decode cX8_heats 45 = .ok (.getfield 28, 3) := dk_180 0 28 (dk_at dksX8_heats_2 0 rfl rfl)
theorem dX8_heats_48 : decode cX8_heats 48 = .ok (.aload_n 0, 1) := dk_42 (dk_at dksX8_heats_2 3 rfl rfl)
theorem dX8_heats_49 : decode cX8_heats 49 = .ok (.aload_n 0, 1) := dk_42 (dk_at dksX8_heats_2 4 rfl rfl)
theorem dX8_heats_50 : decode cX8_heats 50 = .ok (.getfield 100, 3) := dk_180 0 100 (dk_at dksX8_heats_2 5 rfl rfl)
theorem dX8_heats_53 : decode cX8_heats 53 = .ok (.iload_n 1, 1) := dk_27 (dk_at dksX8_heats_2 8 rfl rfl)
theorem dX8_heats_54 : decode cX8_heats 54 = .ok (.iaload, 1) := dk_46 (dk_at dksX8_heats_2 9 rfl rfl)
theorem dX8_heats_55 : decode cX8_heats 55 = .ok (.invokevirtual 312, 3) := dk_182 1 56 (dk_at dksX8_heats_2 10 rfl rfl)
theorem dX8_heats_58 : decode cX8_heats 58 = .ok (.iaload, 1) := dk_46 (dk_at dksX8_heats_2 13 rfl rfl)
theorem dX8_heats_59 : decode cX8_heats 59 = .ok (.istore_n 2, 1) := dk_61 (dk_at dksX8_heats_2 14 rfl rfl)
theorem dX8_heats_60 : decode cX8_heats 60 = .ok (.iload_n 2, 1) := dk_28 (dk_at dksX8_heats_2 15 rfl rfl)
theorem dX8_heats_61 : decode cX8_heats 61 = .ok (.aload_n 0, 1) := dk_42 (dk_at dksX8_heats_2 16 rfl rfl)
theorem dX8_heats_62 : decode cX8_heats 62 = .ok (.getfield 109, 3) := dk_180 0 109 (dk_at dksX8_heats_2 17 rfl rfl)
theorem dX8_heats_65 : decode cX8_heats 65 = .ok (.iload_n 1, 1) := dk_27 (dk_at dksX8_heats_2 20 rfl rfl)
theorem dX8_heats_66 : decode cX8_heats 66 = .ok (.iaload, 1) := dk_46 (dk_at dksX8_heats_2 21 rfl rfl)
theorem dX8_heats_67 : decode cX8_heats 67 = .ok (.invokestatic 339, 3) := dk_184 1 83 (dk_at dksX8_heats_3 0 rfl rfl)
theorem dX8_heats_70 : decode cX8_heats 70 = .ok (.istore_n 3, 1) := dk_62 (dk_at dksX8_heats_3 3 rfl rfl)
theorem dX8_heats_71 : decode cX8_heats 71 = .ok (.iload_n 3, 1) := dk_29 (dk_at dksX8_heats_3 4 rfl rfl)
theorem dX8_heats_72 : decode cX8_heats 72 = .ok (.aload_n 0, 1) := dk_42 (dk_at dksX8_heats_3 5 rfl rfl)
theorem dX8_heats_73 : decode cX8_heats 73 = .ok (.iconst 5, 1) := dk_8 (dk_at dksX8_heats_3 6 rfl rfl)
theorem dX8_heats_74 : decode cX8_heats 74 = .ok (.invokevirtual 143, 3) := dk_182 0 143 (dk_at dksX8_heats_3 7 rfl rfl)
theorem dX8_heats_77 : decode cX8_heats 77 = .ok (.if_icmp .le 9, 3) := dk_164 0 9 (dk_at dksX8_heats_3 10 rfl rfl)
theorem dX8_heats_80 : decode cX8_heats 80 = .ok (.aload_n 0, 1) := dk_42 (dk_at dksX8_heats_3 13 rfl rfl)
theorem dX8_heats_81 : decode cX8_heats 81 = .ok (.iconst 5, 1) := dk_8 (dk_at dksX8_heats_3 14 rfl rfl)
theorem dX8_heats_82 : decode cX8_heats 82 = .ok (.invokevirtual 143, 3) := dk_182 0 143 (dk_at dksX8_heats_3 15 rfl rfl)
theorem dX8_heats_85 : decode cX8_heats 85 = .ok (.istore_n 3, 1) := dk_62 (dk_at dksX8_heats_3 18 rfl rfl)
theorem dX8_heats_86 : decode cX8_heats 86 = .ok (.aload_n 0, 1) := dk_42 (dk_at dksX8_heats_3 19 rfl rfl)
theorem dX8_heats_87 : decode cX8_heats 87 = .ok (.getfield 109, 3) := dk_180 0 109 (dk_at dksX8_heats_3 20 rfl rfl)
theorem dX8_heats_90 : decode cX8_heats 90 = .ok (.iload_n 1, 1) := dk_27 (dk_at dksX8_heats_3 23 rfl rfl)
theorem dX8_heats_91 : decode cX8_heats 91 = .ok (.dup2, 1) := dk_92 (dk_at dksX8_heats_4 0 rfl rfl)
theorem dX8_heats_92 : decode cX8_heats 92 = .ok (.iaload, 1) := dk_46 (dk_at dksX8_heats_4 1 rfl rfl)
theorem dX8_heats_93 : decode cX8_heats 93 = .ok (.iload_n 2, 1) := dk_28 (dk_at dksX8_heats_4 2 rfl rfl)
theorem dX8_heats_94 : decode cX8_heats 94 = .ok (.aload_n 0, 1) := dk_42 (dk_at dksX8_heats_4 3 rfl rfl)
theorem dX8_heats_95 : decode cX8_heats 95 = .ok (.getfield 109, 3) := dk_180 0 109 (dk_at dksX8_heats_4 4 rfl rfl)
theorem dX8_heats_98 : decode cX8_heats 98 = .ok (.iload_n 1, 1) := dk_27 (dk_at dksX8_heats_4 7 rfl rfl)
theorem dX8_heats_99 : decode cX8_heats 99 = .ok (.iaload, 1) := dk_46 (dk_at dksX8_heats_4 8 rfl rfl)
theorem dX8_heats_100 : decode cX8_heats 100 = .ok (.if_icmp .le 7, 3) := dk_164 0 7 (dk_at dksX8_heats_4 9 rfl rfl)
theorem dX8_heats_103 : decode cX8_heats 103 = .ok (.iload_n 3, 1) := dk_29 (dk_at dksX8_heats_4 12 rfl rfl)
theorem dX8_heats_104 : decode cX8_heats 104 = .ok (.goto 5, 3) := dk_167 0 5 (dk_at dksX8_heats_4 13 rfl rfl)
theorem dX8_heats_107 : decode cX8_heats 107 = .ok (.iload_n 3, 1) := dk_29 (dk_at dksX8_heats_4 16 rfl rfl)
theorem dX8_heats_108 : decode cX8_heats 108 = .ok (.ineg, 1) := dk_116 (dk_at dksX8_heats_4 17 rfl rfl)
theorem dX8_heats_109 : decode cX8_heats 109 = .ok (.iadd, 1) := dk_96 (dk_at dksX8_heats_4 18 rfl rfl)
theorem dX8_heats_110 : decode cX8_heats 110 = .ok (.iastore, 1) := dk_79 (dk_at dksX8_heats_4 19 rfl rfl)
theorem dX8_heats_111 : decode cX8_heats 111 = .ok (.aload_n 0, 1) := dk_42 (dk_at dksX8_heats_4 20 rfl rfl)
theorem dX8_heats_112 : decode cX8_heats 112 = .ok (.dup, 1) := dk_89 (dk_at dksX8_heats_4 21 rfl rfl)
theorem dX8_heats_113 : decode cX8_heats 113 = .ok (.getfield 321, 3) := dk_180 1 65 (dk_at dksX8_heats_5 0 rfl rfl)
theorem dX8_heats_116 : decode cX8_heats 116 = .ok (.iload_n 3, 1) := dk_29 (dk_at dksX8_heats_5 3 rfl rfl)
theorem dX8_heats_117 : decode cX8_heats 117 = .ok (.iadd, 1) := dk_96 (dk_at dksX8_heats_5 4 rfl rfl)
theorem dX8_heats_118 : decode cX8_heats 118 = .ok (.putfield 321, 3) := dk_181 1 65 (dk_at dksX8_heats_5 5 rfl rfl)
theorem dX8_heats_121 : decode cX8_heats 121 = .ok (.iinc 1 1, 3) := dk_132 1 1 (dk_at dksX8_heats_5 8 rfl rfl)
theorem dX8_heats_124 : decode cX8_heats 124 = .ok (.goto (-122), 3) := dk_167 255 134 (dk_at dksX8_heats_5 11 rfl rfl)
theorem dX8_heats_127 : decode cX8_heats 127 = .ok (.return_, 1) := dk_177 (dk_at dksX8_heats_5 14 rfl rfl)
abbrev cX8_notesEnd : ByteArray := prog_13_method_84_code
def yX8_notesEnd : MethodName := ⟨RX8, "notesEnd", "(I)V"⟩
def dkwX8_notesEnd_2 : List UInt8 := [6, 182, 1, 104, 79, 177]
abbrev dktX8_notesEnd_2 : List UInt8 := dkwX8_notesEnd_2 ++ []
def dkwX8_notesEnd_1 : List UInt8 := [79, 132, 2, 1, 167, 255, 230, 42, 180, 0, 121, 27, 42, 5, 182, 1, 104, 79, 42, 180, 0, 124, 27, 42]
abbrev dktX8_notesEnd_1 : List UInt8 := dkwX8_notesEnd_1 ++ dktX8_notesEnd_2
def dkwX8_notesEnd_0 : List UInt8 := [3, 61, 28, 7, 162, 0, 27, 42, 180, 0, 118, 17, 5, 160, 28, 104, 27, 96, 42, 180, 0, 103, 28, 46]
abbrev dktX8_notesEnd_0 : List UInt8 := dkwX8_notesEnd_0 ++ dktX8_notesEnd_1
theorem dksX8_notesEnd_0 : cX8_notesEnd.data.toList.drop 0 = dktX8_notesEnd_0 := by decide +kernel
theorem dksX8_notesEnd_1 : cX8_notesEnd.data.toList.drop 24 = dktX8_notesEnd_1 := dk_seg dksX8_notesEnd_0 24 rfl rfl
theorem dksX8_notesEnd_2 : cX8_notesEnd.data.toList.drop 48 = dktX8_notesEnd_2 := dk_seg dksX8_notesEnd_1 24 rfl rfl
theorem dX8_notesEnd_0 : decode cX8_notesEnd 0 = .ok (.iconst 0, 1) := dk_3 (dk_at dksX8_notesEnd_0 0 rfl rfl)
theorem dX8_notesEnd_1 : decode cX8_notesEnd 1 = .ok (.istore_n 2, 1) := dk_61 (dk_at dksX8_notesEnd_0 1 rfl rfl)
theorem dX8_notesEnd_2 : decode cX8_notesEnd 2 = .ok (.iload_n 2, 1) := dk_28 (dk_at dksX8_notesEnd_0 2 rfl rfl)
theorem dX8_notesEnd_3 : decode cX8_notesEnd 3 = .ok (.iconst 4, 1) := dk_7 (dk_at dksX8_notesEnd_0 3 rfl rfl)
theorem dX8_notesEnd_4 : decode cX8_notesEnd 4 = .ok (.if_icmp .ge 27, 3) := dk_162 0 27 (dk_at dksX8_notesEnd_0 4 rfl rfl)
theorem dX8_notesEnd_7 : decode cX8_notesEnd 7 = .ok (.aload_n 0, 1) := dk_42 (dk_at dksX8_notesEnd_0 7 rfl rfl)
theorem dX8_notesEnd_8 : decode cX8_notesEnd 8 = .ok (.getfield 118, 3) := dk_180 0 118 (dk_at dksX8_notesEnd_0 8 rfl rfl)
theorem dX8_notesEnd_11 : decode cX8_notesEnd 11 = .ok (.sipush 1440, 3) := dk_17 5 160 (dk_at dksX8_notesEnd_0 11 rfl rfl)
theorem dX8_notesEnd_14 : decode cX8_notesEnd 14 = .ok (.iload_n 2, 1) := dk_28 (dk_at dksX8_notesEnd_0 14 rfl rfl)
theorem dX8_notesEnd_15 : decode cX8_notesEnd 15 = .ok (.imul, 1) := dk_104 (dk_at dksX8_notesEnd_0 15 rfl rfl)
theorem dX8_notesEnd_16 : decode cX8_notesEnd 16 = .ok (.iload_n 1, 1) := dk_27 (dk_at dksX8_notesEnd_0 16 rfl rfl)
theorem dX8_notesEnd_17 : decode cX8_notesEnd 17 = .ok (.iadd, 1) := dk_96 (dk_at dksX8_notesEnd_0 17 rfl rfl)
theorem dX8_notesEnd_18 : decode cX8_notesEnd 18 = .ok (.aload_n 0, 1) := dk_42 (dk_at dksX8_notesEnd_0 18 rfl rfl)
theorem dX8_notesEnd_19 : decode cX8_notesEnd 19 = .ok (.getfield 103, 3) := dk_180 0 103 (dk_at dksX8_notesEnd_0 19 rfl rfl)
theorem dX8_notesEnd_22 : decode cX8_notesEnd 22 = .ok (.iload_n 2, 1) := dk_28 (dk_at dksX8_notesEnd_0 22 rfl rfl)
theorem dX8_notesEnd_23 : decode cX8_notesEnd 23 = .ok (.iaload, 1) := dk_46 (dk_at dksX8_notesEnd_0 23 rfl rfl)
theorem dX8_notesEnd_24 : decode cX8_notesEnd 24 = .ok (.iastore, 1) := dk_79 (dk_at dksX8_notesEnd_1 0 rfl rfl)
theorem dX8_notesEnd_25 : decode cX8_notesEnd 25 = .ok (.iinc 2 1, 3) := dk_132 2 1 (dk_at dksX8_notesEnd_1 1 rfl rfl)
theorem dX8_notesEnd_28 : decode cX8_notesEnd 28 = .ok (.goto (-26), 3) := dk_167 255 230 (dk_at dksX8_notesEnd_1 4 rfl rfl)
theorem dX8_notesEnd_31 : decode cX8_notesEnd 31 = .ok (.aload_n 0, 1) := dk_42 (dk_at dksX8_notesEnd_1 7 rfl rfl)
theorem dX8_notesEnd_32 : decode cX8_notesEnd 32 = .ok (.getfield 121, 3) := dk_180 0 121 (dk_at dksX8_notesEnd_1 8 rfl rfl)
theorem dX8_notesEnd_35 : decode cX8_notesEnd 35 = .ok (.iload_n 1, 1) := dk_27 (dk_at dksX8_notesEnd_1 11 rfl rfl)
theorem dX8_notesEnd_36 : decode cX8_notesEnd 36 = .ok (.aload_n 0, 1) := dk_42 (dk_at dksX8_notesEnd_1 12 rfl rfl)
theorem dX8_notesEnd_37 : decode cX8_notesEnd 37 = .ok (.iconst 2, 1) := dk_5 (dk_at dksX8_notesEnd_1 13 rfl rfl)
theorem dX8_notesEnd_38 : decode cX8_notesEnd 38 = .ok (.invokevirtual 360, 3) := dk_182 1 104 (dk_at dksX8_notesEnd_1 14 rfl rfl)
theorem dX8_notesEnd_41 : decode cX8_notesEnd 41 = .ok (.iastore, 1) := dk_79 (dk_at dksX8_notesEnd_1 17 rfl rfl)
theorem dX8_notesEnd_42 : decode cX8_notesEnd 42 = .ok (.aload_n 0, 1) := dk_42 (dk_at dksX8_notesEnd_1 18 rfl rfl)
theorem dX8_notesEnd_43 : decode cX8_notesEnd 43 = .ok (.getfield 124, 3) := dk_180 0 124 (dk_at dksX8_notesEnd_1 19 rfl rfl)
theorem dX8_notesEnd_46 : decode cX8_notesEnd 46 = .ok (.iload_n 1, 1) := dk_27 (dk_at dksX8_notesEnd_1 22 rfl rfl)
theorem dX8_notesEnd_47 : decode cX8_notesEnd 47 = .ok (.aload_n 0, 1) := dk_42 (dk_at dksX8_notesEnd_1 23 rfl rfl)
theorem dX8_notesEnd_48 : decode cX8_notesEnd 48 = .ok (.iconst 3, 1) := dk_6 (dk_at dksX8_notesEnd_2 0 rfl rfl)
theorem dX8_notesEnd_49 : decode cX8_notesEnd 49 = .ok (.invokevirtual 360, 3) := dk_182 1 104 (dk_at dksX8_notesEnd_2 1 rfl rfl)
theorem dX8_notesEnd_52 : decode cX8_notesEnd 52 = .ok (.iastore, 1) := dk_79 (dk_at dksX8_notesEnd_2 4 rfl rfl)
theorem dX8_notesEnd_53 : decode cX8_notesEnd 53 = .ok (.return_, 1) := dk_177 (dk_at dksX8_notesEnd_2 5 rfl rfl)
abbrev cX8_stateOf : ByteArray := prog_13_method_88_code
def yX8_stateOf : MethodName := ⟨RX8, "stateOf", "(I)I"⟩
def dkwX8_stateOf_2 : List UInt8 := [46, 163, 0, 7, 4, 167, 0, 4, 5, 172]
abbrev dktX8_stateOf_2 : List UInt8 := dkwX8_stateOf_2 ++ []
def dkwX8_stateOf_1 : List UInt8 := [172, 42, 180, 0, 76, 27, 46, 42, 16, 6, 182, 0, 143, 96, 42, 180, 0, 35, 42, 27, 5, 182, 1, 50]
abbrev dktX8_stateOf_1 : List UInt8 := dkwX8_stateOf_1 ++ dktX8_stateOf_2
def dkwX8_stateOf_0 : List UInt8 := [42, 180, 0, 55, 27, 46, 16, 6, 160, 0, 5, 6, 172, 42, 180, 0, 55, 27, 46, 8, 159, 0, 5, 3]
abbrev dktX8_stateOf_0 : List UInt8 := dkwX8_stateOf_0 ++ dktX8_stateOf_1
theorem dksX8_stateOf_0 : cX8_stateOf.data.toList.drop 0 = dktX8_stateOf_0 := by decide +kernel
theorem dksX8_stateOf_1 : cX8_stateOf.data.toList.drop 24 = dktX8_stateOf_1 := dk_seg dksX8_stateOf_0 24 rfl rfl
theorem dksX8_stateOf_2 : cX8_stateOf.data.toList.drop 48 = dktX8_stateOf_2 := dk_seg dksX8_stateOf_1 24 rfl rfl
theorem dX8_stateOf_0 : decode cX8_stateOf 0 = .ok (.aload_n 0, 1) := dk_42 (dk_at dksX8_stateOf_0 0 rfl rfl)
theorem dX8_stateOf_1 : decode cX8_stateOf 1 = .ok (.getfield 55, 3) := dk_180 0 55 (dk_at dksX8_stateOf_0 1 rfl rfl)
theorem dX8_stateOf_4 : decode cX8_stateOf 4 = .ok (.iload_n 1, 1) := dk_27 (dk_at dksX8_stateOf_0 4 rfl rfl)
theorem dX8_stateOf_5 : decode cX8_stateOf 5 = .ok (.iaload, 1) := dk_46 (dk_at dksX8_stateOf_0 5 rfl rfl)
theorem dX8_stateOf_6 : decode cX8_stateOf 6 = .ok (.bipush 6, 2) := dk_16 6 (dk_at dksX8_stateOf_0 6 rfl rfl)
theorem dX8_stateOf_8 : decode cX8_stateOf 8 = .ok (.if_icmp .ne 5, 3) := dk_160 0 5 (dk_at dksX8_stateOf_0 8 rfl rfl)
theorem dX8_stateOf_11 : decode cX8_stateOf 11 = .ok (.iconst 3, 1) := dk_6 (dk_at dksX8_stateOf_0 11 rfl rfl)
theorem dX8_stateOf_12 : decode cX8_stateOf 12 = .ok (.ireturn, 1) := dk_172 (dk_at dksX8_stateOf_0 12 rfl rfl)
theorem dX8_stateOf_13 : decode cX8_stateOf 13 = .ok (.aload_n 0, 1) := dk_42 (dk_at dksX8_stateOf_0 13 rfl rfl)
theorem dX8_stateOf_14 : decode cX8_stateOf 14 = .ok (.getfield 55, 3) := dk_180 0 55 (dk_at dksX8_stateOf_0 14 rfl rfl)
theorem dX8_stateOf_17 : decode cX8_stateOf 17 = .ok (.iload_n 1, 1) := dk_27 (dk_at dksX8_stateOf_0 17 rfl rfl)
theorem dX8_stateOf_18 : decode cX8_stateOf 18 = .ok (.iaload, 1) := dk_46 (dk_at dksX8_stateOf_0 18 rfl rfl)
theorem dX8_stateOf_19 : decode cX8_stateOf 19 = .ok (.iconst 5, 1) := dk_8 (dk_at dksX8_stateOf_0 19 rfl rfl)
theorem dX8_stateOf_20 : decode cX8_stateOf 20 = .ok (.if_icmp .eq 5, 3) := dk_159 0 5 (dk_at dksX8_stateOf_0 20 rfl rfl)
theorem dX8_stateOf_23 : decode cX8_stateOf 23 = .ok (.iconst 0, 1) := dk_3 (dk_at dksX8_stateOf_0 23 rfl rfl)
theorem dX8_stateOf_24 : decode cX8_stateOf 24 = .ok (.ireturn, 1) := dk_172 (dk_at dksX8_stateOf_1 0 rfl rfl)
theorem dX8_stateOf_25 : decode cX8_stateOf 25 = .ok (.aload_n 0, 1) := dk_42 (dk_at dksX8_stateOf_1 1 rfl rfl)
theorem dX8_stateOf_26 : decode cX8_stateOf 26 = .ok (.getfield 76, 3) := dk_180 0 76 (dk_at dksX8_stateOf_1 2 rfl rfl)
theorem dX8_stateOf_29 : decode cX8_stateOf 29 = .ok (.iload_n 1, 1) := dk_27 (dk_at dksX8_stateOf_1 5 rfl rfl)
theorem dX8_stateOf_30 : decode cX8_stateOf 30 = .ok (.iaload, 1) := dk_46 (dk_at dksX8_stateOf_1 6 rfl rfl)
theorem dX8_stateOf_31 : decode cX8_stateOf 31 = .ok (.aload_n 0, 1) := dk_42 (dk_at dksX8_stateOf_1 7 rfl rfl)
theorem dX8_stateOf_32 : decode cX8_stateOf 32 = .ok (.bipush 6, 2) := dk_16 6 (dk_at dksX8_stateOf_1 8 rfl rfl)
theorem dX8_stateOf_34 : decode cX8_stateOf 34 = .ok (.invokevirtual 143, 3) := dk_182 0 143 (dk_at dksX8_stateOf_1 10 rfl rfl)
theorem dX8_stateOf_37 : decode cX8_stateOf 37 = .ok (.iadd, 1) := dk_96 (dk_at dksX8_stateOf_1 13 rfl rfl)
theorem dX8_stateOf_38 : decode cX8_stateOf 38 = .ok (.aload_n 0, 1) := dk_42 (dk_at dksX8_stateOf_1 14 rfl rfl)
theorem dX8_stateOf_39 : decode cX8_stateOf 39 = .ok (.getfield 35, 3) := dk_180 0 35 (dk_at dksX8_stateOf_1 15 rfl rfl)
theorem dX8_stateOf_42 : decode cX8_stateOf 42 = .ok (.aload_n 0, 1) := dk_42 (dk_at dksX8_stateOf_1 18 rfl rfl)
theorem dX8_stateOf_43 : decode cX8_stateOf 43 = .ok (.iload_n 1, 1) := dk_27 (dk_at dksX8_stateOf_1 19 rfl rfl)
theorem dX8_stateOf_44 : decode cX8_stateOf 44 = .ok (.iconst 2, 1) := dk_5 (dk_at dksX8_stateOf_1 20 rfl rfl)
theorem dX8_stateOf_45 : decode cX8_stateOf 45 = .ok (.invokevirtual 306, 3) := dk_182 1 50 (dk_at dksX8_stateOf_1 21 rfl rfl)
theorem dX8_stateOf_48 : decode cX8_stateOf 48 = .ok (.iaload, 1) := dk_46 (dk_at dksX8_stateOf_2 0 rfl rfl)
theorem dX8_stateOf_49 : decode cX8_stateOf 49 = .ok (.if_icmp .gt 7, 3) := dk_163 0 7 (dk_at dksX8_stateOf_2 1 rfl rfl)
theorem dX8_stateOf_52 : decode cX8_stateOf 52 = .ok (.iconst 1, 1) := dk_4 (dk_at dksX8_stateOf_2 4 rfl rfl)
theorem dX8_stateOf_53 : decode cX8_stateOf 53 = .ok (.goto 4, 3) := dk_167 0 4 (dk_at dksX8_stateOf_2 5 rfl rfl)
theorem dX8_stateOf_56 : decode cX8_stateOf 56 = .ok (.iconst 2, 1) := dk_5 (dk_at dksX8_stateOf_2 8 rfl rfl)
theorem dX8_stateOf_57 : decode cX8_stateOf 57 = .ok (.ireturn, 1) := dk_172 (dk_at dksX8_stateOf_2 9 rfl rfl)
abbrev cX8_mixerOf : ByteArray := prog_13_method_93_code
def yX8_mixerOf : MethodName := ⟨RX8, "mixerOf", "(I)I"⟩
def dkwX8_mixerOf_0 : List UInt8 := [42, 42, 180, 0, 61, 27, 182, 1, 152, 172]
abbrev dktX8_mixerOf_0 : List UInt8 := dkwX8_mixerOf_0 ++ []
theorem dksX8_mixerOf_0 : cX8_mixerOf.data.toList.drop 0 = dktX8_mixerOf_0 := by decide +kernel
theorem dX8_mixerOf_0 : decode cX8_mixerOf 0 = .ok (.aload_n 0, 1) := dk_42 (dk_at dksX8_mixerOf_0 0 rfl rfl)
theorem dX8_mixerOf_1 : decode cX8_mixerOf 1 = .ok (.aload_n 0, 1) := dk_42 (dk_at dksX8_mixerOf_0 1 rfl rfl)
theorem dX8_mixerOf_2 : decode cX8_mixerOf 2 = .ok (.getfield 61, 3) := dk_180 0 61 (dk_at dksX8_mixerOf_0 2 rfl rfl)
theorem dX8_mixerOf_5 : decode cX8_mixerOf 5 = .ok (.iload_n 1, 1) := dk_27 (dk_at dksX8_mixerOf_0 5 rfl rfl)
theorem dX8_mixerOf_6 : decode cX8_mixerOf 6 = .ok (.invokevirtual 408, 3) := dk_182 1 152 (dk_at dksX8_mixerOf_0 6 rfl rfl)
theorem dX8_mixerOf_9 : decode cX8_mixerOf 9 = .ok (.ireturn, 1) := dk_172 (dk_at dksX8_mixerOf_0 9 rfl rfl)
abbrev cX8_ofDay : ByteArray := prog_13_method_92_code
def yX8_ofDay : MethodName := ⟨RX8, "ofDay", "([II)I"⟩
def dkwX8_ofDay_1 : List UInt8 := [28, 46, 172]
abbrev dktX8_ofDay_1 : List UInt8 := dkwX8_ofDay_1 ++ []
def dkwX8_ofDay_0 : List UInt8 := [42, 3, 181, 0, 137, 42, 28, 182, 1, 47, 154, 0, 9, 42, 4, 182, 0, 164, 172, 42, 182, 1, 149, 43]
abbrev dktX8_ofDay_0 : List UInt8 := dkwX8_ofDay_0 ++ dktX8_ofDay_1
theorem dksX8_ofDay_0 : cX8_ofDay.data.toList.drop 0 = dktX8_ofDay_0 := by decide +kernel
theorem dksX8_ofDay_1 : cX8_ofDay.data.toList.drop 24 = dktX8_ofDay_1 := dk_seg dksX8_ofDay_0 24 rfl rfl
theorem dX8_ofDay_0 : decode cX8_ofDay 0 = .ok (.aload_n 0, 1) := dk_42 (dk_at dksX8_ofDay_0 0 rfl rfl)
theorem dX8_ofDay_1 : decode cX8_ofDay 1 = .ok (.iconst 0, 1) := dk_3 (dk_at dksX8_ofDay_0 1 rfl rfl)
theorem dX8_ofDay_2 : decode cX8_ofDay 2 = .ok (.putfield 137, 3) := dk_181 0 137 (dk_at dksX8_ofDay_0 2 rfl rfl)
theorem dX8_ofDay_5 : decode cX8_ofDay 5 = .ok (.aload_n 0, 1) := dk_42 (dk_at dksX8_ofDay_0 5 rfl rfl)
theorem dX8_ofDay_6 : decode cX8_ofDay 6 = .ok (.iload_n 2, 1) := dk_28 (dk_at dksX8_ofDay_0 6 rfl rfl)
theorem dX8_ofDay_7 : decode cX8_ofDay 7 = .ok (.invokevirtual 303, 3) := dk_182 1 47 (dk_at dksX8_ofDay_0 7 rfl rfl)
theorem dX8_ofDay_10 : decode cX8_ofDay 10 = .ok (.ifCond .ne 9, 3) := dk_154 0 9 (dk_at dksX8_ofDay_0 10 rfl rfl)
theorem dX8_ofDay_13 : decode cX8_ofDay 13 = .ok (.aload_n 0, 1) := dk_42 (dk_at dksX8_ofDay_0 13 rfl rfl)
theorem dX8_ofDay_14 : decode cX8_ofDay 14 = .ok (.iconst 1, 1) := dk_4 (dk_at dksX8_ofDay_0 14 rfl rfl)
theorem dX8_ofDay_15 : decode cX8_ofDay 15 = .ok (.invokevirtual 164, 3) := dk_182 0 164 (dk_at dksX8_ofDay_0 15 rfl rfl)
theorem dX8_ofDay_18 : decode cX8_ofDay 18 = .ok (.ireturn, 1) := dk_172 (dk_at dksX8_ofDay_0 18 rfl rfl)
theorem dX8_ofDay_19 : decode cX8_ofDay 19 = .ok (.aload_n 0, 1) := dk_42 (dk_at dksX8_ofDay_0 19 rfl rfl)
theorem dX8_ofDay_20 : decode cX8_ofDay 20 = .ok (.invokevirtual 405, 3) := dk_182 1 149 (dk_at dksX8_ofDay_0 20 rfl rfl)
theorem dX8_ofDay_23 : decode cX8_ofDay 23 = .ok (.aload_n 1, 1) := dk_43 (dk_at dksX8_ofDay_0 23 rfl rfl)
theorem dX8_ofDay_24 : decode cX8_ofDay 24 = .ok (.iload_n 2, 1) := dk_28 (dk_at dksX8_ofDay_1 0 rfl rfl)
theorem dX8_ofDay_25 : decode cX8_ofDay 25 = .ok (.iaload, 1) := dk_46 (dk_at dksX8_ofDay_1 1 rfl rfl)
theorem dX8_ofDay_26 : decode cX8_ofDay 26 = .ok (.ireturn, 1) := dk_172 (dk_at dksX8_ofDay_1 2 rfl rfl)
abbrev cX8_mixStart : ByteArray := prog_13_method_94_code
def yX8_mixStart : MethodName := ⟨RX8, "mixStart", "(I)I"⟩
def dkwX8_mixStart_0 : List UInt8 := [42, 42, 180, 0, 64, 27, 182, 1, 152, 172]
abbrev dktX8_mixStart_0 : List UInt8 := dkwX8_mixStart_0 ++ []
theorem dksX8_mixStart_0 : cX8_mixStart.data.toList.drop 0 = dktX8_mixStart_0 := by decide +kernel
theorem dX8_mixStart_0 : decode cX8_mixStart 0 = .ok (.aload_n 0, 1) := dk_42 (dk_at dksX8_mixStart_0 0 rfl rfl)
theorem dX8_mixStart_1 : decode cX8_mixStart 1 = .ok (.aload_n 0, 1) := dk_42 (dk_at dksX8_mixStart_0 1 rfl rfl)
theorem dX8_mixStart_2 : decode cX8_mixStart 2 = .ok (.getfield 64, 3) := dk_180 0 64 (dk_at dksX8_mixStart_0 2 rfl rfl)
theorem dX8_mixStart_5 : decode cX8_mixStart 5 = .ok (.iload_n 1, 1) := dk_27 (dk_at dksX8_mixStart_0 5 rfl rfl)
theorem dX8_mixStart_6 : decode cX8_mixStart 6 = .ok (.invokevirtual 408, 3) := dk_182 1 152 (dk_at dksX8_mixStart_0 6 rfl rfl)
theorem dX8_mixStart_9 : decode cX8_mixStart 9 = .ok (.ireturn, 1) := dk_172 (dk_at dksX8_mixStart_0 9 rfl rfl)
abbrev cX8_proofStart : ByteArray := prog_13_method_95_code
def yX8_proofStart : MethodName := ⟨RX8, "proofStart", "(I)I"⟩
def dkwX8_proofStart_0 : List UInt8 := [42, 42, 180, 0, 67, 27, 182, 1, 152, 172]
abbrev dktX8_proofStart_0 : List UInt8 := dkwX8_proofStart_0 ++ []
theorem dksX8_proofStart_0 : cX8_proofStart.data.toList.drop 0 = dktX8_proofStart_0 := by decide +kernel
theorem dX8_proofStart_0 : decode cX8_proofStart 0 = .ok (.aload_n 0, 1) := dk_42 (dk_at dksX8_proofStart_0 0 rfl rfl)
theorem dX8_proofStart_1 : decode cX8_proofStart 1 = .ok (.aload_n 0, 1) := dk_42 (dk_at dksX8_proofStart_0 1 rfl rfl)
theorem dX8_proofStart_2 : decode cX8_proofStart 2 = .ok (.getfield 67, 3) := dk_180 0 67 (dk_at dksX8_proofStart_0 2 rfl rfl)
theorem dX8_proofStart_5 : decode cX8_proofStart 5 = .ok (.iload_n 1, 1) := dk_27 (dk_at dksX8_proofStart_0 5 rfl rfl)
theorem dX8_proofStart_6 : decode cX8_proofStart 6 = .ok (.invokevirtual 408, 3) := dk_182 1 152 (dk_at dksX8_proofStart_0 6 rfl rfl)
theorem dX8_proofStart_9 : decode cX8_proofStart 9 = .ok (.ireturn, 1) := dk_172 (dk_at dksX8_proofStart_0 9 rfl rfl)
abbrev cX8_deckOf : ByteArray := prog_13_method_96_code
def yX8_deckOf : MethodName := ⟨RX8, "deckOf", "(I)I"⟩
def dkwX8_deckOf_0 : List UInt8 := [42, 42, 180, 0, 70, 27, 182, 1, 152, 172]
abbrev dktX8_deckOf_0 : List UInt8 := dkwX8_deckOf_0 ++ []
theorem dksX8_deckOf_0 : cX8_deckOf.data.toList.drop 0 = dktX8_deckOf_0 := by decide +kernel
theorem dX8_deckOf_0 : decode cX8_deckOf 0 = .ok (.aload_n 0, 1) := dk_42 (dk_at dksX8_deckOf_0 0 rfl rfl)
theorem dX8_deckOf_1 : decode cX8_deckOf 1 = .ok (.aload_n 0, 1) := dk_42 (dk_at dksX8_deckOf_0 1 rfl rfl)
theorem dX8_deckOf_2 : decode cX8_deckOf 2 = .ok (.getfield 70, 3) := dk_180 0 70 (dk_at dksX8_deckOf_0 2 rfl rfl)
theorem dX8_deckOf_5 : decode cX8_deckOf 5 = .ok (.iload_n 1, 1) := dk_27 (dk_at dksX8_deckOf_0 5 rfl rfl)
theorem dX8_deckOf_6 : decode cX8_deckOf 6 = .ok (.invokevirtual 408, 3) := dk_182 1 152 (dk_at dksX8_deckOf_0 6 rfl rfl)
theorem dX8_deckOf_9 : decode cX8_deckOf 9 = .ok (.ireturn, 1) := dk_172 (dk_at dksX8_deckOf_0 9 rfl rfl)
abbrev cX8_bakeStart : ByteArray := prog_13_method_97_code
def yX8_bakeStart : MethodName := ⟨RX8, "bakeStart", "(I)I"⟩
def dkwX8_bakeStart_0 : List UInt8 := [42, 42, 180, 0, 73, 27, 182, 1, 152, 172]
abbrev dktX8_bakeStart_0 : List UInt8 := dkwX8_bakeStart_0 ++ []
theorem dksX8_bakeStart_0 : cX8_bakeStart.data.toList.drop 0 = dktX8_bakeStart_0 := by decide +kernel
theorem dX8_bakeStart_0 : decode cX8_bakeStart 0 = .ok (.aload_n 0, 1) := dk_42 (dk_at dksX8_bakeStart_0 0 rfl rfl)
theorem dX8_bakeStart_1 : decode cX8_bakeStart 1 = .ok (.aload_n 0, 1) := dk_42 (dk_at dksX8_bakeStart_0 1 rfl rfl)
theorem dX8_bakeStart_2 : decode cX8_bakeStart 2 = .ok (.getfield 73, 3) := dk_180 0 73 (dk_at dksX8_bakeStart_0 2 rfl rfl)
theorem dX8_bakeStart_5 : decode cX8_bakeStart 5 = .ok (.iload_n 1, 1) := dk_27 (dk_at dksX8_bakeStart_0 5 rfl rfl)
theorem dX8_bakeStart_6 : decode cX8_bakeStart 6 = .ok (.invokevirtual 408, 3) := dk_182 1 152 (dk_at dksX8_bakeStart_0 6 rfl rfl)
theorem dX8_bakeStart_9 : decode cX8_bakeStart 9 = .ok (.ireturn, 1) := dk_172 (dk_at dksX8_bakeStart_0 9 rfl rfl)
abbrev cX8_bakeEnd : ByteArray := prog_13_method_98_code
def yX8_bakeEnd : MethodName := ⟨RX8, "bakeEnd", "(I)I"⟩
def dkwX8_bakeEnd_0 : List UInt8 := [42, 42, 180, 0, 76, 27, 182, 1, 152, 172]
abbrev dktX8_bakeEnd_0 : List UInt8 := dkwX8_bakeEnd_0 ++ []
theorem dksX8_bakeEnd_0 : cX8_bakeEnd.data.toList.drop 0 = dktX8_bakeEnd_0 := by decide +kernel
theorem dX8_bakeEnd_0 : decode cX8_bakeEnd 0 = .ok (.aload_n 0, 1) := dk_42 (dk_at dksX8_bakeEnd_0 0 rfl rfl)
theorem dX8_bakeEnd_1 : decode cX8_bakeEnd 1 = .ok (.aload_n 0, 1) := dk_42 (dk_at dksX8_bakeEnd_0 1 rfl rfl)
theorem dX8_bakeEnd_2 : decode cX8_bakeEnd 2 = .ok (.getfield 76, 3) := dk_180 0 76 (dk_at dksX8_bakeEnd_0 2 rfl rfl)
theorem dX8_bakeEnd_5 : decode cX8_bakeEnd 5 = .ok (.iload_n 1, 1) := dk_27 (dk_at dksX8_bakeEnd_0 5 rfl rfl)
theorem dX8_bakeEnd_6 : decode cX8_bakeEnd 6 = .ok (.invokevirtual 408, 3) := dk_182 1 152 (dk_at dksX8_bakeEnd_0 6 rfl rfl)
theorem dX8_bakeEnd_9 : decode cX8_bakeEnd 9 = .ok (.ireturn, 1) := dk_172 (dk_at dksX8_bakeEnd_0 9 rfl rfl)
abbrev cX8_lostAt : ByteArray := prog_13_method_99_code
def yX8_lostAt : MethodName := ⟨RX8, "lostAt", "(I)I"⟩
def dkwX8_lostAt_0 : List UInt8 := [42, 42, 180, 0, 79, 27, 182, 1, 152, 172]
abbrev dktX8_lostAt_0 : List UInt8 := dkwX8_lostAt_0 ++ []
theorem dksX8_lostAt_0 : cX8_lostAt.data.toList.drop 0 = dktX8_lostAt_0 := by decide +kernel
theorem dX8_lostAt_0 : decode cX8_lostAt 0 = .ok (.aload_n 0, 1) := dk_42 (dk_at dksX8_lostAt_0 0 rfl rfl)
theorem dX8_lostAt_1 : decode cX8_lostAt 1 = .ok (.aload_n 0, 1) := dk_42 (dk_at dksX8_lostAt_0 1 rfl rfl)
theorem dX8_lostAt_2 : decode cX8_lostAt 2 = .ok (.getfield 79, 3) := dk_180 0 79 (dk_at dksX8_lostAt_0 2 rfl rfl)
theorem dX8_lostAt_5 : decode cX8_lostAt 5 = .ok (.iload_n 1, 1) := dk_27 (dk_at dksX8_lostAt_0 5 rfl rfl)
theorem dX8_lostAt_6 : decode cX8_lostAt 6 = .ok (.invokevirtual 408, 3) := dk_182 1 152 (dk_at dksX8_lostAt_0 6 rfl rfl)
theorem dX8_lostAt_9 : decode cX8_lostAt 9 = .ok (.ireturn, 1) := dk_172 (dk_at dksX8_lostAt_0 9 rfl rfl)
abbrev cX8_shelfMinutes : ByteArray := prog_13_method_100_code
def yX8_shelfMinutes : MethodName := ⟨RX8, "shelfMinutes", "(I)I"⟩
def dkwX8_shelfMinutes_0 : List UInt8 := [42, 42, 180, 0, 82, 27, 182, 1, 152, 172]
abbrev dktX8_shelfMinutes_0 : List UInt8 := dkwX8_shelfMinutes_0 ++ []
theorem dksX8_shelfMinutes_0 : cX8_shelfMinutes.data.toList.drop 0 = dktX8_shelfMinutes_0 := by decide +kernel
theorem dX8_shelfMinutes_0 : decode cX8_shelfMinutes 0 = .ok (.aload_n 0, 1) := dk_42 (dk_at dksX8_shelfMinutes_0 0 rfl rfl)
theorem dX8_shelfMinutes_1 : decode cX8_shelfMinutes 1 = .ok (.aload_n 0, 1) := dk_42 (dk_at dksX8_shelfMinutes_0 1 rfl rfl)
theorem dX8_shelfMinutes_2 : decode cX8_shelfMinutes 2 = .ok (.getfield 82, 3) := dk_180 0 82 (dk_at dksX8_shelfMinutes_0 2 rfl rfl)
theorem dX8_shelfMinutes_5 : decode cX8_shelfMinutes 5 = .ok (.iload_n 1, 1) := dk_27 (dk_at dksX8_shelfMinutes_0 5 rfl rfl)
theorem dX8_shelfMinutes_6 : decode cX8_shelfMinutes 6 = .ok (.invokevirtual 408, 3) := dk_182 1 152 (dk_at dksX8_shelfMinutes_0 6 rfl rfl)
theorem dX8_shelfMinutes_9 : decode cX8_shelfMinutes 9 = .ok (.ireturn, 1) := dk_172 (dk_at dksX8_shelfMinutes_0 9 rfl rfl)
abbrev cX8_age : ByteArray := prog_13_method_101_code
def yX8_age : MethodName := ⟨RX8, "age", "(I)D"⟩
def dkwX8_age_2 : List UInt8 := [7, 182, 0, 143, 135, 111, 175]
abbrev dktX8_age_2 : List UInt8 := dkwX8_age_2 ++ []
def dkwX8_age_1 : List UInt8 := [42, 180, 0, 70, 27, 46, 2, 160, 0, 9, 20, 1, 156, 167, 0, 17, 42, 180, 0, 85, 27, 46, 135, 42]
abbrev dktX8_age_1 : List UInt8 := dkwX8_age_1 ++ dktX8_age_2
def dkwX8_age_0 : List UInt8 := [42, 3, 181, 0, 137, 42, 27, 182, 1, 47, 154, 0, 10, 42, 4, 182, 0, 164, 135, 175, 42, 182, 1, 149]
abbrev dktX8_age_0 : List UInt8 := dkwX8_age_0 ++ dktX8_age_1
theorem dksX8_age_0 : cX8_age.data.toList.drop 0 = dktX8_age_0 := by decide +kernel
theorem dksX8_age_1 : cX8_age.data.toList.drop 24 = dktX8_age_1 := dk_seg dksX8_age_0 24 rfl rfl
theorem dksX8_age_2 : cX8_age.data.toList.drop 48 = dktX8_age_2 := dk_seg dksX8_age_1 24 rfl rfl
theorem dX8_age_0 : decode cX8_age 0 = .ok (.aload_n 0, 1) := dk_42 (dk_at dksX8_age_0 0 rfl rfl)
theorem dX8_age_1 : decode cX8_age 1 = .ok (.iconst 0, 1) := dk_3 (dk_at dksX8_age_0 1 rfl rfl)
theorem dX8_age_2 : decode cX8_age 2 = .ok (.putfield 137, 3) := dk_181 0 137 (dk_at dksX8_age_0 2 rfl rfl)
theorem dX8_age_5 : decode cX8_age 5 = .ok (.aload_n 0, 1) := dk_42 (dk_at dksX8_age_0 5 rfl rfl)
theorem dX8_age_6 : decode cX8_age 6 = .ok (.iload_n 1, 1) := dk_27 (dk_at dksX8_age_0 6 rfl rfl)
theorem dX8_age_7 : decode cX8_age 7 = .ok (.invokevirtual 303, 3) := dk_182 1 47 (dk_at dksX8_age_0 7 rfl rfl)
theorem dX8_age_10 : decode cX8_age 10 = .ok (.ifCond .ne 10, 3) := dk_154 0 10 (dk_at dksX8_age_0 10 rfl rfl)
theorem dX8_age_13 : decode cX8_age 13 = .ok (.aload_n 0, 1) := dk_42 (dk_at dksX8_age_0 13 rfl rfl)
theorem dX8_age_14 : decode cX8_age 14 = .ok (.iconst 1, 1) := dk_4 (dk_at dksX8_age_0 14 rfl rfl)
theorem dX8_age_15 : decode cX8_age 15 = .ok (.invokevirtual 164, 3) := dk_182 0 164 (dk_at dksX8_age_0 15 rfl rfl)
theorem dX8_age_18 : decode cX8_age 18 = .ok (.i2d, 1) := dk_135 (dk_at dksX8_age_0 18 rfl rfl)
theorem dX8_age_19 : decode cX8_age 19 = .ok (.dreturn, 1) := dk_175 (dk_at dksX8_age_0 19 rfl rfl)
theorem dX8_age_20 : decode cX8_age 20 = .ok (.aload_n 0, 1) := dk_42 (dk_at dksX8_age_0 20 rfl rfl)
theorem dX8_age_21 : decode cX8_age 21 = .ok (.invokevirtual 405, 3) := dk_182 1 149 (dk_at dksX8_age_0 21 rfl rfl)
theorem dX8_age_24 : decode cX8_age 24 = .ok (.aload_n 0, 1) := dk_42 (dk_at dksX8_age_1 0 rfl rfl)
theorem dX8_age_25 : decode cX8_age 25 = .ok (.getfield 70, 3) := dk_180 0 70 (dk_at dksX8_age_1 1 rfl rfl)
theorem dX8_age_28 : decode cX8_age 28 = .ok (.iload_n 1, 1) := dk_27 (dk_at dksX8_age_1 4 rfl rfl)
theorem dX8_age_29 : decode cX8_age 29 = .ok (.iaload, 1) := dk_46 (dk_at dksX8_age_1 5 rfl rfl)
theorem dX8_age_30 : decode cX8_age 30 = .ok (.iconst (-1), 1) := dk_2 (dk_at dksX8_age_1 6 rfl rfl)
theorem dX8_age_31 : decode cX8_age 31 = .ok (.if_icmp .ne 9, 3) := dk_160 0 9 (dk_at dksX8_age_1 7 rfl rfl)
theorem dX8_age_34 : decode cX8_age 34 = .ok (.ldc2_w 412, 3) := dk_20 1 156 (dk_at dksX8_age_1 10 rfl rfl)
theorem dX8_age_37 : decode cX8_age 37 = .ok (.goto 17, 3) := dk_167 0 17 (dk_at dksX8_age_1 13 rfl rfl)
theorem dX8_age_40 : decode cX8_age 40 = .ok (.aload_n 0, 1) := dk_42 (dk_at dksX8_age_1 16 rfl rfl)
theorem dX8_age_41 : decode cX8_age 41 = .ok (.getfield 85, 3) := dk_180 0 85 (dk_at dksX8_age_1 17 rfl rfl)
theorem dX8_age_44 : decode cX8_age 44 = .ok (.iload_n 1, 1) := dk_27 (dk_at dksX8_age_1 20 rfl rfl)
theorem dX8_age_45 : decode cX8_age 45 = .ok (.iaload, 1) := dk_46 (dk_at dksX8_age_1 21 rfl rfl)
theorem dX8_age_46 : decode cX8_age 46 = .ok (.i2d, 1) := dk_135 (dk_at dksX8_age_1 22 rfl rfl)
theorem dX8_age_47 : decode cX8_age 47 = .ok (.aload_n 0, 1) := dk_42 (dk_at dksX8_age_1 23 rfl rfl)
theorem dX8_age_48 : decode cX8_age 48 = .ok (.iconst 4, 1) := dk_7 (dk_at dksX8_age_2 0 rfl rfl)
theorem dX8_age_49 : decode cX8_age 49 = .ok (.invokevirtual 143, 3) := dk_182 0 143 (dk_at dksX8_age_2 1 rfl rfl)
theorem dX8_age_52 : decode cX8_age 52 = .ok (.i2d, 1) := dk_135 (dk_at dksX8_age_2 4 rfl rfl)
theorem dX8_age_53 : decode cX8_age 53 = .ok (.ddiv, 1) := dk_111 (dk_at dksX8_age_2 5 rfl rfl)
theorem dX8_age_54 : decode cX8_age 54 = .ok (.dreturn, 1) := dk_175 (dk_at dksX8_age_2 6 rfl rfl)
abbrev cX8_count : ByteArray := prog_13_method_102_code
def yX8_count : MethodName := ⟨RX8, "count", "(I)I"⟩
def dkwX8_count_1 : List UInt8 := [42, 27, 182, 1, 158, 172]
abbrev dktX8_count_1 : List UInt8 := dkwX8_count_1 ++ []
def dkwX8_count_0 : List UInt8 := [42, 3, 181, 0, 137, 27, 3, 6, 184, 0, 151, 154, 0, 9, 42, 4, 182, 0, 164, 172, 42, 182, 1, 149]
abbrev dktX8_count_0 : List UInt8 := dkwX8_count_0 ++ dktX8_count_1
theorem dksX8_count_0 : cX8_count.data.toList.drop 0 = dktX8_count_0 := by decide +kernel
theorem dksX8_count_1 : cX8_count.data.toList.drop 24 = dktX8_count_1 := dk_seg dksX8_count_0 24 rfl rfl
theorem dX8_count_0 : decode cX8_count 0 = .ok (.aload_n 0, 1) := dk_42 (dk_at dksX8_count_0 0 rfl rfl)
theorem dX8_count_1 : decode cX8_count 1 = .ok (.iconst 0, 1) := dk_3 (dk_at dksX8_count_0 1 rfl rfl)
theorem dX8_count_2 : decode cX8_count 2 = .ok (.putfield 137, 3) := dk_181 0 137 (dk_at dksX8_count_0 2 rfl rfl)
theorem dX8_count_5 : decode cX8_count 5 = .ok (.iload_n 1, 1) := dk_27 (dk_at dksX8_count_0 5 rfl rfl)
theorem dX8_count_6 : decode cX8_count 6 = .ok (.iconst 0, 1) := dk_3 (dk_at dksX8_count_0 6 rfl rfl)
theorem dX8_count_7 : decode cX8_count 7 = .ok (.iconst 3, 1) := dk_6 (dk_at dksX8_count_0 7 rfl rfl)
theorem dX8_count_8 : decode cX8_count 8 = .ok (.invokestatic 151, 3) := dk_184 0 151 (dk_at dksX8_count_0 8 rfl rfl)
theorem dX8_count_11 : decode cX8_count 11 = .ok (.ifCond .ne 9, 3) := dk_154 0 9 (dk_at dksX8_count_0 11 rfl rfl)
theorem dX8_count_14 : decode cX8_count 14 = .ok (.aload_n 0, 1) := dk_42 (dk_at dksX8_count_0 14 rfl rfl)
theorem dX8_count_15 : decode cX8_count 15 = .ok (.iconst 1, 1) := dk_4 (dk_at dksX8_count_0 15 rfl rfl)
theorem dX8_count_16 : decode cX8_count 16 = .ok (.invokevirtual 164, 3) := dk_182 0 164 (dk_at dksX8_count_0 16 rfl rfl)
theorem dX8_count_19 : decode cX8_count 19 = .ok (.ireturn, 1) := dk_172 (dk_at dksX8_count_0 19 rfl rfl)
theorem dX8_count_20 : decode cX8_count 20 = .ok (.aload_n 0, 1) := dk_42 (dk_at dksX8_count_0 20 rfl rfl)
theorem dX8_count_21 : decode cX8_count 21 = .ok (.invokevirtual 405, 3) := dk_182 1 149 (dk_at dksX8_count_0 21 rfl rfl)
theorem dX8_count_24 : decode cX8_count 24 = .ok (.aload_n 0, 1) := dk_42 (dk_at dksX8_count_1 0 rfl rfl)
theorem dX8_count_25 : decode cX8_count 25 = .ok (.iload_n 1, 1) := dk_27 (dk_at dksX8_count_1 1 rfl rfl)
theorem dX8_count_26 : decode cX8_count 26 = .ok (.invokevirtual 414, 3) := dk_182 1 158 (dk_at dksX8_count_1 2 rfl rfl)
theorem dX8_count_29 : decode cX8_count 29 = .ok (.ireturn, 1) := dk_172 (dk_at dksX8_count_1 5 rfl rfl)
abbrev cX8_countOf : ByteArray := prog_13_method_89_code
def yX8_countOf : MethodName := ⟨RX8, "countOf", "(I)I"⟩
def dkwX8_countOf_1 : List UInt8 := [132, 3, 1, 167, 255, 233, 28, 172]
abbrev dktX8_countOf_1 : List UInt8 := dkwX8_countOf_1 ++ []
def dkwX8_countOf_0 : List UInt8 := [3, 61, 3, 62, 29, 42, 182, 0, 147, 162, 0, 21, 42, 29, 182, 1, 146, 27, 160, 0, 6, 132, 2, 1]
abbrev dktX8_countOf_0 : List UInt8 := dkwX8_countOf_0 ++ dktX8_countOf_1
theorem dksX8_countOf_0 : cX8_countOf.data.toList.drop 0 = dktX8_countOf_0 := by decide +kernel
theorem dksX8_countOf_1 : cX8_countOf.data.toList.drop 24 = dktX8_countOf_1 := dk_seg dksX8_countOf_0 24 rfl rfl
theorem dX8_countOf_0 : decode cX8_countOf 0 = .ok (.iconst 0, 1) := dk_3 (dk_at dksX8_countOf_0 0 rfl rfl)
theorem dX8_countOf_1 : decode cX8_countOf 1 = .ok (.istore_n 2, 1) := dk_61 (dk_at dksX8_countOf_0 1 rfl rfl)
theorem dX8_countOf_2 : decode cX8_countOf 2 = .ok (.iconst 0, 1) := dk_3 (dk_at dksX8_countOf_0 2 rfl rfl)
theorem dX8_countOf_3 : decode cX8_countOf 3 = .ok (.istore_n 3, 1) := dk_62 (dk_at dksX8_countOf_0 3 rfl rfl)
theorem dX8_countOf_4 : decode cX8_countOf 4 = .ok (.iload_n 3, 1) := dk_29 (dk_at dksX8_countOf_0 4 rfl rfl)
theorem dX8_countOf_5 : decode cX8_countOf 5 = .ok (.aload_n 0, 1) := dk_42 (dk_at dksX8_countOf_0 5 rfl rfl)
theorem dX8_countOf_6 : decode cX8_countOf 6 = .ok (.invokevirtual 147, 3) := dk_182 0 147 (dk_at dksX8_countOf_0 6 rfl rfl)
theorem dX8_countOf_9 : decode cX8_countOf 9 = .ok (.if_icmp .ge 21, 3) := dk_162 0 21 (dk_at dksX8_countOf_0 9 rfl rfl)
theorem dX8_countOf_12 : decode cX8_countOf 12 = .ok (.aload_n 0, 1) := dk_42 (dk_at dksX8_countOf_0 12 rfl rfl)
theorem dX8_countOf_13 : decode cX8_countOf 13 = .ok (.iload_n 3, 1) := dk_29 (dk_at dksX8_countOf_0 13 rfl rfl)
theorem dX8_countOf_14 : decode cX8_countOf 14 = .ok (.invokevirtual 402, 3) := dk_182 1 146 (dk_at dksX8_countOf_0 14 rfl rfl)
theorem dX8_countOf_17 : decode cX8_countOf 17 = .ok (.iload_n 1, 1) := dk_27 (dk_at dksX8_countOf_0 17 rfl rfl)
theorem dX8_countOf_18 : decode cX8_countOf 18 = .ok (.if_icmp .ne 6, 3) := dk_160 0 6 (dk_at dksX8_countOf_0 18 rfl rfl)
theorem dX8_countOf_21 : decode cX8_countOf 21 = .ok (.iinc 2 1, 3) := dk_132 2 1 (dk_at dksX8_countOf_0 21 rfl rfl)
theorem dX8_countOf_24 : decode cX8_countOf 24 = .ok (.iinc 3 1, 3) := dk_132 3 1 (dk_at dksX8_countOf_1 0 rfl rfl)
theorem dX8_countOf_27 : decode cX8_countOf 27 = .ok (.goto (-23), 3) := dk_167 255 233 (dk_at dksX8_countOf_1 3 rfl rfl)
theorem dX8_countOf_30 : decode cX8_countOf 30 = .ok (.iload_n 2, 1) := dk_28 (dk_at dksX8_countOf_1 6 rfl rfl)
theorem dX8_countOf_31 : decode cX8_countOf 31 = .ok (.ireturn, 1) := dk_172 (dk_at dksX8_countOf_1 7 rfl rfl)
abbrev cX8_lastEnd : ByteArray := prog_13_method_103_code
def yX8_lastEnd : MethodName := ⟨RX8, "lastEnd", "()I"⟩
def dkwX8_lastEnd_0 : List UInt8 := [42, 3, 181, 0, 137, 42, 182, 1, 149, 42, 182, 1, 161, 172]
abbrev dktX8_lastEnd_0 : List UInt8 := dkwX8_lastEnd_0 ++ []
theorem dksX8_lastEnd_0 : cX8_lastEnd.data.toList.drop 0 = dktX8_lastEnd_0 := by decide +kernel
theorem dX8_lastEnd_0 : decode cX8_lastEnd 0 = .ok (.aload_n 0, 1) := dk_42 (dk_at dksX8_lastEnd_0 0 rfl rfl)
theorem dX8_lastEnd_1 : decode cX8_lastEnd 1 = .ok (.iconst 0, 1) := dk_3 (dk_at dksX8_lastEnd_0 1 rfl rfl)
theorem dX8_lastEnd_2 : decode cX8_lastEnd 2 = .ok (.putfield 137, 3) := dk_181 0 137 (dk_at dksX8_lastEnd_0 2 rfl rfl)
theorem dX8_lastEnd_5 : decode cX8_lastEnd 5 = .ok (.aload_n 0, 1) := dk_42 (dk_at dksX8_lastEnd_0 5 rfl rfl)
theorem dX8_lastEnd_6 : decode cX8_lastEnd 6 = .ok (.invokevirtual 405, 3) := dk_182 1 149 (dk_at dksX8_lastEnd_0 6 rfl rfl)
theorem dX8_lastEnd_9 : decode cX8_lastEnd 9 = .ok (.aload_n 0, 1) := dk_42 (dk_at dksX8_lastEnd_0 9 rfl rfl)
theorem dX8_lastEnd_10 : decode cX8_lastEnd 10 = .ok (.invokevirtual 417, 3) := dk_182 1 161 (dk_at dksX8_lastEnd_0 10 rfl rfl)
theorem dX8_lastEnd_13 : decode cX8_lastEnd 13 = .ok (.ireturn, 1) := dk_172 (dk_at dksX8_lastEnd_0 13 rfl rfl)
abbrev cX8_lastOf : ByteArray := prog_13_method_90_code
def yX8_lastOf : MethodName := ⟨RX8, "lastOf", "()I"⟩
def dkwX8_lastOf_1 : List UInt8 := [180, 0, 76, 28, 46, 27, 164, 0, 10, 42, 180, 0, 76, 28, 46, 60, 132, 2, 1, 167, 255, 218, 27, 172]
abbrev dktX8_lastOf_1 : List UInt8 := dkwX8_lastOf_1 ++ []
def dkwX8_lastOf_0 : List UInt8 := [3, 60, 3, 61, 28, 42, 182, 0, 147, 162, 0, 36, 42, 180, 0, 55, 28, 46, 8, 160, 0, 20, 42]
abbrev dktX8_lastOf_0 : List UInt8 := dkwX8_lastOf_0 ++ dktX8_lastOf_1
theorem dksX8_lastOf_0 : cX8_lastOf.data.toList.drop 0 = dktX8_lastOf_0 := by decide +kernel
theorem dksX8_lastOf_1 : cX8_lastOf.data.toList.drop 23 = dktX8_lastOf_1 := dk_seg dksX8_lastOf_0 23 rfl rfl
theorem dX8_lastOf_0 : decode cX8_lastOf 0 = .ok (.iconst 0, 1) := dk_3 (dk_at dksX8_lastOf_0 0 rfl rfl)
theorem dX8_lastOf_1 : decode cX8_lastOf 1 = .ok (.istore_n 1, 1) := dk_60 (dk_at dksX8_lastOf_0 1 rfl rfl)
theorem dX8_lastOf_2 : decode cX8_lastOf 2 = .ok (.iconst 0, 1) := dk_3 (dk_at dksX8_lastOf_0 2 rfl rfl)
theorem dX8_lastOf_3 : decode cX8_lastOf 3 = .ok (.istore_n 2, 1) := dk_61 (dk_at dksX8_lastOf_0 3 rfl rfl)
theorem dX8_lastOf_4 : decode cX8_lastOf 4 = .ok (.iload_n 2, 1) := dk_28 (dk_at dksX8_lastOf_0 4 rfl rfl)
theorem dX8_lastOf_5 : decode cX8_lastOf 5 = .ok (.aload_n 0, 1) := dk_42 (dk_at dksX8_lastOf_0 5 rfl rfl)
theorem dX8_lastOf_6 : decode cX8_lastOf 6 = .ok (.invokevirtual 147, 3) := dk_182 0 147 (dk_at dksX8_lastOf_0 6 rfl rfl)
theorem dX8_lastOf_9 : decode cX8_lastOf 9 = .ok (.if_icmp .ge 36, 3) := dk_162 0 36 (dk_at dksX8_lastOf_0 9 rfl rfl)
theorem dX8_lastOf_12 : decode cX8_lastOf 12 = .ok (.aload_n 0, 1) := dk_42 (dk_at dksX8_lastOf_0 12 rfl rfl)
theorem dX8_lastOf_13 : decode cX8_lastOf 13 = .ok (.getfield 55, 3) := dk_180 0 55 (dk_at dksX8_lastOf_0 13 rfl rfl)
theorem dX8_lastOf_16 : decode cX8_lastOf 16 = .ok (.iload_n 2, 1) := dk_28 (dk_at dksX8_lastOf_0 16 rfl rfl)
theorem dX8_lastOf_17 : decode cX8_lastOf 17 = .ok (.iaload, 1) := dk_46 (dk_at dksX8_lastOf_0 17 rfl rfl)
theorem dX8_lastOf_18 : decode cX8_lastOf 18 = .ok (.iconst 5, 1) := dk_8 (dk_at dksX8_lastOf_0 18 rfl rfl)
theorem dX8_lastOf_19 : decode cX8_lastOf 19 = .ok (.if_icmp .ne 20, 3) := dk_160 0 20 (dk_at dksX8_lastOf_0 19 rfl rfl)
theorem dX8_lastOf_22 : decode cX8_lastOf 22 = .ok (.aload_n 0, 1) := dk_42 (dk_at dksX8_lastOf_0 22 rfl rfl)
theorem dX8_lastOf_23 : decode cX8_lastOf 23 = .ok (.getfield 76, 3) := dk_180 0 76 (dk_at dksX8_lastOf_1 0 rfl rfl)
theorem dX8_lastOf_26 : decode cX8_lastOf 26 = .ok (.iload_n 2, 1) := dk_28 (dk_at dksX8_lastOf_1 3 rfl rfl)
theorem dX8_lastOf_27 : decode cX8_lastOf 27 = .ok (.iaload, 1) := dk_46 (dk_at dksX8_lastOf_1 4 rfl rfl)
theorem dX8_lastOf_28 : decode cX8_lastOf 28 = .ok (.iload_n 1, 1) := dk_27 (dk_at dksX8_lastOf_1 5 rfl rfl)
theorem dX8_lastOf_29 : decode cX8_lastOf 29 = .ok (.if_icmp .le 10, 3) := dk_164 0 10 (dk_at dksX8_lastOf_1 6 rfl rfl)
theorem dX8_lastOf_32 : decode cX8_lastOf 32 = .ok (.aload_n 0, 1) := dk_42 (dk_at dksX8_lastOf_1 9 rfl rfl)
theorem dX8_lastOf_33 : decode cX8_lastOf 33 = .ok (.getfield 76, 3) := dk_180 0 76 (dk_at dksX8_lastOf_1 10 rfl rfl)
theorem dX8_lastOf_36 : decode cX8_lastOf 36 = .ok (.iload_n 2, 1) := dk_28 (dk_at dksX8_lastOf_1 13 rfl rfl)
theorem dX8_lastOf_37 : decode cX8_lastOf 37 = .ok (.iaload, 1) := dk_46 (dk_at dksX8_lastOf_1 14 rfl rfl)
theorem dX8_lastOf_38 : decode cX8_lastOf 38 = .ok (.istore_n 1, 1) := dk_60 (dk_at dksX8_lastOf_1 15 rfl rfl)
theorem dX8_lastOf_39 : decode cX8_lastOf 39 = .ok (.iinc 2 1, 3) := dk_132 2 1 (dk_at dksX8_lastOf_1 16 rfl rfl)
theorem dX8_lastOf_42 : decode cX8_lastOf 42 = .ok (.goto (-38), 3) := dk_167 255 218 (dk_at dksX8_lastOf_1 19 rfl rfl)
theorem dX8_lastOf_45 : decode cX8_lastOf 45 = .ok (.iload_n 1, 1) := dk_27 (dk_at dksX8_lastOf_1 22 rfl rfl)
theorem dX8_lastOf_46 : decode cX8_lastOf 46 = .ok (.ireturn, 1) := dk_172 (dk_at dksX8_lastOf_1 23 rfl rfl)
abbrev cX8_cleanings : ByteArray := prog_13_method_104_code
def yX8_cleanings : MethodName := ⟨RX8, "cleanings", "()I"⟩
def dkwX8_cleanings_0 : List UInt8 := [42, 3, 181, 0, 137, 42, 182, 1, 149, 42, 180, 1, 62, 172]
abbrev dktX8_cleanings_0 : List UInt8 := dkwX8_cleanings_0 ++ []
theorem dksX8_cleanings_0 : cX8_cleanings.data.toList.drop 0 = dktX8_cleanings_0 := by decide +kernel
theorem dX8_cleanings_0 : decode cX8_cleanings 0 = .ok (.aload_n 0, 1) := dk_42 (dk_at dksX8_cleanings_0 0 rfl rfl)
theorem dX8_cleanings_1 : decode cX8_cleanings 1 = .ok (.iconst 0, 1) := dk_3 (dk_at dksX8_cleanings_0 1 rfl rfl)
theorem dX8_cleanings_2 : decode cX8_cleanings 2 = .ok (.putfield 137, 3) := dk_181 0 137 (dk_at dksX8_cleanings_0 2 rfl rfl)
theorem dX8_cleanings_5 : decode cX8_cleanings 5 = .ok (.aload_n 0, 1) := dk_42 (dk_at dksX8_cleanings_0 5 rfl rfl)
theorem dX8_cleanings_6 : decode cX8_cleanings 6 = .ok (.invokevirtual 405, 3) := dk_182 1 149 (dk_at dksX8_cleanings_0 6 rfl rfl)
theorem dX8_cleanings_9 : decode cX8_cleanings 9 = .ok (.aload_n 0, 1) := dk_42 (dk_at dksX8_cleanings_0 9 rfl rfl)
theorem dX8_cleanings_10 : decode cX8_cleanings 10 = .ok (.getfield 318, 3) := dk_180 1 62 (dk_at dksX8_cleanings_0 10 rfl rfl)
theorem dX8_cleanings_13 : decode cX8_cleanings 13 = .ok (.ireturn, 1) := dk_172 (dk_at dksX8_cleanings_0 13 rfl rfl)
abbrev cX8_degrees : ByteArray := prog_13_method_105_code
def yX8_degrees : MethodName := ⟨RX8, "degrees", "()I"⟩
def dkwX8_degrees_0 : List UInt8 := [42, 3, 181, 0, 137, 42, 182, 1, 149, 42, 180, 1, 65, 172]
abbrev dktX8_degrees_0 : List UInt8 := dkwX8_degrees_0 ++ []
theorem dksX8_degrees_0 : cX8_degrees.data.toList.drop 0 = dktX8_degrees_0 := by decide +kernel
theorem dX8_degrees_0 : decode cX8_degrees 0 = .ok (.aload_n 0, 1) := dk_42 (dk_at dksX8_degrees_0 0 rfl rfl)
theorem dX8_degrees_1 : decode cX8_degrees 1 = .ok (.iconst 0, 1) := dk_3 (dk_at dksX8_degrees_0 1 rfl rfl)
theorem dX8_degrees_2 : decode cX8_degrees 2 = .ok (.putfield 137, 3) := dk_181 0 137 (dk_at dksX8_degrees_0 2 rfl rfl)
theorem dX8_degrees_5 : decode cX8_degrees 5 = .ok (.aload_n 0, 1) := dk_42 (dk_at dksX8_degrees_0 5 rfl rfl)
theorem dX8_degrees_6 : decode cX8_degrees 6 = .ok (.invokevirtual 405, 3) := dk_182 1 149 (dk_at dksX8_degrees_0 6 rfl rfl)
theorem dX8_degrees_9 : decode cX8_degrees 9 = .ok (.aload_n 0, 1) := dk_42 (dk_at dksX8_degrees_0 9 rfl rfl)
theorem dX8_degrees_10 : decode cX8_degrees 10 = .ok (.getfield 321, 3) := dk_180 1 65 (dk_at dksX8_degrees_0 10 rfl rfl)
theorem dX8_degrees_13 : decode cX8_degrees 13 = .ok (.ireturn, 1) := dk_172 (dk_at dksX8_degrees_0 13 rfl rfl)
abbrev cX8_utilization : ByteArray := prog_13_method_106_code
def yX8_utilization : MethodName := ⟨RX8, "utilization", "(I)D"⟩
def dkwX8_utilization_1 : List UInt8 := [42, 180, 0, 112, 27, 46, 135, 20, 1, 167, 111, 175]
abbrev dktX8_utilization_1 : List UInt8 := dkwX8_utilization_1 ++ []
def dkwX8_utilization_0 : List UInt8 := [42, 3, 181, 0, 137, 42, 27, 182, 1, 164, 154, 0, 10, 42, 4, 182, 0, 164, 135, 175, 42, 182, 1, 149]
abbrev dktX8_utilization_0 : List UInt8 := dkwX8_utilization_0 ++ dktX8_utilization_1
theorem dksX8_utilization_0 : cX8_utilization.data.toList.drop 0 = dktX8_utilization_0 := by decide +kernel
theorem dksX8_utilization_1 : cX8_utilization.data.toList.drop 24 = dktX8_utilization_1 := dk_seg dksX8_utilization_0 24 rfl rfl
theorem dX8_utilization_0 : decode cX8_utilization 0 = .ok (.aload_n 0, 1) := dk_42 (dk_at dksX8_utilization_0 0 rfl rfl)
theorem dX8_utilization_1 : decode cX8_utilization 1 = .ok (.iconst 0, 1) := dk_3 (dk_at dksX8_utilization_0 1 rfl rfl)
theorem dX8_utilization_2 : decode cX8_utilization 2 = .ok (.putfield 137, 3) := dk_181 0 137 (dk_at dksX8_utilization_0 2 rfl rfl)
theorem dX8_utilization_5 : decode cX8_utilization 5 = .ok (.aload_n 0, 1) := dk_42 (dk_at dksX8_utilization_0 5 rfl rfl)
theorem dX8_utilization_6 : decode cX8_utilization 6 = .ok (.iload_n 1, 1) := dk_27 (dk_at dksX8_utilization_0 6 rfl rfl)
theorem dX8_utilization_7 : decode cX8_utilization 7 = .ok (.invokevirtual 420, 3) := dk_182 1 164 (dk_at dksX8_utilization_0 7 rfl rfl)
theorem dX8_utilization_10 : decode cX8_utilization 10 = .ok (.ifCond .ne 10, 3) := dk_154 0 10 (dk_at dksX8_utilization_0 10 rfl rfl)
theorem dX8_utilization_13 : decode cX8_utilization 13 = .ok (.aload_n 0, 1) := dk_42 (dk_at dksX8_utilization_0 13 rfl rfl)
theorem dX8_utilization_14 : decode cX8_utilization 14 = .ok (.iconst 1, 1) := dk_4 (dk_at dksX8_utilization_0 14 rfl rfl)
theorem dX8_utilization_15 : decode cX8_utilization 15 = .ok (.invokevirtual 164, 3) := dk_182 0 164 (dk_at dksX8_utilization_0 15 rfl rfl)
theorem dX8_utilization_18 : decode cX8_utilization 18 = .ok (.i2d, 1) := dk_135 (dk_at dksX8_utilization_0 18 rfl rfl)
theorem dX8_utilization_19 : decode cX8_utilization 19 = .ok (.dreturn, 1) := dk_175 (dk_at dksX8_utilization_0 19 rfl rfl)
theorem dX8_utilization_20 : decode cX8_utilization 20 = .ok (.aload_n 0, 1) := dk_42 (dk_at dksX8_utilization_0 20 rfl rfl)
theorem dX8_utilization_21 : decode cX8_utilization 21 = .ok (.invokevirtual 405, 3) := dk_182 1 149 (dk_at dksX8_utilization_0 21 rfl rfl)
theorem dX8_utilization_24 : decode cX8_utilization 24 = .ok (.aload_n 0, 1) := dk_42 (dk_at dksX8_utilization_1 0 rfl rfl)
theorem dX8_utilization_25 : decode cX8_utilization 25 = .ok (.getfield 112, 3) := dk_180 0 112 (dk_at dksX8_utilization_1 1 rfl rfl)
theorem dX8_utilization_28 : decode cX8_utilization 28 = .ok (.iload_n 1, 1) := dk_27 (dk_at dksX8_utilization_1 4 rfl rfl)
theorem dX8_utilization_29 : decode cX8_utilization 29 = .ok (.iaload, 1) := dk_46 (dk_at dksX8_utilization_1 5 rfl rfl)
theorem dX8_utilization_30 : decode cX8_utilization 30 = .ok (.i2d, 1) := dk_135 (dk_at dksX8_utilization_1 6 rfl rfl)
theorem dX8_utilization_31 : decode cX8_utilization 31 = .ok (.ldc2_w 423, 3) := dk_20 1 167 (dk_at dksX8_utilization_1 7 rfl rfl)
theorem dX8_utilization_34 : decode cX8_utilization 34 = .ok (.ddiv, 1) := dk_111 (dk_at dksX8_utilization_1 10 rfl rfl)
theorem dX8_utilization_35 : decode cX8_utilization 35 = .ok (.dreturn, 1) := dk_175 (dk_at dksX8_utilization_1 11 rfl rfl)
abbrev cX8_isDeck : ByteArray := prog_13_method_13_code
def yX8_isDeck : MethodName := ⟨RX8, "isDeck", "(I)Z"⟩
def dkwX8_isDeck_0 : List UInt8 := [27, 3, 42, 4, 182, 0, 143, 4, 100, 184, 0, 151, 172]
abbrev dktX8_isDeck_0 : List UInt8 := dkwX8_isDeck_0 ++ []
theorem dksX8_isDeck_0 : cX8_isDeck.data.toList.drop 0 = dktX8_isDeck_0 := by decide +kernel
theorem dX8_isDeck_0 : decode cX8_isDeck 0 = .ok (.iload_n 1, 1) := dk_27 (dk_at dksX8_isDeck_0 0 rfl rfl)
theorem dX8_isDeck_1 : decode cX8_isDeck 1 = .ok (.iconst 0, 1) := dk_3 (dk_at dksX8_isDeck_0 1 rfl rfl)
theorem dX8_isDeck_2 : decode cX8_isDeck 2 = .ok (.aload_n 0, 1) := dk_42 (dk_at dksX8_isDeck_0 2 rfl rfl)
theorem dX8_isDeck_3 : decode cX8_isDeck 3 = .ok (.iconst 1, 1) := dk_4 (dk_at dksX8_isDeck_0 3 rfl rfl)
theorem dX8_isDeck_4 : decode cX8_isDeck 4 = .ok (.invokevirtual 143, 3) := dk_182 0 143 (dk_at dksX8_isDeck_0 4 rfl rfl)
theorem dX8_isDeck_7 : decode cX8_isDeck 7 = .ok (.iconst 1, 1) := dk_4 (dk_at dksX8_isDeck_0 7 rfl rfl)
theorem dX8_isDeck_8 : decode cX8_isDeck 8 = .ok (.isub, 1) := dk_100 (dk_at dksX8_isDeck_0 8 rfl rfl)
theorem dX8_isDeck_9 : decode cX8_isDeck 9 = .ok (.invokestatic 151, 3) := dk_184 0 151 (dk_at dksX8_isDeck_0 9 rfl rfl)
theorem dX8_isDeck_12 : decode cX8_isDeck 12 = .ok (.ireturn, 1) := dk_172 (dk_at dksX8_isDeck_0 12 rfl rfl)
abbrev cX8_begunBy : ByteArray := prog_13_method_107_code
def yX8_begunBy : MethodName := ⟨RX8, "begunBy", "(I)I"⟩
def dkwX8_begunBy_1 : List UInt8 := [182, 0, 164, 172, 42, 182, 1, 149, 42, 180, 0, 97, 27, 46, 172]
abbrev dktX8_begunBy_1 : List UInt8 := dkwX8_begunBy_1 ++ []
def dkwX8_begunBy_0 : List UInt8 := [42, 3, 181, 0, 137, 27, 3, 42, 3, 182, 0, 143, 4, 100, 184, 0, 151, 154, 0, 9, 42, 4]
abbrev dktX8_begunBy_0 : List UInt8 := dkwX8_begunBy_0 ++ dktX8_begunBy_1
theorem dksX8_begunBy_0 : cX8_begunBy.data.toList.drop 0 = dktX8_begunBy_0 := by decide +kernel
theorem dksX8_begunBy_1 : cX8_begunBy.data.toList.drop 22 = dktX8_begunBy_1 := dk_seg dksX8_begunBy_0 22 rfl rfl
theorem dX8_begunBy_0 : decode cX8_begunBy 0 = .ok (.aload_n 0, 1) := dk_42 (dk_at dksX8_begunBy_0 0 rfl rfl)
theorem dX8_begunBy_1 : decode cX8_begunBy 1 = .ok (.iconst 0, 1) := dk_3 (dk_at dksX8_begunBy_0 1 rfl rfl)
theorem dX8_begunBy_2 : decode cX8_begunBy 2 = .ok (.putfield 137, 3) := dk_181 0 137 (dk_at dksX8_begunBy_0 2 rfl rfl)
theorem dX8_begunBy_5 : decode cX8_begunBy 5 = .ok (.iload_n 1, 1) := dk_27 (dk_at dksX8_begunBy_0 5 rfl rfl)
theorem dX8_begunBy_6 : decode cX8_begunBy 6 = .ok (.iconst 0, 1) := dk_3 (dk_at dksX8_begunBy_0 6 rfl rfl)
theorem dX8_begunBy_7 : decode cX8_begunBy 7 = .ok (.aload_n 0, 1) := dk_42 (dk_at dksX8_begunBy_0 7 rfl rfl)
theorem dX8_begunBy_8 : decode cX8_begunBy 8 = .ok (.iconst 0, 1) := dk_3 (dk_at dksX8_begunBy_0 8 rfl rfl)
theorem dX8_begunBy_9 : decode cX8_begunBy 9 = .ok (.invokevirtual 143, 3) := dk_182 0 143 (dk_at dksX8_begunBy_0 9 rfl rfl)
theorem dX8_begunBy_12 : decode cX8_begunBy 12 = .ok (.iconst 1, 1) := dk_4 (dk_at dksX8_begunBy_0 12 rfl rfl)
theorem dX8_begunBy_13 : decode cX8_begunBy 13 = .ok (.isub, 1) := dk_100 (dk_at dksX8_begunBy_0 13 rfl rfl)
theorem dX8_begunBy_14 : decode cX8_begunBy 14 = .ok (.invokestatic 151, 3) := dk_184 0 151 (dk_at dksX8_begunBy_0 14 rfl rfl)
theorem dX8_begunBy_17 : decode cX8_begunBy 17 = .ok (.ifCond .ne 9, 3) := dk_154 0 9 (dk_at dksX8_begunBy_0 17 rfl rfl)
theorem dX8_begunBy_20 : decode cX8_begunBy 20 = .ok (.aload_n 0, 1) := dk_42 (dk_at dksX8_begunBy_0 20 rfl rfl)
theorem dX8_begunBy_21 : decode cX8_begunBy 21 = .ok (.iconst 1, 1) := dk_4 (dk_at dksX8_begunBy_0 21 rfl rfl)
theorem dX8_begunBy_22 : decode cX8_begunBy 22 = .ok (.invokevirtual 164, 3) := dk_182 0 164 (dk_at dksX8_begunBy_1 0 rfl rfl)
theorem dX8_begunBy_25 : decode cX8_begunBy 25 = .ok (.ireturn, 1) := dk_172 (dk_at dksX8_begunBy_1 3 rfl rfl)
theorem dX8_begunBy_26 : decode cX8_begunBy 26 = .ok (.aload_n 0, 1) := dk_42 (dk_at dksX8_begunBy_1 4 rfl rfl)
theorem dX8_begunBy_27 : decode cX8_begunBy 27 = .ok (.invokevirtual 405, 3) := dk_182 1 149 (dk_at dksX8_begunBy_1 5 rfl rfl)
theorem dX8_begunBy_30 : decode cX8_begunBy 30 = .ok (.aload_n 0, 1) := dk_42 (dk_at dksX8_begunBy_1 8 rfl rfl)
theorem dX8_begunBy_31 : decode cX8_begunBy 31 = .ok (.getfield 97, 3) := dk_180 0 97 (dk_at dksX8_begunBy_1 9 rfl rfl)
theorem dX8_begunBy_34 : decode cX8_begunBy 34 = .ok (.iload_n 1, 1) := dk_27 (dk_at dksX8_begunBy_1 12 rfl rfl)
theorem dX8_begunBy_35 : decode cX8_begunBy 35 = .ok (.iaload, 1) := dk_46 (dk_at dksX8_begunBy_1 13 rfl rfl)
theorem dX8_begunBy_36 : decode cX8_begunBy 36 = .ok (.ireturn, 1) := dk_172 (dk_at dksX8_begunBy_1 14 rfl rfl)
abbrev cX8_temperature : ByteArray := prog_13_method_108_code
def yX8_temperature : MethodName := ⟨RX8, "temperature", "(II)I"⟩
def dkwX8_temperature_1 : List UInt8 := [182, 0, 164, 172, 42, 182, 1, 149, 42, 180, 0, 115, 17, 5, 160, 27, 104, 28, 96, 46, 172]
abbrev dktX8_temperature_1 : List UInt8 := dkwX8_temperature_1 ++ []
def dkwX8_temperature_0 : List UInt8 := [42, 3, 181, 0, 137, 42, 27, 182, 1, 164, 153, 0, 10, 28, 184, 1, 169, 154, 0, 9, 42, 4]
abbrev dktX8_temperature_0 : List UInt8 := dkwX8_temperature_0 ++ dktX8_temperature_1
theorem dksX8_temperature_0 : cX8_temperature.data.toList.drop 0 = dktX8_temperature_0 := by decide +kernel
theorem dksX8_temperature_1 : cX8_temperature.data.toList.drop 22 = dktX8_temperature_1 := dk_seg dksX8_temperature_0 22 rfl rfl
theorem dX8_temperature_0 : decode cX8_temperature 0 = .ok (.aload_n 0, 1) := dk_42 (dk_at dksX8_temperature_0 0 rfl rfl)
theorem dX8_temperature_1 : decode cX8_temperature 1 = .ok (.iconst 0, 1) := dk_3 (dk_at dksX8_temperature_0 1 rfl rfl)
theorem dX8_temperature_2 : decode cX8_temperature 2 = .ok (.putfield 137, 3) := dk_181 0 137 (dk_at dksX8_temperature_0 2 rfl rfl)
theorem dX8_temperature_5 : decode cX8_temperature 5 = .ok (.aload_n 0, 1) := dk_42 (dk_at dksX8_temperature_0 5 rfl rfl)
theorem dX8_temperature_6 : decode cX8_temperature 6 = .ok (.iload_n 1, 1) := dk_27 (dk_at dksX8_temperature_0 6 rfl rfl)
theorem dX8_temperature_7 : decode cX8_temperature 7 = .ok (.invokevirtual 420, 3) := dk_182 1 164 (dk_at dksX8_temperature_0 7 rfl rfl)
theorem dX8_temperature_10 : decode cX8_temperature 10 = .ok (.ifCond .eq 10, 3) := dk_153 0 10 (dk_at dksX8_temperature_0 10 rfl rfl)
theorem dX8_temperature_13 : decode cX8_temperature 13 = .ok (.iload_n 2, 1) := dk_28 (dk_at dksX8_temperature_0 13 rfl rfl)
theorem dX8_temperature_14 : decode cX8_temperature 14 = .ok (.invokestatic 425, 3) := dk_184 1 169 (dk_at dksX8_temperature_0 14 rfl rfl)
theorem dX8_temperature_17 : decode cX8_temperature 17 = .ok (.ifCond .ne 9, 3) := dk_154 0 9 (dk_at dksX8_temperature_0 17 rfl rfl)
theorem dX8_temperature_20 : decode cX8_temperature 20 = .ok (.aload_n 0, 1) := dk_42 (dk_at dksX8_temperature_0 20 rfl rfl)
theorem dX8_temperature_21 : decode cX8_temperature 21 = .ok (.iconst 1, 1) := dk_4 (dk_at dksX8_temperature_0 21 rfl rfl)
theorem dX8_temperature_22 : decode cX8_temperature 22 = .ok (.invokevirtual 164, 3) := dk_182 0 164 (dk_at dksX8_temperature_1 0 rfl rfl)
theorem dX8_temperature_25 : decode cX8_temperature 25 = .ok (.ireturn, 1) := dk_172 (dk_at dksX8_temperature_1 3 rfl rfl)
theorem dX8_temperature_26 : decode cX8_temperature 26 = .ok (.aload_n 0, 1) := dk_42 (dk_at dksX8_temperature_1 4 rfl rfl)
theorem dX8_temperature_27 : decode cX8_temperature 27 = .ok (.invokevirtual 405, 3) := dk_182 1 149 (dk_at dksX8_temperature_1 5 rfl rfl)
theorem dX8_temperature_30 : decode cX8_temperature 30 = .ok (.aload_n 0, 1) := dk_42 (dk_at dksX8_temperature_1 8 rfl rfl)
theorem dX8_temperature_31 : decode cX8_temperature 31 = .ok (.getfield 115, 3) := dk_180 0 115 (dk_at dksX8_temperature_1 9 rfl rfl)
theorem dX8_temperature_34 : decode cX8_temperature 34 = .ok (.sipush 1440, 3) := dk_17 5 160 (dk_at dksX8_temperature_1 12 rfl rfl)
theorem dX8_temperature_37 : decode cX8_temperature 37 = .ok (.iload_n 1, 1) := dk_27 (dk_at dksX8_temperature_1 15 rfl rfl)
theorem dX8_temperature_38 : decode cX8_temperature 38 = .ok (.imul, 1) := dk_104 (dk_at dksX8_temperature_1 16 rfl rfl)
theorem dX8_temperature_39 : decode cX8_temperature 39 = .ok (.iload_n 2, 1) := dk_28 (dk_at dksX8_temperature_1 17 rfl rfl)
theorem dX8_temperature_40 : decode cX8_temperature 40 = .ok (.iadd, 1) := dk_96 (dk_at dksX8_temperature_1 18 rfl rfl)
theorem dX8_temperature_41 : decode cX8_temperature 41 = .ok (.iaload, 1) := dk_46 (dk_at dksX8_temperature_1 19 rfl rfl)
theorem dX8_temperature_42 : decode cX8_temperature 42 = .ok (.ireturn, 1) := dk_172 (dk_at dksX8_temperature_1 20 rfl rfl)
abbrev cX8_isMinute : ByteArray := prog_13_method_14_code
def yX8_isMinute : MethodName := ⟨RX8, "isMinute", "(I)Z"⟩
def dkwX8_isMinute_0 : List UInt8 := [26, 3, 17, 5, 159, 184, 0, 151, 172]
abbrev dktX8_isMinute_0 : List UInt8 := dkwX8_isMinute_0 ++ []
theorem dksX8_isMinute_0 : cX8_isMinute.data.toList.drop 0 = dktX8_isMinute_0 := by decide +kernel
theorem dX8_isMinute_0 : decode cX8_isMinute 0 = .ok (.iload_n 0, 1) := dk_26 (dk_at dksX8_isMinute_0 0 rfl rfl)
theorem dX8_isMinute_1 : decode cX8_isMinute 1 = .ok (.iconst 0, 1) := dk_3 (dk_at dksX8_isMinute_0 1 rfl rfl)
theorem dX8_isMinute_2 : decode cX8_isMinute 2 = .ok (.sipush 1439, 3) := dk_17 5 159 (dk_at dksX8_isMinute_0 2 rfl rfl)
theorem dX8_isMinute_5 : decode cX8_isMinute 5 = .ok (.invokestatic 151, 3) := dk_184 0 151 (dk_at dksX8_isMinute_0 5 rfl rfl)
theorem dX8_isMinute_8 : decode cX8_isMinute 8 = .ok (.ireturn, 1) := dk_172 (dk_at dksX8_isMinute_0 8 rfl rfl)
abbrev cX8_baking : ByteArray := prog_13_method_109_code
def yX8_baking : MethodName := ⟨RX8, "baking", "(II)I"⟩
def dkwX8_baking_1 : List UInt8 := [182, 0, 164, 172, 42, 182, 1, 149, 42, 180, 0, 118, 17, 5, 160, 27, 104, 28, 96, 46, 172]
abbrev dktX8_baking_1 : List UInt8 := dkwX8_baking_1 ++ []
def dkwX8_baking_0 : List UInt8 := [42, 3, 181, 0, 137, 42, 27, 182, 1, 164, 153, 0, 10, 28, 184, 1, 169, 154, 0, 9, 42, 4]
abbrev dktX8_baking_0 : List UInt8 := dkwX8_baking_0 ++ dktX8_baking_1
theorem dksX8_baking_0 : cX8_baking.data.toList.drop 0 = dktX8_baking_0 := by decide +kernel
theorem dksX8_baking_1 : cX8_baking.data.toList.drop 22 = dktX8_baking_1 := dk_seg dksX8_baking_0 22 rfl rfl
theorem dX8_baking_0 : decode cX8_baking 0 = .ok (.aload_n 0, 1) := dk_42 (dk_at dksX8_baking_0 0 rfl rfl)
theorem dX8_baking_1 : decode cX8_baking 1 = .ok (.iconst 0, 1) := dk_3 (dk_at dksX8_baking_0 1 rfl rfl)
theorem dX8_baking_2 : decode cX8_baking 2 = .ok (.putfield 137, 3) := dk_181 0 137 (dk_at dksX8_baking_0 2 rfl rfl)
theorem dX8_baking_5 : decode cX8_baking 5 = .ok (.aload_n 0, 1) := dk_42 (dk_at dksX8_baking_0 5 rfl rfl)
theorem dX8_baking_6 : decode cX8_baking 6 = .ok (.iload_n 1, 1) := dk_27 (dk_at dksX8_baking_0 6 rfl rfl)
theorem dX8_baking_7 : decode cX8_baking 7 = .ok (.invokevirtual 420, 3) := dk_182 1 164 (dk_at dksX8_baking_0 7 rfl rfl)
theorem dX8_baking_10 : decode cX8_baking 10 = .ok (.ifCond .eq 10, 3) := dk_153 0 10 (dk_at dksX8_baking_0 10 rfl rfl)
theorem dX8_baking_13 : decode cX8_baking 13 = .ok (.iload_n 2, 1) := dk_28 (dk_at dksX8_baking_0 13 rfl rfl)
theorem dX8_baking_14 : decode cX8_baking 14 = .ok (.invokestatic 425, 3) := dk_184 1 169 (dk_at dksX8_baking_0 14 rfl rfl)
theorem dX8_baking_17 : decode cX8_baking 17 = .ok (.ifCond .ne 9, 3) := dk_154 0 9 (dk_at dksX8_baking_0 17 rfl rfl)
theorem dX8_baking_20 : decode cX8_baking 20 = .ok (.aload_n 0, 1) := dk_42 (dk_at dksX8_baking_0 20 rfl rfl)
theorem dX8_baking_21 : decode cX8_baking 21 = .ok (.iconst 1, 1) := dk_4 (dk_at dksX8_baking_0 21 rfl rfl)
theorem dX8_baking_22 : decode cX8_baking 22 = .ok (.invokevirtual 164, 3) := dk_182 0 164 (dk_at dksX8_baking_1 0 rfl rfl)
theorem dX8_baking_25 : decode cX8_baking 25 = .ok (.ireturn, 1) := dk_172 (dk_at dksX8_baking_1 3 rfl rfl)
theorem dX8_baking_26 : decode cX8_baking 26 = .ok (.aload_n 0, 1) := dk_42 (dk_at dksX8_baking_1 4 rfl rfl)
theorem dX8_baking_27 : decode cX8_baking 27 = .ok (.invokevirtual 405, 3) := dk_182 1 149 (dk_at dksX8_baking_1 5 rfl rfl)
theorem dX8_baking_30 : decode cX8_baking 30 = .ok (.aload_n 0, 1) := dk_42 (dk_at dksX8_baking_1 8 rfl rfl)
theorem dX8_baking_31 : decode cX8_baking 31 = .ok (.getfield 118, 3) := dk_180 0 118 (dk_at dksX8_baking_1 9 rfl rfl)
theorem dX8_baking_34 : decode cX8_baking 34 = .ok (.sipush 1440, 3) := dk_17 5 160 (dk_at dksX8_baking_1 12 rfl rfl)
theorem dX8_baking_37 : decode cX8_baking 37 = .ok (.iload_n 1, 1) := dk_27 (dk_at dksX8_baking_1 15 rfl rfl)
theorem dX8_baking_38 : decode cX8_baking 38 = .ok (.imul, 1) := dk_104 (dk_at dksX8_baking_1 16 rfl rfl)
theorem dX8_baking_39 : decode cX8_baking 39 = .ok (.iload_n 2, 1) := dk_28 (dk_at dksX8_baking_1 17 rfl rfl)
theorem dX8_baking_40 : decode cX8_baking 40 = .ok (.iadd, 1) := dk_96 (dk_at dksX8_baking_1 18 rfl rfl)
theorem dX8_baking_41 : decode cX8_baking 41 = .ok (.iaload, 1) := dk_46 (dk_at dksX8_baking_1 19 rfl rfl)
theorem dX8_baking_42 : decode cX8_baking 42 = .ok (.ireturn, 1) := dk_172 (dk_at dksX8_baking_1 20 rfl rfl)
abbrev cX8_inRoom : ByteArray := prog_13_method_110_code
def yX8_inRoom : MethodName := ⟨RX8, "inRoom", "(I)I"⟩
def dkwX8_inRoom_1 : List UInt8 := [180, 0, 121, 27, 46, 172]
abbrev dktX8_inRoom_1 : List UInt8 := dkwX8_inRoom_1 ++ []
def dkwX8_inRoom_0 : List UInt8 := [42, 3, 181, 0, 137, 27, 184, 1, 169, 154, 0, 9, 42, 4, 182, 0, 164, 172, 42, 182, 1, 149, 42]
abbrev dktX8_inRoom_0 : List UInt8 := dkwX8_inRoom_0 ++ dktX8_inRoom_1
theorem dksX8_inRoom_0 : cX8_inRoom.data.toList.drop 0 = dktX8_inRoom_0 := by decide +kernel
theorem dksX8_inRoom_1 : cX8_inRoom.data.toList.drop 23 = dktX8_inRoom_1 := dk_seg dksX8_inRoom_0 23 rfl rfl
theorem dX8_inRoom_0 : decode cX8_inRoom 0 = .ok (.aload_n 0, 1) := dk_42 (dk_at dksX8_inRoom_0 0 rfl rfl)
theorem dX8_inRoom_1 : decode cX8_inRoom 1 = .ok (.iconst 0, 1) := dk_3 (dk_at dksX8_inRoom_0 1 rfl rfl)
theorem dX8_inRoom_2 : decode cX8_inRoom 2 = .ok (.putfield 137, 3) := dk_181 0 137 (dk_at dksX8_inRoom_0 2 rfl rfl)
theorem dX8_inRoom_5 : decode cX8_inRoom 5 = .ok (.iload_n 1, 1) := dk_27 (dk_at dksX8_inRoom_0 5 rfl rfl)
theorem dX8_inRoom_6 : decode cX8_inRoom 6 = .ok (.invokestatic 425, 3) := dk_184 1 169 (dk_at dksX8_inRoom_0 6 rfl rfl)
theorem dX8_inRoom_9 : decode cX8_inRoom 9 = .ok (.ifCond .ne 9, 3) := dk_154 0 9 (dk_at dksX8_inRoom_0 9 rfl rfl)
theorem dX8_inRoom_12 : decode cX8_inRoom 12 = .ok (.aload_n 0, 1) := dk_42 (dk_at dksX8_inRoom_0 12 rfl rfl)
theorem dX8_inRoom_13 : decode cX8_inRoom 13 = .ok (.iconst 1, 1) := dk_4 (dk_at dksX8_inRoom_0 13 rfl rfl)
theorem dX8_inRoom_14 : decode cX8_inRoom 14 = .ok (.invokevirtual 164, 3) := dk_182 0 164 (dk_at dksX8_inRoom_0 14 rfl rfl)
theorem dX8_inRoom_17 : decode cX8_inRoom 17 = .ok (.ireturn, 1) := dk_172 (dk_at dksX8_inRoom_0 17 rfl rfl)
theorem dX8_inRoom_18 : decode cX8_inRoom 18 = .ok (.aload_n 0, 1) := dk_42 (dk_at dksX8_inRoom_0 18 rfl rfl)
theorem dX8_inRoom_19 : decode cX8_inRoom 19 = .ok (.invokevirtual 405, 3) := dk_182 1 149 (dk_at dksX8_inRoom_0 19 rfl rfl)
theorem dX8_inRoom_22 : decode cX8_inRoom 22 = .ok (.aload_n 0, 1) := dk_42 (dk_at dksX8_inRoom_0 22 rfl rfl)
theorem dX8_inRoom_23 : decode cX8_inRoom 23 = .ok (.getfield 121, 3) := dk_180 0 121 (dk_at dksX8_inRoom_1 0 rfl rfl)
theorem dX8_inRoom_26 : decode cX8_inRoom 26 = .ok (.iload_n 1, 1) := dk_27 (dk_at dksX8_inRoom_1 3 rfl rfl)
theorem dX8_inRoom_27 : decode cX8_inRoom 27 = .ok (.iaload, 1) := dk_46 (dk_at dksX8_inRoom_1 4 rfl rfl)
theorem dX8_inRoom_28 : decode cX8_inRoom 28 = .ok (.ireturn, 1) := dk_172 (dk_at dksX8_inRoom_1 5 rfl rfl)
abbrev cX8_onShelves : ByteArray := prog_13_method_111_code
def yX8_onShelves : MethodName := ⟨RX8, "onShelves", "(I)I"⟩
def dkwX8_onShelves_1 : List UInt8 := [180, 0, 124, 27, 46, 172]
abbrev dktX8_onShelves_1 : List UInt8 := dkwX8_onShelves_1 ++ []
def dkwX8_onShelves_0 : List UInt8 := [42, 3, 181, 0, 137, 27, 184, 1, 169, 154, 0, 9, 42, 4, 182, 0, 164, 172, 42, 182, 1, 149, 42]
abbrev dktX8_onShelves_0 : List UInt8 := dkwX8_onShelves_0 ++ dktX8_onShelves_1
theorem dksX8_onShelves_0 : cX8_onShelves.data.toList.drop 0 = dktX8_onShelves_0 := by decide +kernel
theorem dksX8_onShelves_1 : cX8_onShelves.data.toList.drop 23 = dktX8_onShelves_1 := dk_seg dksX8_onShelves_0 23 rfl rfl
theorem dX8_onShelves_0 : decode cX8_onShelves 0 = .ok (.aload_n 0, 1) := dk_42 (dk_at dksX8_onShelves_0 0 rfl rfl)
theorem dX8_onShelves_1 : decode cX8_onShelves 1 = .ok (.iconst 0, 1) := dk_3 (dk_at dksX8_onShelves_0 1 rfl rfl)
theorem dX8_onShelves_2 : decode cX8_onShelves 2 = .ok (.putfield 137, 3) := dk_181 0 137 (dk_at dksX8_onShelves_0 2 rfl rfl)
theorem dX8_onShelves_5 : decode cX8_onShelves 5 = .ok (.iload_n 1, 1) := dk_27 (dk_at dksX8_onShelves_0 5 rfl rfl)
theorem dX8_onShelves_6 : decode cX8_onShelves 6 = .ok (.invokestatic 425, 3) := dk_184 1 169 (dk_at dksX8_onShelves_0 6 rfl rfl)
theorem dX8_onShelves_9 : decode cX8_onShelves 9 = .ok (.ifCond .ne 9, 3) := dk_154 0 9 (dk_at dksX8_onShelves_0 9 rfl rfl)
theorem dX8_onShelves_12 : decode cX8_onShelves 12 = .ok (.aload_n 0, 1) := dk_42 (dk_at dksX8_onShelves_0 12 rfl rfl)
theorem dX8_onShelves_13 : decode cX8_onShelves 13 = .ok (.iconst 1, 1) := dk_4 (dk_at dksX8_onShelves_0 13 rfl rfl)
theorem dX8_onShelves_14 : decode cX8_onShelves 14 = .ok (.invokevirtual 164, 3) := dk_182 0 164 (dk_at dksX8_onShelves_0 14 rfl rfl)
theorem dX8_onShelves_17 : decode cX8_onShelves 17 = .ok (.ireturn, 1) := dk_172 (dk_at dksX8_onShelves_0 17 rfl rfl)
theorem dX8_onShelves_18 : decode cX8_onShelves 18 = .ok (.aload_n 0, 1) := dk_42 (dk_at dksX8_onShelves_0 18 rfl rfl)
theorem dX8_onShelves_19 : decode cX8_onShelves 19 = .ok (.invokevirtual 405, 3) := dk_182 1 149 (dk_at dksX8_onShelves_0 19 rfl rfl)
theorem dX8_onShelves_22 : decode cX8_onShelves 22 = .ok (.aload_n 0, 1) := dk_42 (dk_at dksX8_onShelves_0 22 rfl rfl)
theorem dX8_onShelves_23 : decode cX8_onShelves 23 = .ok (.getfield 124, 3) := dk_180 0 124 (dk_at dksX8_onShelves_1 0 rfl rfl)
theorem dX8_onShelves_26 : decode cX8_onShelves 26 = .ok (.iload_n 1, 1) := dk_27 (dk_at dksX8_onShelves_1 3 rfl rfl)
theorem dX8_onShelves_27 : decode cX8_onShelves 27 = .ok (.iaload, 1) := dk_46 (dk_at dksX8_onShelves_1 4 rfl rfl)
theorem dX8_onShelves_28 : decode cX8_onShelves 28 = .ok (.ireturn, 1) := dk_172 (dk_at dksX8_onShelves_1 5 rfl rfl)
abbrev cX8_bestSwap : ByteArray := prog_13_method_119_code
def yX8_bestSwap : MethodName := ⟨RX8, "bestSwap", "()I"⟩
def dkwX8_bestSwap_2 : List UInt8 := [153, 0, 9, 42, 182, 1, 197, 28, 60, 42, 182, 1, 200, 132, 2, 1, 167, 255, 207, 27, 172]
abbrev dktX8_bestSwap_2 : List UInt8 := dkwX8_bestSwap_2 ++ []
def dkwX8_bestSwap_1 : List UInt8 := [162, 0, 42, 42, 182, 1, 188, 42, 28, 28, 4, 96, 182, 1, 191, 42, 182, 1, 149, 42, 182, 1, 194]
abbrev dktX8_bestSwap_1 : List UInt8 := dkwX8_bestSwap_1 ++ dktX8_bestSwap_2
def dkwX8_bestSwap_0 : List UInt8 := [42, 3, 181, 0, 137, 42, 182, 1, 185, 2, 60, 3, 61, 28, 4, 96, 42, 180, 0, 7, 16, 8, 46]
abbrev dktX8_bestSwap_0 : List UInt8 := dkwX8_bestSwap_0 ++ dktX8_bestSwap_1
theorem dksX8_bestSwap_0 : cX8_bestSwap.data.toList.drop 0 = dktX8_bestSwap_0 := by decide +kernel
theorem dksX8_bestSwap_1 : cX8_bestSwap.data.toList.drop 23 = dktX8_bestSwap_1 := dk_seg dksX8_bestSwap_0 23 rfl rfl
theorem dksX8_bestSwap_2 : cX8_bestSwap.data.toList.drop 46 = dktX8_bestSwap_2 := dk_seg dksX8_bestSwap_1 23 rfl rfl
theorem dX8_bestSwap_0 : decode cX8_bestSwap 0 = .ok (.aload_n 0, 1) := dk_42 (dk_at dksX8_bestSwap_0 0 rfl rfl)
theorem dX8_bestSwap_1 : decode cX8_bestSwap 1 = .ok (.iconst 0, 1) := dk_3 (dk_at dksX8_bestSwap_0 1 rfl rfl)
theorem dX8_bestSwap_2 : decode cX8_bestSwap 2 = .ok (.putfield 137, 3) := dk_181 0 137 (dk_at dksX8_bestSwap_0 2 rfl rfl)
theorem dX8_bestSwap_5 : decode cX8_bestSwap 5 = .ok (.aload_n 0, 1) := dk_42 (dk_at dksX8_bestSwap_0 5 rfl rfl)
theorem dX8_bestSwap_6 : decode cX8_bestSwap 6 = .ok (.invokevirtual 441, 3) := dk_182 1 185 (dk_at dksX8_bestSwap_0 6 rfl rfl)
theorem dX8_bestSwap_9 : decode cX8_bestSwap 9 = .ok (.iconst (-1), 1) := dk_2 (dk_at dksX8_bestSwap_0 9 rfl rfl)
theorem dX8_bestSwap_10 : decode cX8_bestSwap 10 = .ok (.istore_n 1, 1) := dk_60 (dk_at dksX8_bestSwap_0 10 rfl rfl)
theorem dX8_bestSwap_11 : decode cX8_bestSwap 11 = .ok (.iconst 0, 1) := dk_3 (dk_at dksX8_bestSwap_0 11 rfl rfl)
theorem dX8_bestSwap_12 : decode cX8_bestSwap 12 = .ok (.istore_n 2, 1) := dk_61 (dk_at dksX8_bestSwap_0 12 rfl rfl)
theorem dX8_bestSwap_13 : decode cX8_bestSwap 13 = .ok (.iload_n 2, 1) := dk_28 (dk_at dksX8_bestSwap_0 13 rfl rfl)
theorem dX8_bestSwap_14 : decode cX8_bestSwap 14 = .ok (.iconst 1, 1) := dk_4 (dk_at dksX8_bestSwap_0 14 rfl rfl)
theorem dX8_bestSwap_15 : decode cX8_bestSwap 15 = .ok (.iadd, 1) := dk_96 (dk_at dksX8_bestSwap_0 15 rfl rfl)
theorem dX8_bestSwap_16 : decode cX8_bestSwap 16 = .ok (.aload_n 0, 1) := dk_42 (dk_at dksX8_bestSwap_0 16 rfl rfl)
theorem dX8_bestSwap_17 : decode cX8_bestSwap 17 = .ok (.getfield 7, 3) := dk_180 0 7 (dk_at dksX8_bestSwap_0 17 rfl rfl)
theorem dX8_bestSwap_20 : decode cX8_bestSwap 20 = .ok (.bipush 8, 2) := dk_16 8 (dk_at dksX8_bestSwap_0 20 rfl rfl)
theorem dX8_bestSwap_22 : decode cX8_bestSwap 22 = .ok (.iaload, 1) := dk_46 (dk_at dksX8_bestSwap_0 22 rfl rfl)
theorem dX8_bestSwap_23 : decode cX8_bestSwap 23 = .ok (.if_icmp .ge 42, 3) := dk_162 0 42 (dk_at dksX8_bestSwap_1 0 rfl rfl)
theorem dX8_bestSwap_26 : decode cX8_bestSwap 26 = .ok (.aload_n 0, 1) := dk_42 (dk_at dksX8_bestSwap_1 3 rfl rfl)
theorem dX8_bestSwap_27 : decode cX8_bestSwap 27 = .ok (.invokevirtual 444, 3) := dk_182 1 188 (dk_at dksX8_bestSwap_1 4 rfl rfl)
theorem dX8_bestSwap_30 : decode cX8_bestSwap 30 = .ok (.aload_n 0, 1) := dk_42 (dk_at dksX8_bestSwap_1 7 rfl rfl)
theorem dX8_bestSwap_31 : decode cX8_bestSwap 31 = .ok (.iload_n 2, 1) := dk_28 (dk_at dksX8_bestSwap_1 8 rfl rfl)
theorem dX8_bestSwap_32 : decode cX8_bestSwap 32 = .ok (.iload_n 2, 1) := dk_28 (dk_at dksX8_bestSwap_1 9 rfl rfl)
theorem dX8_bestSwap_33 : decode cX8_bestSwap 33 = .ok (.iconst 1, 1) := dk_4 (dk_at dksX8_bestSwap_1 10 rfl rfl)
theorem dX8_bestSwap_34 : decode cX8_bestSwap 34 = .ok (.iadd, 1) := dk_96 (dk_at dksX8_bestSwap_1 11 rfl rfl)
theorem dX8_bestSwap_35 : decode cX8_bestSwap 35 = .ok (.invokevirtual 447, 3) := dk_182 1 191 (dk_at dksX8_bestSwap_1 12 rfl rfl)
theorem dX8_bestSwap_38 : decode cX8_bestSwap 38 = .ok (.aload_n 0, 1) := dk_42 (dk_at dksX8_bestSwap_1 15 rfl rfl)
theorem dX8_bestSwap_39 : decode cX8_bestSwap 39 = .ok (.invokevirtual 405, 3) := dk_182 1 149 (dk_at dksX8_bestSwap_1 16 rfl rfl)
theorem dX8_bestSwap_42 : decode cX8_bestSwap 42 = .ok (.aload_n 0, 1) := dk_42 (dk_at dksX8_bestSwap_1 19 rfl rfl)
theorem dX8_bestSwap_43 : decode cX8_bestSwap 43 = .ok (.invokevirtual 450, 3) := dk_182 1 194 (dk_at dksX8_bestSwap_1 20 rfl rfl)
theorem dX8_bestSwap_46 : decode cX8_bestSwap 46 = .ok (.ifCond .eq 9, 3) := dk_153 0 9 (dk_at dksX8_bestSwap_2 0 rfl rfl)
theorem dX8_bestSwap_49 : decode cX8_bestSwap 49 = .ok (.aload_n 0, 1) := dk_42 (dk_at dksX8_bestSwap_2 3 rfl rfl)
theorem dX8_bestSwap_50 : decode cX8_bestSwap 50 = .ok (.invokevirtual 453, 3) := dk_182 1 197 (dk_at dksX8_bestSwap_2 4 rfl rfl)
theorem dX8_bestSwap_53 : decode cX8_bestSwap 53 = .ok (.iload_n 2, 1) := dk_28 (dk_at dksX8_bestSwap_2 7 rfl rfl)
theorem dX8_bestSwap_54 : decode cX8_bestSwap 54 = .ok (.istore_n 1, 1) := dk_60 (dk_at dksX8_bestSwap_2 8 rfl rfl)
theorem dX8_bestSwap_55 : decode cX8_bestSwap 55 = .ok (.aload_n 0, 1) := dk_42 (dk_at dksX8_bestSwap_2 9 rfl rfl)
theorem dX8_bestSwap_56 : decode cX8_bestSwap 56 = .ok (.invokevirtual 456, 3) := dk_182 1 200 (dk_at dksX8_bestSwap_2 10 rfl rfl)
theorem dX8_bestSwap_59 : decode cX8_bestSwap 59 = .ok (.iinc 2 1, 3) := dk_132 2 1 (dk_at dksX8_bestSwap_2 13 rfl rfl)
theorem dX8_bestSwap_62 : decode cX8_bestSwap 62 = .ok (.goto (-49), 3) := dk_167 255 207 (dk_at dksX8_bestSwap_2 16 rfl rfl)
theorem dX8_bestSwap_65 : decode cX8_bestSwap 65 = .ok (.iload_n 1, 1) := dk_27 (dk_at dksX8_bestSwap_2 19 rfl rfl)
theorem dX8_bestSwap_66 : decode cX8_bestSwap 66 = .ok (.ireturn, 1) := dk_172 (dk_at dksX8_bestSwap_2 20 rfl rfl)
abbrev cX8_measures : ByteArray := prog_13_method_112_code
def yX8_measures : MethodName := ⟨RX8, "measures", "()V"⟩
def dkwX8_measures_1 : List UInt8 := [182, 1, 161, 181, 1, 178, 177]
abbrev dktX8_measures_1 : List UInt8 := dkwX8_measures_1 ++ []
def dkwX8_measures_0 : List UInt8 := [42, 182, 1, 149, 42, 42, 6, 182, 1, 158, 181, 1, 172, 42, 42, 4, 182, 1, 158, 181, 1, 175, 42, 42]
abbrev dktX8_measures_0 : List UInt8 := dkwX8_measures_0 ++ dktX8_measures_1
theorem dksX8_measures_0 : cX8_measures.data.toList.drop 0 = dktX8_measures_0 := by decide +kernel
theorem dksX8_measures_1 : cX8_measures.data.toList.drop 24 = dktX8_measures_1 := dk_seg dksX8_measures_0 24 rfl rfl
theorem dX8_measures_0 : decode cX8_measures 0 = .ok (.aload_n 0, 1) := dk_42 (dk_at dksX8_measures_0 0 rfl rfl)
theorem dX8_measures_1 : decode cX8_measures 1 = .ok (.invokevirtual 405, 3) := dk_182 1 149 (dk_at dksX8_measures_0 1 rfl rfl)
theorem dX8_measures_4 : decode cX8_measures 4 = .ok (.aload_n 0, 1) := dk_42 (dk_at dksX8_measures_0 4 rfl rfl)
theorem dX8_measures_5 : decode cX8_measures 5 = .ok (.aload_n 0, 1) := dk_42 (dk_at dksX8_measures_0 5 rfl rfl)
theorem dX8_measures_6 : decode cX8_measures 6 = .ok (.iconst 3, 1) := dk_6 (dk_at dksX8_measures_0 6 rfl rfl)
theorem dX8_measures_7 : decode cX8_measures 7 = .ok (.invokevirtual 414, 3) := dk_182 1 158 (dk_at dksX8_measures_0 7 rfl rfl)
theorem dX8_measures_10 : decode cX8_measures 10 = .ok (.putfield 428, 3) := dk_181 1 172 (dk_at dksX8_measures_0 10 rfl rfl)
theorem dX8_measures_13 : decode cX8_measures 13 = .ok (.aload_n 0, 1) := dk_42 (dk_at dksX8_measures_0 13 rfl rfl)
theorem dX8_measures_14 : decode cX8_measures 14 = .ok (.aload_n 0, 1) := dk_42 (dk_at dksX8_measures_0 14 rfl rfl)
theorem dX8_measures_15 : decode cX8_measures 15 = .ok (.iconst 1, 1) := dk_4 (dk_at dksX8_measures_0 15 rfl rfl)
theorem dX8_measures_16 : decode cX8_measures 16 = .ok (.invokevirtual 414, 3) := dk_182 1 158 (dk_at dksX8_measures_0 16 rfl rfl)
theorem dX8_measures_19 : decode cX8_measures 19 = .ok (.putfield 431, 3) := dk_181 1 175 (dk_at dksX8_measures_0 19 rfl rfl)
theorem dX8_measures_22 : decode cX8_measures 22 = .ok (.aload_n 0, 1) := dk_42 (dk_at dksX8_measures_0 22 rfl rfl)
theorem dX8_measures_23 : decode cX8_measures 23 = .ok (.aload_n 0, 1) := dk_42 (dk_at dksX8_measures_0 23 rfl rfl)
theorem dX8_measures_24 : decode cX8_measures 24 = .ok (.invokevirtual 417, 3) := dk_182 1 161 (dk_at dksX8_measures_1 0 rfl rfl)
theorem dX8_measures_27 : decode cX8_measures 27 = .ok (.putfield 434, 3) := dk_181 1 178 (dk_at dksX8_measures_1 3 rfl rfl)
theorem dX8_measures_30 : decode cX8_measures 30 = .ok (.return_, 1) := dk_177 (dk_at dksX8_measures_1 6 rfl rfl)
abbrev cX8_beginTrial : ByteArray := prog_13_method_116_code
def yX8_beginTrial : MethodName := ⟨RX8, "beginTrial", "()V"⟩
def dkwX8_beginTrial_0 : List UInt8 := [42, 3, 4, 182, 0, 246, 42, 16, 70, 181, 0, 140, 177]
abbrev dktX8_beginTrial_0 : List UInt8 := dkwX8_beginTrial_0 ++ []
theorem dksX8_beginTrial_0 : cX8_beginTrial.data.toList.drop 0 = dktX8_beginTrial_0 := by decide +kernel
theorem dX8_beginTrial_0 : decode cX8_beginTrial 0 = .ok (.aload_n 0, 1) := dk_42 (dk_at dksX8_beginTrial_0 0 rfl rfl)
theorem dX8_beginTrial_1 : decode cX8_beginTrial 1 = .ok (.iconst 0, 1) := dk_3 (dk_at dksX8_beginTrial_0 1 rfl rfl)
theorem dX8_beginTrial_2 : decode cX8_beginTrial 2 = .ok (.iconst 1, 1) := dk_4 (dk_at dksX8_beginTrial_0 2 rfl rfl)
theorem dX8_beginTrial_3 : decode cX8_beginTrial 3 = .ok (.invokevirtual 246, 3) := dk_182 0 246 (dk_at dksX8_beginTrial_0 3 rfl rfl)
theorem dX8_beginTrial_6 : decode cX8_beginTrial 6 = .ok (.aload_n 0, 1) := dk_42 (dk_at dksX8_beginTrial_0 6 rfl rfl)
theorem dX8_beginTrial_7 : decode cX8_beginTrial 7 = .ok (.bipush 70, 2) := dk_16 70 (dk_at dksX8_beginTrial_0 7 rfl rfl)
theorem dX8_beginTrial_9 : decode cX8_beginTrial 9 = .ok (.putfield 140, 3) := dk_181 0 140 (dk_at dksX8_beginTrial_0 9 rfl rfl)
theorem dX8_beginTrial_12 : decode cX8_beginTrial 12 = .ok (.return_, 1) := dk_177 (dk_at dksX8_beginTrial_0 12 rfl rfl)
abbrev cX8_exchange : ByteArray := prog_13_method_118_code
def yX8_exchange : MethodName := ⟨RX8, "exchange", "(II)V"⟩
def dkwX8_exchange_1 : List UInt8 := [182, 1, 181, 42, 28, 29, 21, 4, 182, 1, 181, 132, 3, 1, 167, 255, 220, 177]
abbrev dktX8_exchange_1 : List UInt8 := dkwX8_exchange_1 ++ []
def dkwX8_exchange_0 : List UInt8 := [3, 62, 29, 6, 162, 0, 37, 42, 27, 29, 182, 1, 50, 54, 4, 42, 27, 29, 42, 28, 29, 182, 1, 50]
abbrev dktX8_exchange_0 : List UInt8 := dkwX8_exchange_0 ++ dktX8_exchange_1
theorem dksX8_exchange_0 : cX8_exchange.data.toList.drop 0 = dktX8_exchange_0 := by decide +kernel
theorem dksX8_exchange_1 : cX8_exchange.data.toList.drop 24 = dktX8_exchange_1 := dk_seg dksX8_exchange_0 24 rfl rfl
theorem dX8_exchange_0 : decode cX8_exchange 0 = .ok (.iconst 0, 1) := dk_3 (dk_at dksX8_exchange_0 0 rfl rfl)
theorem dX8_exchange_1 : decode cX8_exchange 1 = .ok (.istore_n 3, 1) := dk_62 (dk_at dksX8_exchange_0 1 rfl rfl)
theorem dX8_exchange_2 : decode cX8_exchange 2 = .ok (.iload_n 3, 1) := dk_29 (dk_at dksX8_exchange_0 2 rfl rfl)
theorem dX8_exchange_3 : decode cX8_exchange 3 = .ok (.iconst 3, 1) := dk_6 (dk_at dksX8_exchange_0 3 rfl rfl)
theorem dX8_exchange_4 : decode cX8_exchange 4 = .ok (.if_icmp .ge 37, 3) := dk_162 0 37 (dk_at dksX8_exchange_0 4 rfl rfl)
theorem dX8_exchange_7 : decode cX8_exchange 7 = .ok (.aload_n 0, 1) := dk_42 (dk_at dksX8_exchange_0 7 rfl rfl)
theorem dX8_exchange_8 : decode cX8_exchange 8 = .ok (.iload_n 1, 1) := dk_27 (dk_at dksX8_exchange_0 8 rfl rfl)
theorem dX8_exchange_9 : decode cX8_exchange 9 = .ok (.iload_n 3, 1) := dk_29 (dk_at dksX8_exchange_0 9 rfl rfl)
theorem dX8_exchange_10 : decode cX8_exchange 10 = .ok (.invokevirtual 306, 3) := dk_182 1 50 (dk_at dksX8_exchange_0 10 rfl rfl)
theorem dX8_exchange_13 : decode cX8_exchange 13 = .ok (.istore 4, 2) := dk_54 4 (dk_at dksX8_exchange_0 13 rfl rfl)
theorem dX8_exchange_15 : decode cX8_exchange 15 = .ok (.aload_n 0, 1) := dk_42 (dk_at dksX8_exchange_0 15 rfl rfl)
theorem dX8_exchange_16 : decode cX8_exchange 16 = .ok (.iload_n 1, 1) := dk_27 (dk_at dksX8_exchange_0 16 rfl rfl)
theorem dX8_exchange_17 : decode cX8_exchange 17 = .ok (.iload_n 3, 1) := dk_29 (dk_at dksX8_exchange_0 17 rfl rfl)
theorem dX8_exchange_18 : decode cX8_exchange 18 = .ok (.aload_n 0, 1) := dk_42 (dk_at dksX8_exchange_0 18 rfl rfl)
theorem dX8_exchange_19 : decode cX8_exchange 19 = .ok (.iload_n 2, 1) := dk_28 (dk_at dksX8_exchange_0 19 rfl rfl)
theorem dX8_exchange_20 : decode cX8_exchange 20 = .ok (.iload_n 3, 1) := dk_29 (dk_at dksX8_exchange_0 20 rfl rfl)
theorem dX8_exchange_21 : decode cX8_exchange 21 = .ok (.invokevirtual 306, 3) := dk_182 1 50 (dk_at dksX8_exchange_0 21 rfl rfl)
theorem dX8_exchange_24 : decode cX8_exchange 24 = .ok (.invokevirtual 437, 3) := dk_182 1 181 (dk_at dksX8_exchange_1 0 rfl rfl)
theorem dX8_exchange_27 : decode cX8_exchange 27 = .ok (.aload_n 0, 1) := dk_42 (dk_at dksX8_exchange_1 3 rfl rfl)
theorem dX8_exchange_28 : decode cX8_exchange 28 = .ok (.iload_n 2, 1) := dk_28 (dk_at dksX8_exchange_1 4 rfl rfl)
theorem dX8_exchange_29 : decode cX8_exchange 29 = .ok (.iload_n 3, 1) := dk_29 (dk_at dksX8_exchange_1 5 rfl rfl)
theorem dX8_exchange_30 : decode cX8_exchange 30 = .ok (.iload 4, 2) := dk_21 4 (dk_at dksX8_exchange_1 6 rfl rfl)
theorem dX8_exchange_32 : decode cX8_exchange 32 = .ok (.invokevirtual 437, 3) := dk_182 1 181 (dk_at dksX8_exchange_1 8 rfl rfl)
theorem dX8_exchange_35 : decode cX8_exchange 35 = .ok (.iinc 3 1, 3) := dk_132 3 1 (dk_at dksX8_exchange_1 11 rfl rfl)
theorem dX8_exchange_38 : decode cX8_exchange 38 = .ok (.goto (-36), 3) := dk_167 255 220 (dk_at dksX8_exchange_1 14 rfl rfl)
theorem dX8_exchange_41 : decode cX8_exchange 41 = .ok (.return_, 1) := dk_177 (dk_at dksX8_exchange_1 17 rfl rfl)
abbrev cX8_setBatch : ByteArray := prog_13_method_8_code
def yX8_setBatch : MethodName := ⟨RX8, "setBatch", "(III)V"⟩
def dkwX8_setBatch_0 : List UInt8 := [42, 180, 0, 7, 42, 180, 0, 140, 16, 9, 96, 6, 27, 104, 96, 28, 96, 29, 79, 177]
abbrev dktX8_setBatch_0 : List UInt8 := dkwX8_setBatch_0 ++ []
theorem dksX8_setBatch_0 : cX8_setBatch.data.toList.drop 0 = dktX8_setBatch_0 := by decide +kernel
theorem dX8_setBatch_0 : decode cX8_setBatch 0 = .ok (.aload_n 0, 1) := dk_42 (dk_at dksX8_setBatch_0 0 rfl rfl)
theorem dX8_setBatch_1 : decode cX8_setBatch 1 = .ok (.getfield 7, 3) := dk_180 0 7 (dk_at dksX8_setBatch_0 1 rfl rfl)
theorem dX8_setBatch_4 : decode cX8_setBatch 4 = .ok (.aload_n 0, 1) := dk_42 (dk_at dksX8_setBatch_0 4 rfl rfl)
theorem dX8_setBatch_5 : decode cX8_setBatch 5 = .ok (.getfield 140, 3) := dk_180 0 140 (dk_at dksX8_setBatch_0 5 rfl rfl)
theorem dX8_setBatch_8 : decode cX8_setBatch 8 = .ok (.bipush 9, 2) := dk_16 9 (dk_at dksX8_setBatch_0 8 rfl rfl)
theorem dX8_setBatch_10 : decode cX8_setBatch 10 = .ok (.iadd, 1) := dk_96 (dk_at dksX8_setBatch_0 10 rfl rfl)
theorem dX8_setBatch_11 : decode cX8_setBatch 11 = .ok (.iconst 3, 1) := dk_6 (dk_at dksX8_setBatch_0 11 rfl rfl)
theorem dX8_setBatch_12 : decode cX8_setBatch 12 = .ok (.iload_n 1, 1) := dk_27 (dk_at dksX8_setBatch_0 12 rfl rfl)
theorem dX8_setBatch_13 : decode cX8_setBatch 13 = .ok (.imul, 1) := dk_104 (dk_at dksX8_setBatch_0 13 rfl rfl)
theorem dX8_setBatch_14 : decode cX8_setBatch 14 = .ok (.iadd, 1) := dk_96 (dk_at dksX8_setBatch_0 14 rfl rfl)
theorem dX8_setBatch_15 : decode cX8_setBatch 15 = .ok (.iload_n 2, 1) := dk_28 (dk_at dksX8_setBatch_0 15 rfl rfl)
theorem dX8_setBatch_16 : decode cX8_setBatch 16 = .ok (.iadd, 1) := dk_96 (dk_at dksX8_setBatch_0 16 rfl rfl)
theorem dX8_setBatch_17 : decode cX8_setBatch 17 = .ok (.iload_n 3, 1) := dk_29 (dk_at dksX8_setBatch_0 17 rfl rfl)
theorem dX8_setBatch_18 : decode cX8_setBatch 18 = .ok (.iastore, 1) := dk_79 (dk_at dksX8_setBatch_0 18 rfl rfl)
theorem dX8_setBatch_19 : decode cX8_setBatch 19 = .ok (.return_, 1) := dk_177 (dk_at dksX8_setBatch_0 19 rfl rfl)
abbrev cX8_isBetter : ByteArray := prog_13_method_113_code
def yX8_isBetter : MethodName := ⟨RX8, "isBetter", "()Z"⟩
def dkwX8_isBetter_3 : List UInt8 := [167, 0, 4, 3, 172]
abbrev dktX8_isBetter_3 : List UInt8 := dkwX8_isBetter_3 ++ []
def dkwX8_isBetter_2 : List UInt8 := [180, 1, 175, 164, 0, 7, 4, 167, 0, 4, 3, 172, 42, 182, 1, 161, 42, 180, 1, 178, 162, 0, 7, 4]
abbrev dktX8_isBetter_2 : List UInt8 := dkwX8_isBetter_2 ++ dktX8_isBetter_3
def dkwX8_isBetter_1 : List UInt8 := [180, 1, 172, 162, 0, 7, 4, 167, 0, 4, 3, 172, 28, 42, 180, 1, 175, 159, 0, 17, 28, 42]
abbrev dktX8_isBetter_1 : List UInt8 := dkwX8_isBetter_1 ++ dktX8_isBetter_2
def dkwX8_isBetter_0 : List UInt8 := [42, 6, 182, 1, 158, 60, 42, 4, 182, 1, 158, 61, 27, 42, 180, 1, 172, 159, 0, 17, 27, 42]
abbrev dktX8_isBetter_0 : List UInt8 := dkwX8_isBetter_0 ++ dktX8_isBetter_1
theorem dksX8_isBetter_0 : cX8_isBetter.data.toList.drop 0 = dktX8_isBetter_0 := by decide +kernel
theorem dksX8_isBetter_1 : cX8_isBetter.data.toList.drop 22 = dktX8_isBetter_1 := dk_seg dksX8_isBetter_0 22 rfl rfl
theorem dksX8_isBetter_2 : cX8_isBetter.data.toList.drop 44 = dktX8_isBetter_2 := dk_seg dksX8_isBetter_1 22 rfl rfl
theorem dksX8_isBetter_3 : cX8_isBetter.data.toList.drop 68 = dktX8_isBetter_3 := dk_seg dksX8_isBetter_2 24 rfl rfl
theorem dX8_isBetter_0 : decode cX8_isBetter 0 = .ok (.aload_n 0, 1) := dk_42 (dk_at dksX8_isBetter_0 0 rfl rfl)
theorem dX8_isBetter_1 : decode cX8_isBetter 1 = .ok (.iconst 3, 1) := dk_6 (dk_at dksX8_isBetter_0 1 rfl rfl)
theorem dX8_isBetter_2 : decode cX8_isBetter 2 = .ok (.invokevirtual 414, 3) := dk_182 1 158 (dk_at dksX8_isBetter_0 2 rfl rfl)
theorem dX8_isBetter_5 : decode cX8_isBetter 5 = .ok (.istore_n 1, 1) := dk_60 (dk_at dksX8_isBetter_0 5 rfl rfl)
theorem dX8_isBetter_6 : decode cX8_isBetter 6 = .ok (.aload_n 0, 1) := dk_42 (dk_at dksX8_isBetter_0 6 rfl rfl)
theorem dX8_isBetter_7 : decode cX8_isBetter 7 = .ok (.iconst 1, 1) := dk_4 (dk_at dksX8_isBetter_0 7 rfl rfl)
theorem dX8_isBetter_8 : decode cX8_isBetter 8 = .ok (.invokevirtual 414, 3) := dk_182 1 158 (dk_at dksX8_isBetter_0 8 rfl rfl)
theorem dX8_isBetter_11 : decode cX8_isBetter 11 = .ok (.istore_n 2, 1) := dk_61 (dk_at dksX8_isBetter_0 11 rfl rfl)
theorem dX8_isBetter_12 : decode cX8_isBetter 12 = .ok (.iload_n 1, 1) := dk_27 (dk_at dksX8_isBetter_0 12 rfl rfl)
theorem dX8_isBetter_13 : decode cX8_isBetter 13 = .ok (.aload_n 0, 1) := dk_42 (dk_at dksX8_isBetter_0 13 rfl rfl)
theorem dX8_isBetter_14 : decode cX8_isBetter 14 = .ok (.getfield 428, 3) := dk_180 1 172 (dk_at dksX8_isBetter_0 14 rfl rfl)
theorem dX8_isBetter_17 : decode cX8_isBetter 17 = .ok (.if_icmp .eq 17, 3) := dk_159 0 17 (dk_at dksX8_isBetter_0 17 rfl rfl)
theorem dX8_isBetter_20 : decode cX8_isBetter 20 = .ok (.iload_n 1, 1) := dk_27 (dk_at dksX8_isBetter_0 20 rfl rfl)
theorem dX8_isBetter_21 : decode cX8_isBetter 21 = .ok (.aload_n 0, 1) := dk_42 (dk_at dksX8_isBetter_0 21 rfl rfl)
theorem dX8_isBetter_22 : decode cX8_isBetter 22 = .ok (.getfield 428, 3) := dk_180 1 172 (dk_at dksX8_isBetter_1 0 rfl rfl)
theorem dX8_isBetter_25 : decode cX8_isBetter 25 = .ok (.if_icmp .ge 7, 3) := dk_162 0 7 (dk_at dksX8_isBetter_1 3 rfl rfl)
theorem dX8_isBetter_28 : decode cX8_isBetter 28 = .ok (.iconst 1, 1) := dk_4 (dk_at dksX8_isBetter_1 6 rfl rfl)
theorem dX8_isBetter_29 : decode cX8_isBetter 29 = .ok (.goto 4, 3) := dk_167 0 4 (dk_at dksX8_isBetter_1 7 rfl rfl)
theorem dX8_isBetter_32 : decode cX8_isBetter 32 = .ok (.iconst 0, 1) := dk_3 (dk_at dksX8_isBetter_1 10 rfl rfl)
theorem dX8_isBetter_33 : decode cX8_isBetter 33 = .ok (.ireturn, 1) := dk_172 (dk_at dksX8_isBetter_1 11 rfl rfl)
theorem dX8_isBetter_34 : decode cX8_isBetter 34 = .ok (.iload_n 2, 1) := dk_28 (dk_at dksX8_isBetter_1 12 rfl rfl)
theorem dX8_isBetter_35 : decode cX8_isBetter 35 = .ok (.aload_n 0, 1) := dk_42 (dk_at dksX8_isBetter_1 13 rfl rfl)
theorem dX8_isBetter_36 : decode cX8_isBetter 36 = .ok (.getfield 431, 3) := dk_180 1 175 (dk_at dksX8_isBetter_1 14 rfl rfl)
theorem dX8_isBetter_39 : decode cX8_isBetter 39 = .ok (.if_icmp .eq 17, 3) := dk_159 0 17 (dk_at dksX8_isBetter_1 17 rfl rfl)
theorem dX8_isBetter_42 : decode cX8_isBetter 42 = .ok (.iload_n 2, 1) := dk_28 (dk_at dksX8_isBetter_1 20 rfl rfl)
theorem dX8_isBetter_43 : decode cX8_isBetter 43 = .ok (.aload_n 0, 1) := dk_42 (dk_at dksX8_isBetter_1 21 rfl rfl)
theorem dX8_isBetter_44 : decode cX8_isBetter 44 = .ok (.getfield 431, 3) := dk_180 1 175 (dk_at dksX8_isBetter_2 0 rfl rfl)
theorem dX8_isBetter_47 : decode cX8_isBetter 47 = .ok (.if_icmp .le 7, 3) := dk_164 0 7 (dk_at dksX8_isBetter_2 3 rfl rfl)
theorem dX8_isBetter_50 : decode cX8_isBetter 50 = .ok (.iconst 1, 1) := dk_4 (dk_at dksX8_isBetter_2 6 rfl rfl)
theorem dX8_isBetter_51 : decode cX8_isBetter 51 = .ok (.goto 4, 3) := dk_167 0 4 (dk_at dksX8_isBetter_2 7 rfl rfl)
theorem dX8_isBetter_54 : decode cX8_isBetter 54 = .ok (.iconst 0, 1) := dk_3 (dk_at dksX8_isBetter_2 10 rfl rfl)
theorem dX8_isBetter_55 : decode cX8_isBetter 55 = .ok (.ireturn, 1) := dk_172 (dk_at dksX8_isBetter_2 11 rfl rfl)
theorem dX8_isBetter_56 : decode cX8_isBetter 56 = .ok (.aload_n 0, 1) := dk_42 (dk_at dksX8_isBetter_2 12 rfl rfl)
theorem dX8_isBetter_57 : decode cX8_isBetter 57 = .ok (.invokevirtual 417, 3) := dk_182 1 161 (dk_at dksX8_isBetter_2 13 rfl rfl)
theorem dX8_isBetter_60 : decode cX8_isBetter 60 = .ok (.aload_n 0, 1) := dk_42 (dk_at dksX8_isBetter_2 16 rfl rfl)
theorem dX8_isBetter_61 : decode cX8_isBetter 61 = .ok (.getfield 434, 3) := dk_180 1 178 (dk_at dksX8_isBetter_2 17 rfl rfl)
theorem dX8_isBetter_64 : decode cX8_isBetter 64 = .ok (.if_icmp .ge 7, 3) := dk_162 0 7 (dk_at dksX8_isBetter_2 20 rfl rfl)
theorem dX8_isBetter_67 : decode cX8_isBetter 67 = .ok (.iconst 1, 1) := dk_4 (dk_at dksX8_isBetter_2 23 rfl rfl)
theorem dX8_isBetter_68 : decode cX8_isBetter 68 = .ok (.goto 4, 3) := dk_167 0 4 (dk_at dksX8_isBetter_3 0 rfl rfl)
theorem dX8_isBetter_71 : decode cX8_isBetter 71 = .ok (.iconst 0, 1) := dk_3 (dk_at dksX8_isBetter_3 3 rfl rfl)
theorem dX8_isBetter_72 : decode cX8_isBetter 72 = .ok (.ireturn, 1) := dk_172 (dk_at dksX8_isBetter_3 4 rfl rfl)
abbrev cX8_keepsBest : ByteArray := prog_13_method_114_code
def yX8_keepsBest : MethodName := ⟨RX8, "keepsBest", "()V"⟩
def dkwX8_keepsBest_1 : List UInt8 := [181, 1, 178, 177]
abbrev dktX8_keepsBest_1 : List UInt8 := dkwX8_keepsBest_1 ++ []
def dkwX8_keepsBest_0 : List UInt8 := [42, 42, 6, 182, 1, 158, 181, 1, 172, 42, 42, 4, 182, 1, 158, 181, 1, 175, 42, 42, 182, 1, 161]
abbrev dktX8_keepsBest_0 : List UInt8 := dkwX8_keepsBest_0 ++ dktX8_keepsBest_1
theorem dksX8_keepsBest_0 : cX8_keepsBest.data.toList.drop 0 = dktX8_keepsBest_0 := by decide +kernel
theorem dksX8_keepsBest_1 : cX8_keepsBest.data.toList.drop 23 = dktX8_keepsBest_1 := dk_seg dksX8_keepsBest_0 23 rfl rfl
theorem dX8_keepsBest_0 : decode cX8_keepsBest 0 = .ok (.aload_n 0, 1) := dk_42 (dk_at dksX8_keepsBest_0 0 rfl rfl)
theorem dX8_keepsBest_1 : decode cX8_keepsBest 1 = .ok (.aload_n 0, 1) := dk_42 (dk_at dksX8_keepsBest_0 1 rfl rfl)
theorem dX8_keepsBest_2 : decode cX8_keepsBest 2 = .ok (.iconst 3, 1) := dk_6 (dk_at dksX8_keepsBest_0 2 rfl rfl)
theorem dX8_keepsBest_3 : decode cX8_keepsBest 3 = .ok (.invokevirtual 414, 3) := dk_182 1 158 (dk_at dksX8_keepsBest_0 3 rfl rfl)
theorem dX8_keepsBest_6 : decode cX8_keepsBest 6 = .ok (.putfield 428, 3) := dk_181 1 172 (dk_at dksX8_keepsBest_0 6 rfl rfl)
theorem dX8_keepsBest_9 : decode cX8_keepsBest 9 = .ok (.aload_n 0, 1) := dk_42 (dk_at dksX8_keepsBest_0 9 rfl rfl)
theorem dX8_keepsBest_10 : decode cX8_keepsBest 10 = .ok (.aload_n 0, 1) := dk_42 (dk_at dksX8_keepsBest_0 10 rfl rfl)
theorem dX8_keepsBest_11 : decode cX8_keepsBest 11 = .ok (.iconst 1, 1) := dk_4 (dk_at dksX8_keepsBest_0 11 rfl rfl)
theorem dX8_keepsBest_12 : decode cX8_keepsBest 12 = .ok (.invokevirtual 414, 3) := dk_182 1 158 (dk_at dksX8_keepsBest_0 12 rfl rfl)
theorem dX8_keepsBest_15 : decode cX8_keepsBest 15 = .ok (.putfield 431, 3) := dk_181 1 175 (dk_at dksX8_keepsBest_0 15 rfl rfl)
theorem dX8_keepsBest_18 : decode cX8_keepsBest 18 = .ok (.aload_n 0, 1) := dk_42 (dk_at dksX8_keepsBest_0 18 rfl rfl)
theorem dX8_keepsBest_19 : decode cX8_keepsBest 19 = .ok (.aload_n 0, 1) := dk_42 (dk_at dksX8_keepsBest_0 19 rfl rfl)
theorem dX8_keepsBest_20 : decode cX8_keepsBest 20 = .ok (.invokevirtual 417, 3) := dk_182 1 161 (dk_at dksX8_keepsBest_0 20 rfl rfl)
theorem dX8_keepsBest_23 : decode cX8_keepsBest 23 = .ok (.putfield 434, 3) := dk_181 1 178 (dk_at dksX8_keepsBest_1 0 rfl rfl)
theorem dX8_keepsBest_26 : decode cX8_keepsBest 26 = .ok (.return_, 1) := dk_177 (dk_at dksX8_keepsBest_1 3 rfl rfl)
abbrev cX8_endTrial : ByteArray := prog_13_method_117_code
def yX8_endTrial : MethodName := ⟨RX8, "endTrial", "()V"⟩
def dkwX8_endTrial_0 : List UInt8 := [42, 3, 181, 0, 140, 177]
abbrev dktX8_endTrial_0 : List UInt8 := dkwX8_endTrial_0 ++ []
theorem dksX8_endTrial_0 : cX8_endTrial.data.toList.drop 0 = dktX8_endTrial_0 := by decide +kernel
theorem dX8_endTrial_0 : decode cX8_endTrial 0 = .ok (.aload_n 0, 1) := dk_42 (dk_at dksX8_endTrial_0 0 rfl rfl)
theorem dX8_endTrial_1 : decode cX8_endTrial 1 = .ok (.iconst 0, 1) := dk_3 (dk_at dksX8_endTrial_0 1 rfl rfl)
theorem dX8_endTrial_2 : decode cX8_endTrial 2 = .ok (.putfield 140, 3) := dk_181 0 140 (dk_at dksX8_endTrial_0 2 rfl rfl)
theorem dX8_endTrial_5 : decode cX8_endTrial 5 = .ok (.return_, 1) := dk_177 (dk_at dksX8_endTrial_0 5 rfl rfl)
abbrev cX8_needed : ByteArray := prog_13_method_121_code
def yX8_needed : MethodName := ⟨RX8, "needed", "(I)I"⟩
def dkwX8_needed_2 : List UInt8 := [132, 2, 1, 167, 255, 234, 2, 172]
abbrev dktX8_needed_2 : List UInt8 := dkwX8_needed_2 ++ []
def dkwX8_needed_1 : List UInt8 := [184, 1, 14, 61, 28, 27, 184, 1, 17, 163, 0, 20, 42, 27, 28, 182, 1, 206, 154, 0, 5, 28, 172]
abbrev dktX8_needed_1 : List UInt8 := dkwX8_needed_1 ++ dktX8_needed_2
def dkwX8_needed_0 : List UInt8 := [42, 3, 181, 0, 137, 27, 4, 159, 0, 14, 27, 5, 159, 0, 9, 42, 4, 182, 0, 164, 172, 27]
abbrev dktX8_needed_0 : List UInt8 := dkwX8_needed_0 ++ dktX8_needed_1
theorem dksX8_needed_0 : cX8_needed.data.toList.drop 0 = dktX8_needed_0 := by decide +kernel
theorem dksX8_needed_1 : cX8_needed.data.toList.drop 22 = dktX8_needed_1 := dk_seg dksX8_needed_0 22 rfl rfl
theorem dksX8_needed_2 : cX8_needed.data.toList.drop 45 = dktX8_needed_2 := dk_seg dksX8_needed_1 23 rfl rfl
theorem dX8_needed_0 : decode cX8_needed 0 = .ok (.aload_n 0, 1) := dk_42 (dk_at dksX8_needed_0 0 rfl rfl)
theorem dX8_needed_1 : decode cX8_needed 1 = .ok (.iconst 0, 1) := dk_3 (dk_at dksX8_needed_0 1 rfl rfl)
theorem dX8_needed_2 : decode cX8_needed 2 = .ok (.putfield 137, 3) := dk_181 0 137 (dk_at dksX8_needed_0 2 rfl rfl)
theorem dX8_needed_5 : decode cX8_needed 5 = .ok (.iload_n 1, 1) := dk_27 (dk_at dksX8_needed_0 5 rfl rfl)
theorem dX8_needed_6 : decode cX8_needed 6 = .ok (.iconst 1, 1) := dk_4 (dk_at dksX8_needed_0 6 rfl rfl)
theorem dX8_needed_7 : decode cX8_needed 7 = .ok (.if_icmp .eq 14, 3) := dk_159 0 14 (dk_at dksX8_needed_0 7 rfl rfl)
theorem dX8_needed_10 : decode cX8_needed 10 = .ok (.iload_n 1, 1) := dk_27 (dk_at dksX8_needed_0 10 rfl rfl)
theorem dX8_needed_11 : decode cX8_needed 11 = .ok (.iconst 2, 1) := dk_5 (dk_at dksX8_needed_0 11 rfl rfl)
theorem dX8_needed_12 : decode cX8_needed 12 = .ok (.if_icmp .eq 9, 3) := dk_159 0 9 (dk_at dksX8_needed_0 12 rfl rfl)
theorem dX8_needed_15 : decode cX8_needed 15 = .ok (.aload_n 0, 1) := dk_42 (dk_at dksX8_needed_0 15 rfl rfl)
theorem dX8_needed_16 : decode cX8_needed 16 = .ok (.iconst 1, 1) := dk_4 (dk_at dksX8_needed_0 16 rfl rfl)
theorem dX8_needed_17 : decode cX8_needed 17 = .ok (.invokevirtual 164, 3) := dk_182 0 164 (dk_at dksX8_needed_0 17 rfl rfl)
theorem dX8_needed_20 : decode cX8_needed 20 = .ok (.ireturn, 1) := dk_172 (dk_at dksX8_needed_0 20 rfl rfl)
theorem dX8_needed_21 : decode cX8_needed 21 = .ok (.iload_n 1, 1) := dk_27 (dk_at dksX8_needed_0 21 rfl rfl)
theorem dX8_needed_22 : decode cX8_needed 22 = .ok (.invokestatic 270, 3) := dk_184 1 14 (dk_at dksX8_needed_1 0 rfl rfl)
theorem dX8_needed_25 : decode cX8_needed 25 = .ok (.istore_n 2, 1) := dk_61 (dk_at dksX8_needed_1 3 rfl rfl)
theorem dX8_needed_26 : decode cX8_needed 26 = .ok (.iload_n 2, 1) := dk_28 (dk_at dksX8_needed_1 4 rfl rfl)
theorem dX8_needed_27 : decode cX8_needed 27 = .ok (.iload_n 1, 1) := dk_27 (dk_at dksX8_needed_1 5 rfl rfl)
theorem dX8_needed_28 : decode cX8_needed 28 = .ok (.invokestatic 273, 3) := dk_184 1 17 (dk_at dksX8_needed_1 6 rfl rfl)
theorem dX8_needed_31 : decode cX8_needed 31 = .ok (.if_icmp .gt 20, 3) := dk_163 0 20 (dk_at dksX8_needed_1 9 rfl rfl)
theorem dX8_needed_34 : decode cX8_needed 34 = .ok (.aload_n 0, 1) := dk_42 (dk_at dksX8_needed_1 12 rfl rfl)
theorem dX8_needed_35 : decode cX8_needed 35 = .ok (.iload_n 1, 1) := dk_27 (dk_at dksX8_needed_1 13 rfl rfl)
theorem dX8_needed_36 : decode cX8_needed 36 = .ok (.iload_n 2, 1) := dk_28 (dk_at dksX8_needed_1 14 rfl rfl)
theorem dX8_needed_37 : decode cX8_needed 37 = .ok (.invokevirtual 462, 3) := dk_182 1 206 (dk_at dksX8_needed_1 15 rfl rfl)
theorem dX8_needed_40 : decode cX8_needed 40 = .ok (.ifCond .ne 5, 3) := dk_154 0 5 (dk_at dksX8_needed_1 18 rfl rfl)
theorem dX8_needed_43 : decode cX8_needed 43 = .ok (.iload_n 2, 1) := dk_28 (dk_at dksX8_needed_1 21 rfl rfl)
theorem dX8_needed_44 : decode cX8_needed 44 = .ok (.ireturn, 1) := dk_172 (dk_at dksX8_needed_1 22 rfl rfl)
theorem dX8_needed_45 : decode cX8_needed 45 = .ok (.iinc 2 1, 3) := dk_132 2 1 (dk_at dksX8_needed_2 0 rfl rfl)
theorem dX8_needed_48 : decode cX8_needed 48 = .ok (.goto (-22), 3) := dk_167 255 234 (dk_at dksX8_needed_2 3 rfl rfl)
theorem dX8_needed_51 : decode cX8_needed 51 = .ok (.iconst (-1), 1) := dk_2 (dk_at dksX8_needed_2 6 rfl rfl)
theorem dX8_needed_52 : decode cX8_needed 52 = .ok (.ireturn, 1) := dk_172 (dk_at dksX8_needed_2 7 rfl rfl)
abbrev cX8_losesWith : ByteArray := prog_13_method_120_code
def yX8_losesWith : MethodName := ⟨RX8, "losesWith", "(II)Z"⟩
def dkwX8_losesWith_1 : List UInt8 := [29, 158, 0, 7, 4, 167, 0, 4, 3, 172]
abbrev dktX8_losesWith_1 : List UInt8 := dkwX8_losesWith_1 ++ []
def dkwX8_losesWith_0 : List UInt8 := [42, 182, 1, 188, 42, 27, 28, 182, 1, 203, 42, 182, 1, 149, 42, 6, 182, 1, 158, 62, 42, 182, 1, 200]
abbrev dktX8_losesWith_0 : List UInt8 := dkwX8_losesWith_0 ++ dktX8_losesWith_1
theorem dksX8_losesWith_0 : cX8_losesWith.data.toList.drop 0 = dktX8_losesWith_0 := by decide +kernel
theorem dksX8_losesWith_1 : cX8_losesWith.data.toList.drop 24 = dktX8_losesWith_1 := dk_seg dksX8_losesWith_0 24 rfl rfl
theorem dX8_losesWith_0 : decode cX8_losesWith 0 = .ok (.aload_n 0, 1) := dk_42 (dk_at dksX8_losesWith_0 0 rfl rfl)
theorem dX8_losesWith_1 : decode cX8_losesWith 1 = .ok (.invokevirtual 444, 3) := dk_182 1 188 (dk_at dksX8_losesWith_0 1 rfl rfl)
theorem dX8_losesWith_4 : decode cX8_losesWith 4 = .ok (.aload_n 0, 1) := dk_42 (dk_at dksX8_losesWith_0 4 rfl rfl)
theorem dX8_losesWith_5 : decode cX8_losesWith 5 = .ok (.iload_n 1, 1) := dk_27 (dk_at dksX8_losesWith_0 5 rfl rfl)
theorem dX8_losesWith_6 : decode cX8_losesWith 6 = .ok (.iload_n 2, 1) := dk_28 (dk_at dksX8_losesWith_0 6 rfl rfl)
theorem dX8_losesWith_7 : decode cX8_losesWith 7 = .ok (.invokevirtual 459, 3) := dk_182 1 203 (dk_at dksX8_losesWith_0 7 rfl rfl)
theorem dX8_losesWith_10 : decode cX8_losesWith 10 = .ok (.aload_n 0, 1) := dk_42 (dk_at dksX8_losesWith_0 10 rfl rfl)
theorem dX8_losesWith_11 : decode cX8_losesWith 11 = .ok (.invokevirtual 405, 3) := dk_182 1 149 (dk_at dksX8_losesWith_0 11 rfl rfl)
theorem dX8_losesWith_14 : decode cX8_losesWith 14 = .ok (.aload_n 0, 1) := dk_42 (dk_at dksX8_losesWith_0 14 rfl rfl)
theorem dX8_losesWith_15 : decode cX8_losesWith 15 = .ok (.iconst 3, 1) := dk_6 (dk_at dksX8_losesWith_0 15 rfl rfl)
theorem dX8_losesWith_16 : decode cX8_losesWith 16 = .ok (.invokevirtual 414, 3) := dk_182 1 158 (dk_at dksX8_losesWith_0 16 rfl rfl)
theorem dX8_losesWith_19 : decode cX8_losesWith 19 = .ok (.istore_n 3, 1) := dk_62 (dk_at dksX8_losesWith_0 19 rfl rfl)
theorem dX8_losesWith_20 : decode cX8_losesWith 20 = .ok (.aload_n 0, 1) := dk_42 (dk_at dksX8_losesWith_0 20 rfl rfl)
theorem dX8_losesWith_21 : decode cX8_losesWith 21 = .ok (.invokevirtual 456, 3) := dk_182 1 200 (dk_at dksX8_losesWith_0 21 rfl rfl)
theorem dX8_losesWith_24 : decode cX8_losesWith 24 = .ok (.iload_n 3, 1) := dk_29 (dk_at dksX8_losesWith_1 0 rfl rfl)
theorem dX8_losesWith_25 : decode cX8_losesWith 25 = .ok (.ifCond .le 7, 3) := dk_158 0 7 (dk_at dksX8_losesWith_1 1 rfl rfl)
theorem dX8_losesWith_28 : decode cX8_losesWith 28 = .ok (.iconst 1, 1) := dk_4 (dk_at dksX8_losesWith_1 4 rfl rfl)
theorem dX8_losesWith_29 : decode cX8_losesWith 29 = .ok (.goto 4, 3) := dk_167 0 4 (dk_at dksX8_losesWith_1 5 rfl rfl)
theorem dX8_losesWith_32 : decode cX8_losesWith 32 = .ok (.iconst 0, 1) := dk_3 (dk_at dksX8_losesWith_1 8 rfl rfl)
theorem dX8_losesWith_33 : decode cX8_losesWith 33 = .ok (.ireturn, 1) := dk_172 (dk_at dksX8_losesWith_1 9 rfl rfl)
abbrev cX8_set : ByteArray := prog_13_method_6_code
def yX8_set : MethodName := ⟨RX8, "set", "(II)V"⟩
def dkwX8_set_0 : List UInt8 := [42, 180, 0, 7, 42, 180, 0, 140, 27, 96, 28, 79, 177]
abbrev dktX8_set_0 : List UInt8 := dkwX8_set_0 ++ []
theorem dksX8_set_0 : cX8_set.data.toList.drop 0 = dktX8_set_0 := by decide +kernel
theorem dX8_set_0 : decode cX8_set 0 = .ok (.aload_n 0, 1) := dk_42 (dk_at dksX8_set_0 0 rfl rfl)
theorem dX8_set_1 : decode cX8_set 1 = .ok (.getfield 7, 3) := dk_180 0 7 (dk_at dksX8_set_0 1 rfl rfl)
theorem dX8_set_4 : decode cX8_set 4 = .ok (.aload_n 0, 1) := dk_42 (dk_at dksX8_set_0 4 rfl rfl)
theorem dX8_set_5 : decode cX8_set 5 = .ok (.getfield 140, 3) := dk_180 0 140 (dk_at dksX8_set_0 5 rfl rfl)
theorem dX8_set_8 : decode cX8_set 8 = .ok (.iload_n 1, 1) := dk_27 (dk_at dksX8_set_0 8 rfl rfl)
theorem dX8_set_9 : decode cX8_set 9 = .ok (.iadd, 1) := dk_96 (dk_at dksX8_set_0 9 rfl rfl)
theorem dX8_set_10 : decode cX8_set 10 = .ok (.iload_n 2, 1) := dk_28 (dk_at dksX8_set_0 10 rfl rfl)
theorem dX8_set_11 : decode cX8_set 11 = .ok (.iastore, 1) := dk_79 (dk_at dksX8_set_0 11 rfl rfl)
theorem dX8_set_12 : decode cX8_set 12 = .ok (.return_, 1) := dk_177 (dk_at dksX8_set_0 12 rfl rfl)
abbrev cX8_slack : ByteArray := prog_13_method_123_code
def yX8_slack : MethodName := ⟨RX8, "slack", "(II)I"⟩
def dkwX8_slack_3 : List UInt8 := [132, 3, 255, 167, 255, 219, 2, 172]
abbrev dktX8_slack_3 : List UInt8 := dkwX8_slack_3 ++ []
def dkwX8_slack_2 : List UInt8 := [29, 96, 54, 4, 21, 4, 17, 3, 231, 163, 0, 15, 42, 27, 21, 4, 182, 1, 213, 153, 0, 5, 29, 172]
abbrev dktX8_slack_2 : List UInt8 := dkwX8_slack_2 ++ dktX8_slack_3
def dkwX8_slack_1 : List UInt8 := [184, 0, 151, 154, 0, 9, 42, 5, 182, 0, 164, 172, 28, 62, 29, 155, 0, 39, 42, 27, 4, 182, 1, 50]
abbrev dktX8_slack_1 : List UInt8 := dkwX8_slack_1 ++ dktX8_slack_2
def dkwX8_slack_0 : List UInt8 := [42, 3, 181, 0, 137, 42, 27, 182, 1, 47, 154, 0, 9, 42, 4, 182, 0, 164, 172, 28, 4, 16, 120]
abbrev dktX8_slack_0 : List UInt8 := dkwX8_slack_0 ++ dktX8_slack_1
theorem dksX8_slack_0 : cX8_slack.data.toList.drop 0 = dktX8_slack_0 := by decide +kernel
theorem dksX8_slack_1 : cX8_slack.data.toList.drop 23 = dktX8_slack_1 := dk_seg dksX8_slack_0 23 rfl rfl
theorem dksX8_slack_2 : cX8_slack.data.toList.drop 47 = dktX8_slack_2 := dk_seg dksX8_slack_1 24 rfl rfl
theorem dksX8_slack_3 : cX8_slack.data.toList.drop 71 = dktX8_slack_3 := dk_seg dksX8_slack_2 24 rfl rfl
theorem dX8_slack_0 : decode cX8_slack 0 = .ok (.aload_n 0, 1) := dk_42 (dk_at dksX8_slack_0 0 rfl rfl)
theorem dX8_slack_1 : decode cX8_slack 1 = .ok (.iconst 0, 1) := dk_3 (dk_at dksX8_slack_0 1 rfl rfl)
theorem dX8_slack_2 : decode cX8_slack 2 = .ok (.putfield 137, 3) := dk_181 0 137 (dk_at dksX8_slack_0 2 rfl rfl)
theorem dX8_slack_5 : decode cX8_slack 5 = .ok (.aload_n 0, 1) := dk_42 (dk_at dksX8_slack_0 5 rfl rfl)
theorem dX8_slack_6 : decode cX8_slack 6 = .ok (.iload_n 1, 1) := dk_27 (dk_at dksX8_slack_0 6 rfl rfl)
theorem dX8_slack_7 : decode cX8_slack 7 = .ok (.invokevirtual 303, 3) := dk_182 1 47 (dk_at dksX8_slack_0 7 rfl rfl)
theorem dX8_slack_10 : decode cX8_slack 10 = .ok (.ifCond .ne 9, 3) := dk_154 0 9 (dk_at dksX8_slack_0 10 rfl rfl)
theorem dX8_slack_13 : decode cX8_slack 13 = .ok (.aload_n 0, 1) := dk_42 (dk_at dksX8_slack_0 13 rfl rfl)
theorem dX8_slack_14 : decode cX8_slack 14 = .ok (.iconst 1, 1) := dk_4 (dk_at dksX8_slack_0 14 rfl rfl)
theorem dX8_slack_15 : decode cX8_slack 15 = .ok (.invokevirtual 164, 3) := dk_182 0 164 (dk_at dksX8_slack_0 15 rfl rfl)
theorem dX8_slack_18 : decode cX8_slack 18 = .ok (.ireturn, 1) := dk_172 (dk_at dksX8_slack_0 18 rfl rfl)
theorem dX8_slack_19 : decode cX8_slack 19 = .ok (.iload_n 2, 1) := dk_28 (dk_at dksX8_slack_0 19 rfl rfl)
theorem dX8_slack_20 : decode cX8_slack 20 = .ok (.iconst 1, 1) := dk_4 (dk_at dksX8_slack_0 20 rfl rfl)
theorem dX8_slack_21 : decode cX8_slack 21 = .ok (.bipush 120, 2) := dk_16 120 (dk_at dksX8_slack_0 21 rfl rfl)
theorem dX8_slack_23 : decode cX8_slack 23 = .ok (.invokestatic 151, 3) := dk_184 0 151 (dk_at dksX8_slack_1 0 rfl rfl)
theorem dX8_slack_26 : decode cX8_slack 26 = .ok (.ifCond .ne 9, 3) := dk_154 0 9 (dk_at dksX8_slack_1 3 rfl rfl)
theorem dX8_slack_29 : decode cX8_slack 29 = .ok (.aload_n 0, 1) := dk_42 (dk_at dksX8_slack_1 6 rfl rfl)
theorem dX8_slack_30 : decode cX8_slack 30 = .ok (.iconst 2, 1) := dk_5 (dk_at dksX8_slack_1 7 rfl rfl)
theorem dX8_slack_31 : decode cX8_slack 31 = .ok (.invokevirtual 164, 3) := dk_182 0 164 (dk_at dksX8_slack_1 8 rfl rfl)
theorem dX8_slack_34 : decode cX8_slack 34 = .ok (.ireturn, 1) := dk_172 (dk_at dksX8_slack_1 11 rfl rfl)
theorem dX8_slack_35 : decode cX8_slack 35 = .ok (.iload_n 2, 1) := dk_28 (dk_at dksX8_slack_1 12 rfl rfl)
theorem dX8_slack_36 : decode cX8_slack 36 = .ok (.istore_n 3, 1) := dk_62 (dk_at dksX8_slack_1 13 rfl rfl)
theorem dX8_slack_37 : decode cX8_slack 37 = .ok (.iload_n 3, 1) := dk_29 (dk_at dksX8_slack_1 14 rfl rfl)
theorem dX8_slack_38 : decode cX8_slack 38 = .ok (.ifCond .lt 39, 3) := dk_155 0 39 (dk_at dksX8_slack_1 15 rfl rfl)
theorem dX8_slack_41 : decode cX8_slack 41 = .ok (.aload_n 0, 1) := dk_42 (dk_at dksX8_slack_1 18 rfl rfl)
theorem dX8_slack_42 : decode cX8_slack 42 = .ok (.iload_n 1, 1) := dk_27 (dk_at dksX8_slack_1 19 rfl rfl)
theorem dX8_slack_43 : decode cX8_slack 43 = .ok (.iconst 1, 1) := dk_4 (dk_at dksX8_slack_1 20 rfl rfl)
theorem dX8_slack_44 : decode cX8_slack 44 = .ok (.invokevirtual 306, 3) := dk_182 1 50 (dk_at dksX8_slack_1 21 rfl rfl)
theorem dX8_slack_47 : decode cX8_slack 47 = .ok (.iload_n 3, 1) := dk_29 (dk_at dksX8_slack_2 0 rfl rfl)
theorem dX8_slack_48 : decode cX8_slack 48 = .ok (.iadd, 1) := dk_96 (dk_at dksX8_slack_2 1 rfl rfl)
theorem dX8_slack_49 : decode cX8_slack 49 = .ok (.istore 4, 2) := dk_54 4 (dk_at dksX8_slack_2 2 rfl rfl)
theorem dX8_slack_51 : decode cX8_slack 51 = .ok (.iload 4, 2) := dk_21 4 (dk_at dksX8_slack_2 4 rfl rfl)
theorem dX8_slack_53 : decode cX8_slack 53 = .ok (.sipush 999, 3) := dk_17 3 231 (dk_at dksX8_slack_2 6 rfl rfl)
theorem dX8_slack_56 : decode cX8_slack 56 = .ok (.if_icmp .gt 15, 3) := dk_163 0 15 (dk_at dksX8_slack_2 9 rfl rfl)
theorem dX8_slack_59 : decode cX8_slack 59 = .ok (.aload_n 0, 1) := dk_42 (dk_at dksX8_slack_2 12 rfl rfl)
theorem dX8_slack_60 : decode cX8_slack 60 = .ok (.iload_n 1, 1) := dk_27 (dk_at dksX8_slack_2 13 rfl rfl)
theorem dX8_slack_61 : decode cX8_slack 61 = .ok (.iload 4, 2) := dk_21 4 (dk_at dksX8_slack_2 14 rfl rfl)
theorem dX8_slack_63 : decode cX8_slack 63 = .ok (.invokevirtual 469, 3) := dk_182 1 213 (dk_at dksX8_slack_2 16 rfl rfl)
theorem dX8_slack_66 : decode cX8_slack 66 = .ok (.ifCond .eq 5, 3) := dk_153 0 5 (dk_at dksX8_slack_2 19 rfl rfl)
theorem dX8_slack_69 : decode cX8_slack 69 = .ok (.iload_n 3, 1) := dk_29 (dk_at dksX8_slack_2 22 rfl rfl)
theorem dX8_slack_70 : decode cX8_slack 70 = .ok (.ireturn, 1) := dk_172 (dk_at dksX8_slack_2 23 rfl rfl)
theorem dX8_slack_71 : decode cX8_slack 71 = .ok (.iinc 3 (-1), 3) := dk_132 3 255 (dk_at dksX8_slack_3 0 rfl rfl)
theorem dX8_slack_74 : decode cX8_slack 74 = .ok (.goto (-37), 3) := dk_167 255 219 (dk_at dksX8_slack_3 3 rfl rfl)
theorem dX8_slack_77 : decode cX8_slack 77 = .ok (.iconst (-1), 1) := dk_2 (dk_at dksX8_slack_3 6 rfl rfl)
theorem dX8_slack_78 : decode cX8_slack 78 = .ok (.ireturn, 1) := dk_172 (dk_at dksX8_slack_3 7 rfl rfl)
abbrev cX8_isDoneLater : ByteArray := prog_13_method_122_code
def yX8_isDoneLater : MethodName := ⟨RX8, "isDoneLater", "(II)Z"⟩
def dkwX8_isDoneLater_1 : List UInt8 := [160, 0, 7, 4, 167, 0, 4, 3, 62, 42, 182, 1, 200, 29, 172]
abbrev dktX8_isDoneLater_1 : List UInt8 := dkwX8_isDoneLater_1 ++ []
def dkwX8_isDoneLater_0 : List UInt8 := [42, 182, 1, 188, 42, 27, 4, 28, 182, 1, 181, 42, 27, 182, 1, 210, 42, 27, 182, 1, 146, 4]
abbrev dktX8_isDoneLater_0 : List UInt8 := dkwX8_isDoneLater_0 ++ dktX8_isDoneLater_1
theorem dksX8_isDoneLater_0 : cX8_isDoneLater.data.toList.drop 0 = dktX8_isDoneLater_0 := by decide +kernel
theorem dksX8_isDoneLater_1 : cX8_isDoneLater.data.toList.drop 22 = dktX8_isDoneLater_1 := dk_seg dksX8_isDoneLater_0 22 rfl rfl
theorem dX8_isDoneLater_0 : decode cX8_isDoneLater 0 = .ok (.aload_n 0, 1) := dk_42 (dk_at dksX8_isDoneLater_0 0 rfl rfl)
theorem dX8_isDoneLater_1 : decode cX8_isDoneLater 1 = .ok (.invokevirtual 444, 3) := dk_182 1 188 (dk_at dksX8_isDoneLater_0 1 rfl rfl)
theorem dX8_isDoneLater_4 : decode cX8_isDoneLater 4 = .ok (.aload_n 0, 1) := dk_42 (dk_at dksX8_isDoneLater_0 4 rfl rfl)
theorem dX8_isDoneLater_5 : decode cX8_isDoneLater 5 = .ok (.iload_n 1, 1) := dk_27 (dk_at dksX8_isDoneLater_0 5 rfl rfl)
theorem dX8_isDoneLater_6 : decode cX8_isDoneLater 6 = .ok (.iconst 1, 1) := dk_4 (dk_at dksX8_isDoneLater_0 6 rfl rfl)
theorem dX8_isDoneLater_7 : decode cX8_isDoneLater 7 = .ok (.iload_n 2, 1) := dk_28 (dk_at dksX8_isDoneLater_0 7 rfl rfl)
theorem dX8_isDoneLater_8 : decode cX8_isDoneLater 8 = .ok (.invokevirtual 437, 3) := dk_182 1 181 (dk_at dksX8_isDoneLater_0 8 rfl rfl)
theorem dX8_isDoneLater_11 : decode cX8_isDoneLater 11 = .ok (.aload_n 0, 1) := dk_42 (dk_at dksX8_isDoneLater_0 11 rfl rfl)
theorem dX8_isDoneLater_12 : decode cX8_isDoneLater 12 = .ok (.iload_n 1, 1) := dk_27 (dk_at dksX8_isDoneLater_0 12 rfl rfl)
theorem dX8_isDoneLater_13 : decode cX8_isDoneLater 13 = .ok (.invokevirtual 466, 3) := dk_182 1 210 (dk_at dksX8_isDoneLater_0 13 rfl rfl)
theorem dX8_isDoneLater_16 : decode cX8_isDoneLater 16 = .ok (.aload_n 0, 1) := dk_42 (dk_at dksX8_isDoneLater_0 16 rfl rfl)
theorem dX8_isDoneLater_17 : decode cX8_isDoneLater 17 = .ok (.iload_n 1, 1) := dk_27 (dk_at dksX8_isDoneLater_0 17 rfl rfl)
theorem dX8_isDoneLater_18 : decode cX8_isDoneLater 18 = .ok (.invokevirtual 402, 3) := dk_182 1 146 (dk_at dksX8_isDoneLater_0 18 rfl rfl)
theorem dX8_isDoneLater_21 : decode cX8_isDoneLater 21 = .ok (.iconst 1, 1) := dk_4 (dk_at dksX8_isDoneLater_0 21 rfl rfl)
theorem dX8_isDoneLater_22 : decode cX8_isDoneLater 22 = .ok (.if_icmp .ne 7, 3) := dk_160 0 7 (dk_at dksX8_isDoneLater_1 0 rfl rfl)
theorem dX8_isDoneLater_25 : decode cX8_isDoneLater 25 = .ok (.iconst 1, 1) := dk_4 (dk_at dksX8_isDoneLater_1 3 rfl rfl)
theorem dX8_isDoneLater_26 : decode cX8_isDoneLater 26 = .ok (.goto 4, 3) := dk_167 0 4 (dk_at dksX8_isDoneLater_1 4 rfl rfl)
theorem dX8_isDoneLater_29 : decode cX8_isDoneLater 29 = .ok (.iconst 0, 1) := dk_3 (dk_at dksX8_isDoneLater_1 7 rfl rfl)
theorem dX8_isDoneLater_30 : decode cX8_isDoneLater 30 = .ok (.istore_n 3, 1) := dk_62 (dk_at dksX8_isDoneLater_1 8 rfl rfl)
theorem dX8_isDoneLater_31 : decode cX8_isDoneLater 31 = .ok (.aload_n 0, 1) := dk_42 (dk_at dksX8_isDoneLater_1 9 rfl rfl)
theorem dX8_isDoneLater_32 : decode cX8_isDoneLater 32 = .ok (.invokevirtual 456, 3) := dk_182 1 200 (dk_at dksX8_isDoneLater_1 10 rfl rfl)
theorem dX8_isDoneLater_35 : decode cX8_isDoneLater 35 = .ok (.iload_n 3, 1) := dk_29 (dk_at dksX8_isDoneLater_1 13 rfl rfl)
theorem dX8_isDoneLater_36 : decode cX8_isDoneLater 36 = .ok (.ireturn, 1) := dk_172 (dk_at dksX8_isDoneLater_1 14 rfl rfl)
abbrev cX8_playsUntil : ByteArray := prog_13_method_87_code
def yX8_playsUntil : MethodName := ⟨RX8, "playsUntil", "(I)V"⟩
def dkwX8_playsUntil_1 : List UInt8 := [28, 182, 1, 140, 132, 2, 1, 167, 255, 231, 177]
abbrev dktX8_playsUntil_1 : List UInt8 := dkwX8_playsUntil_1 ++ []
def dkwX8_playsUntil_0 : List UInt8 := [42, 182, 1, 134, 3, 61, 28, 17, 5, 160, 162, 0, 24, 42, 180, 0, 55, 27, 46, 8, 162, 0, 14, 42]
abbrev dktX8_playsUntil_0 : List UInt8 := dkwX8_playsUntil_0 ++ dktX8_playsUntil_1
theorem dksX8_playsUntil_0 : cX8_playsUntil.data.toList.drop 0 = dktX8_playsUntil_0 := by decide +kernel
theorem dksX8_playsUntil_1 : cX8_playsUntil.data.toList.drop 24 = dktX8_playsUntil_1 := dk_seg dksX8_playsUntil_0 24 rfl rfl
theorem dX8_playsUntil_0 : decode cX8_playsUntil 0 = .ok (.aload_n 0, 1) := dk_42 (dk_at dksX8_playsUntil_0 0 rfl rfl)
theorem dX8_playsUntil_1 : decode cX8_playsUntil 1 = .ok (.invokevirtual 390, 3) := dk_182 1 134 (dk_at dksX8_playsUntil_0 1 rfl rfl)
theorem dX8_playsUntil_4 : decode cX8_playsUntil 4 = .ok (.iconst 0, 1) := dk_3 (dk_at dksX8_playsUntil_0 4 rfl rfl)
theorem dX8_playsUntil_5 : decode cX8_playsUntil 5 = .ok (.istore_n 2, 1) := dk_61 (dk_at dksX8_playsUntil_0 5 rfl rfl)
theorem dX8_playsUntil_6 : decode cX8_playsUntil 6 = .ok (.iload_n 2, 1) := dk_28 (dk_at dksX8_playsUntil_0 6 rfl rfl)
theorem dX8_playsUntil_7 : decode cX8_playsUntil 7 = .ok (.sipush 1440, 3) := dk_17 5 160 (dk_at dksX8_playsUntil_0 7 rfl rfl)
theorem dX8_playsUntil_10 : decode cX8_playsUntil 10 = .ok (.if_icmp .ge 24, 3) := dk_162 0 24 (dk_at dksX8_playsUntil_0 10 rfl rfl)
theorem dX8_playsUntil_13 : decode cX8_playsUntil 13 = .ok (.aload_n 0, 1) := dk_42 (dk_at dksX8_playsUntil_0 13 rfl rfl)
theorem dX8_playsUntil_14 : decode cX8_playsUntil 14 = .ok (.getfield 55, 3) := dk_180 0 55 (dk_at dksX8_playsUntil_0 14 rfl rfl)
theorem dX8_playsUntil_17 : decode cX8_playsUntil 17 = .ok (.iload_n 1, 1) := dk_27 (dk_at dksX8_playsUntil_0 17 rfl rfl)
theorem dX8_playsUntil_18 : decode cX8_playsUntil 18 = .ok (.iaload, 1) := dk_46 (dk_at dksX8_playsUntil_0 18 rfl rfl)
theorem dX8_playsUntil_19 : decode cX8_playsUntil 19 = .ok (.iconst 5, 1) := dk_8 (dk_at dksX8_playsUntil_0 19 rfl rfl)
theorem dX8_playsUntil_20 : decode cX8_playsUntil 20 = .ok (.if_icmp .ge 14, 3) := dk_162 0 14 (dk_at dksX8_playsUntil_0 20 rfl rfl)
theorem dX8_playsUntil_23 : decode cX8_playsUntil 23 = .ok (.aload_n 0, 1) := dk_42 (dk_at dksX8_playsUntil_0 23 rfl rfl)
theorem dX8_playsUntil_24 : decode cX8_playsUntil 24 = .ok (.iload_n 2, 1) := dk_28 (dk_at dksX8_playsUntil_1 0 rfl rfl)
theorem dX8_playsUntil_25 : decode cX8_playsUntil 25 = .ok (.invokevirtual 396, 3) := dk_182 1 140 (dk_at dksX8_playsUntil_1 1 rfl rfl)
theorem dX8_playsUntil_28 : decode cX8_playsUntil 28 = .ok (.iinc 2 1, 3) := dk_132 2 1 (dk_at dksX8_playsUntil_1 4 rfl rfl)
theorem dX8_playsUntil_31 : decode cX8_playsUntil 31 = .ok (.goto (-25), 3) := dk_167 255 231 (dk_at dksX8_playsUntil_1 7 rfl rfl)
theorem dX8_playsUntil_34 : decode cX8_playsUntil 34 = .ok (.return_, 1) := dk_177 (dk_at dksX8_playsUntil_1 10 rfl rfl)
abbrev cX8_bestPolicy : ByteArray := prog_13_method_124_code
def yX8_bestPolicy : MethodName := ⟨RX8, "bestPolicy", "()I"⟩
def dkwX8_bestPolicy_2 : List UInt8 := [60, 42, 182, 1, 200, 132, 2, 1, 167, 255, 211, 27, 172]
abbrev dktX8_bestPolicy_2 : List UInt8 := dkwX8_bestPolicy_2 ++ []
def dkwX8_bestPolicy_1 : List UInt8 := [182, 1, 203, 42, 182, 1, 149, 27, 2, 159, 0, 10, 42, 182, 1, 194, 153, 0, 9, 42, 182, 1, 197, 28]
abbrev dktX8_bestPolicy_1 : List UInt8 := dkwX8_bestPolicy_1 ++ dktX8_bestPolicy_2
def dkwX8_bestPolicy_0 : List UInt8 := [42, 3, 181, 0, 137, 2, 60, 3, 61, 28, 6, 162, 0, 46, 42, 182, 1, 188, 42, 16, 7, 28]
abbrev dktX8_bestPolicy_0 : List UInt8 := dkwX8_bestPolicy_0 ++ dktX8_bestPolicy_1
theorem dksX8_bestPolicy_0 : cX8_bestPolicy.data.toList.drop 0 = dktX8_bestPolicy_0 := by decide +kernel
theorem dksX8_bestPolicy_1 : cX8_bestPolicy.data.toList.drop 22 = dktX8_bestPolicy_1 := dk_seg dksX8_bestPolicy_0 22 rfl rfl
theorem dksX8_bestPolicy_2 : cX8_bestPolicy.data.toList.drop 46 = dktX8_bestPolicy_2 := dk_seg dksX8_bestPolicy_1 24 rfl rfl
theorem dX8_bestPolicy_0 : decode cX8_bestPolicy 0 = .ok (.aload_n 0, 1) := dk_42 (dk_at dksX8_bestPolicy_0 0 rfl rfl)
theorem dX8_bestPolicy_1 : decode cX8_bestPolicy 1 = .ok (.iconst 0, 1) := dk_3 (dk_at dksX8_bestPolicy_0 1 rfl rfl)
theorem dX8_bestPolicy_2 : decode cX8_bestPolicy 2 = .ok (.putfield 137, 3) := dk_181 0 137 (dk_at dksX8_bestPolicy_0 2 rfl rfl)
theorem dX8_bestPolicy_5 : decode cX8_bestPolicy 5 = .ok (.iconst (-1), 1) := dk_2 (dk_at dksX8_bestPolicy_0 5 rfl rfl)
theorem dX8_bestPolicy_6 : decode cX8_bestPolicy 6 = .ok (.istore_n 1, 1) := dk_60 (dk_at dksX8_bestPolicy_0 6 rfl rfl)
theorem dX8_bestPolicy_7 : decode cX8_bestPolicy 7 = .ok (.iconst 0, 1) := dk_3 (dk_at dksX8_bestPolicy_0 7 rfl rfl)
theorem dX8_bestPolicy_8 : decode cX8_bestPolicy 8 = .ok (.istore_n 2, 1) := dk_61 (dk_at dksX8_bestPolicy_0 8 rfl rfl)
theorem dX8_bestPolicy_9 : decode cX8_bestPolicy 9 = .ok (.iload_n 2, 1) := dk_28 (dk_at dksX8_bestPolicy_0 9 rfl rfl)
theorem dX8_bestPolicy_10 : decode cX8_bestPolicy 10 = .ok (.iconst 3, 1) := dk_6 (dk_at dksX8_bestPolicy_0 10 rfl rfl)
theorem dX8_bestPolicy_11 : decode cX8_bestPolicy 11 = .ok (.if_icmp .ge 46, 3) := dk_162 0 46 (dk_at dksX8_bestPolicy_0 11 rfl rfl)
theorem dX8_bestPolicy_14 : decode cX8_bestPolicy 14 = .ok (.aload_n 0, 1) := dk_42 (dk_at dksX8_bestPolicy_0 14 rfl rfl)
theorem dX8_bestPolicy_15 : decode cX8_bestPolicy 15 = .ok (.invokevirtual 444, 3) := dk_182 1 188 (dk_at dksX8_bestPolicy_0 15 rfl rfl)
theorem dX8_bestPolicy_18 : decode cX8_bestPolicy 18 = .ok (.aload_n 0, 1) := dk_42 (dk_at dksX8_bestPolicy_0 18 rfl rfl)
theorem dX8_bestPolicy_19 : decode cX8_bestPolicy 19 = .ok (.bipush 7, 2) := dk_16 7 (dk_at dksX8_bestPolicy_0 19 rfl rfl)
theorem dX8_bestPolicy_21 : decode cX8_bestPolicy 21 = .ok (.iload_n 2, 1) := dk_28 (dk_at dksX8_bestPolicy_0 21 rfl rfl)
theorem dX8_bestPolicy_22 : decode cX8_bestPolicy 22 = .ok (.invokevirtual 459, 3) := dk_182 1 203 (dk_at dksX8_bestPolicy_1 0 rfl rfl)
theorem dX8_bestPolicy_25 : decode cX8_bestPolicy 25 = .ok (.aload_n 0, 1) := dk_42 (dk_at dksX8_bestPolicy_1 3 rfl rfl)
theorem dX8_bestPolicy_26 : decode cX8_bestPolicy 26 = .ok (.invokevirtual 405, 3) := dk_182 1 149 (dk_at dksX8_bestPolicy_1 4 rfl rfl)
theorem dX8_bestPolicy_29 : decode cX8_bestPolicy 29 = .ok (.iload_n 1, 1) := dk_27 (dk_at dksX8_bestPolicy_1 7 rfl rfl)
theorem dX8_bestPolicy_30 : decode cX8_bestPolicy 30 = .ok (.iconst (-1), 1) := dk_2 (dk_at dksX8_bestPolicy_1 8 rfl rfl)
theorem dX8_bestPolicy_31 : decode cX8_bestPolicy 31 = .ok (.if_icmp .eq 10, 3) := dk_159 0 10 (dk_at dksX8_bestPolicy_1 9 rfl rfl)
theorem dX8_bestPolicy_34 : decode cX8_bestPolicy 34 = .ok (.aload_n 0, 1) := dk_42 (dk_at dksX8_bestPolicy_1 12 rfl rfl)
theorem dX8_bestPolicy_35 : decode cX8_bestPolicy 35 = .ok (.invokevirtual 450, 3) := dk_182 1 194 (dk_at dksX8_bestPolicy_1 13 rfl rfl)
theorem dX8_bestPolicy_38 : decode cX8_bestPolicy 38 = .ok (.ifCond .eq 9, 3) := dk_153 0 9 (dk_at dksX8_bestPolicy_1 16 rfl rfl)
theorem dX8_bestPolicy_41 : decode cX8_bestPolicy 41 = .ok (.aload_n 0, 1) := dk_42 (dk_at dksX8_bestPolicy_1 19 rfl rfl)
theorem dX8_bestPolicy_42 : decode cX8_bestPolicy 42 = .ok (.invokevirtual 453, 3) := dk_182 1 197 (dk_at dksX8_bestPolicy_1 20 rfl rfl)
theorem dX8_bestPolicy_45 : decode cX8_bestPolicy 45 = .ok (.iload_n 2, 1) := dk_28 (dk_at dksX8_bestPolicy_1 23 rfl rfl)
theorem dX8_bestPolicy_46 : decode cX8_bestPolicy 46 = .ok (.istore_n 1, 1) := dk_60 (dk_at dksX8_bestPolicy_2 0 rfl rfl)
theorem dX8_bestPolicy_47 : decode cX8_bestPolicy 47 = .ok (.aload_n 0, 1) := dk_42 (dk_at dksX8_bestPolicy_2 1 rfl rfl)
theorem dX8_bestPolicy_48 : decode cX8_bestPolicy 48 = .ok (.invokevirtual 456, 3) := dk_182 1 200 (dk_at dksX8_bestPolicy_2 2 rfl rfl)
theorem dX8_bestPolicy_51 : decode cX8_bestPolicy 51 = .ok (.iinc 2 1, 3) := dk_132 2 1 (dk_at dksX8_bestPolicy_2 5 rfl rfl)
theorem dX8_bestPolicy_54 : decode cX8_bestPolicy 54 = .ok (.goto (-45), 3) := dk_167 255 211 (dk_at dksX8_bestPolicy_2 8 rfl rfl)
theorem dX8_bestPolicy_57 : decode cX8_bestPolicy 57 = .ok (.iload_n 1, 1) := dk_27 (dk_at dksX8_bestPolicy_2 11 rfl rfl)
theorem dX8_bestPolicy_58 : decode cX8_bestPolicy 58 = .ok (.ireturn, 1) := dk_172 (dk_at dksX8_bestPolicy_2 12 rfl rfl)
abbrev cX8_undo : ByteArray := prog_13_method_127_code
def yX8_undo : MethodName := ⟨RX8, "undo", "()I"⟩
def dkwX8_undo_1 : List UInt8 := [100, 181, 0, 250, 42, 42, 42, 180, 0, 250, 182, 1, 216, 3, 182, 0, 246, 42, 180, 0, 250, 172]
abbrev dktX8_undo_1 : List UInt8 := dkwX8_undo_1 ++ []
def dkwX8_undo_0 : List UInt8 := [42, 3, 181, 0, 137, 42, 180, 0, 250, 154, 0, 9, 42, 4, 182, 0, 164, 172, 42, 89, 180, 0, 250, 4]
abbrev dktX8_undo_0 : List UInt8 := dkwX8_undo_0 ++ dktX8_undo_1
theorem dksX8_undo_0 : cX8_undo.data.toList.drop 0 = dktX8_undo_0 := by decide +kernel
theorem dksX8_undo_1 : cX8_undo.data.toList.drop 24 = dktX8_undo_1 := dk_seg dksX8_undo_0 24 rfl rfl
theorem dX8_undo_0 : decode cX8_undo 0 = .ok (.aload_n 0, 1) := dk_42 (dk_at dksX8_undo_0 0 rfl rfl)
theorem dX8_undo_1 : decode cX8_undo 1 = .ok (.iconst 0, 1) := dk_3 (dk_at dksX8_undo_0 1 rfl rfl)
theorem dX8_undo_2 : decode cX8_undo 2 = .ok (.putfield 137, 3) := dk_181 0 137 (dk_at dksX8_undo_0 2 rfl rfl)
theorem dX8_undo_5 : decode cX8_undo 5 = .ok (.aload_n 0, 1) := dk_42 (dk_at dksX8_undo_0 5 rfl rfl)
theorem dX8_undo_6 : decode cX8_undo 6 = .ok (.getfield 250, 3) := dk_180 0 250 (dk_at dksX8_undo_0 6 rfl rfl)
theorem dX8_undo_9 : decode cX8_undo 9 = .ok (.ifCond .ne 9, 3) := dk_154 0 9 (dk_at dksX8_undo_0 9 rfl rfl)
theorem dX8_undo_12 : decode cX8_undo 12 = .ok (.aload_n 0, 1) := dk_42 (dk_at dksX8_undo_0 12 rfl rfl)
theorem dX8_undo_13 : decode cX8_undo 13 = .ok (.iconst 1, 1) := dk_4 (dk_at dksX8_undo_0 13 rfl rfl)
theorem dX8_undo_14 : decode cX8_undo 14 = .ok (.invokevirtual 164, 3) := dk_182 0 164 (dk_at dksX8_undo_0 14 rfl rfl)
theorem dX8_undo_17 : decode cX8_undo 17 = .ok (.ireturn, 1) := dk_172 (dk_at dksX8_undo_0 17 rfl rfl)
theorem dX8_undo_18 : decode cX8_undo 18 = .ok (.aload_n 0, 1) := dk_42 (dk_at dksX8_undo_0 18 rfl rfl)
theorem dX8_undo_19 : decode cX8_undo 19 = .ok (.dup, 1) := dk_89 (dk_at dksX8_undo_0 19 rfl rfl)
theorem dX8_undo_20 : decode cX8_undo 20 = .ok (.getfield 250, 3) := dk_180 0 250 (dk_at dksX8_undo_0 20 rfl rfl)
theorem dX8_undo_23 : decode cX8_undo 23 = .ok (.iconst 1, 1) := dk_4 (dk_at dksX8_undo_0 23 rfl rfl)
theorem dX8_undo_24 : decode cX8_undo 24 = .ok (.isub, 1) := dk_100 (dk_at dksX8_undo_1 0 rfl rfl)
theorem dX8_undo_25 : decode cX8_undo 25 = .ok (.putfield 250, 3) := dk_181 0 250 (dk_at dksX8_undo_1 1 rfl rfl)
theorem dX8_undo_28 : decode cX8_undo 28 = .ok (.aload_n 0, 1) := dk_42 (dk_at dksX8_undo_1 4 rfl rfl)
theorem dX8_undo_29 : decode cX8_undo 29 = .ok (.aload_n 0, 1) := dk_42 (dk_at dksX8_undo_1 5 rfl rfl)
theorem dX8_undo_30 : decode cX8_undo 30 = .ok (.aload_n 0, 1) := dk_42 (dk_at dksX8_undo_1 6 rfl rfl)
theorem dX8_undo_31 : decode cX8_undo 31 = .ok (.getfield 250, 3) := dk_180 0 250 (dk_at dksX8_undo_1 7 rfl rfl)
theorem dX8_undo_34 : decode cX8_undo 34 = .ok (.invokevirtual 472, 3) := dk_182 1 216 (dk_at dksX8_undo_1 10 rfl rfl)
theorem dX8_undo_37 : decode cX8_undo 37 = .ok (.iconst 0, 1) := dk_3 (dk_at dksX8_undo_1 13 rfl rfl)
theorem dX8_undo_38 : decode cX8_undo 38 = .ok (.invokevirtual 246, 3) := dk_182 0 246 (dk_at dksX8_undo_1 14 rfl rfl)
theorem dX8_undo_41 : decode cX8_undo 41 = .ok (.aload_n 0, 1) := dk_42 (dk_at dksX8_undo_1 17 rfl rfl)
theorem dX8_undo_42 : decode cX8_undo 42 = .ok (.getfield 250, 3) := dk_180 0 250 (dk_at dksX8_undo_1 18 rfl rfl)
theorem dX8_undo_45 : decode cX8_undo 45 = .ok (.ireturn, 1) := dk_172 (dk_at dksX8_undo_1 21 rfl rfl)
abbrev cX8_slot : ByteArray := prog_13_method_125_code
def yX8_slot : MethodName := ⟨RX8, "slot", "(I)I"⟩
def dkwX8_slot_0 : List UInt8 := [5, 42, 180, 0, 253, 27, 96, 16, 10, 112, 96, 172]
abbrev dktX8_slot_0 : List UInt8 := dkwX8_slot_0 ++ []
theorem dksX8_slot_0 : cX8_slot.data.toList.drop 0 = dktX8_slot_0 := by decide +kernel
theorem dX8_slot_0 : decode cX8_slot 0 = .ok (.iconst 2, 1) := dk_5 (dk_at dksX8_slot_0 0 rfl rfl)
theorem dX8_slot_1 : decode cX8_slot 1 = .ok (.aload_n 0, 1) := dk_42 (dk_at dksX8_slot_0 1 rfl rfl)
theorem dX8_slot_2 : decode cX8_slot 2 = .ok (.getfield 253, 3) := dk_180 0 253 (dk_at dksX8_slot_0 2 rfl rfl)
theorem dX8_slot_5 : decode cX8_slot 5 = .ok (.iload_n 1, 1) := dk_27 (dk_at dksX8_slot_0 5 rfl rfl)
theorem dX8_slot_6 : decode cX8_slot 6 = .ok (.iadd, 1) := dk_96 (dk_at dksX8_slot_0 6 rfl rfl)
theorem dX8_slot_7 : decode cX8_slot 7 = .ok (.bipush 10, 2) := dk_16 10 (dk_at dksX8_slot_0 7 rfl rfl)
theorem dX8_slot_9 : decode cX8_slot 9 = .ok (.irem, 1) := dk_112 (dk_at dksX8_slot_0 9 rfl rfl)
theorem dX8_slot_10 : decode cX8_slot 10 = .ok (.iadd, 1) := dk_96 (dk_at dksX8_slot_0 10 rfl rfl)
theorem dX8_slot_11 : decode cX8_slot 11 = .ok (.ireturn, 1) := dk_172 (dk_at dksX8_slot_0 11 rfl rfl)
abbrev cX8_addBatch : ByteArray := prog_13_method_128_code
def yX8_addBatch : MethodName := ⟨RX8, "addBatch", "(III)I"⟩
def dkwX8_addBatch_4 : List UInt8 := [182, 1, 181, 42, 21, 4, 5, 29, 182, 1, 181, 21, 4, 172]
abbrev dktX8_addBatch_4 : List UInt8 := dkwX8_addBatch_4 ++ []
def dkwX8_addBatch_3 : List UInt8 := [42, 16, 8, 21, 4, 4, 96, 182, 1, 203, 42, 21, 4, 3, 27, 182, 1, 181, 42, 21, 4, 4, 28]
abbrev dktX8_addBatch_3 : List UInt8 := dkwX8_addBatch_3 ++ dktX8_addBatch_4
def dkwX8_addBatch_2 : List UInt8 := [182, 0, 147, 16, 20, 160, 0, 9, 42, 6, 182, 0, 164, 172, 42, 182, 1, 222, 42, 182, 0, 147, 54, 4]
abbrev dktX8_addBatch_2 : List UInt8 := dkwX8_addBatch_2 ++ dktX8_addBatch_3
def dkwX8_addBatch_1 : List UInt8 := [182, 0, 164, 172, 28, 3, 17, 3, 231, 184, 0, 151, 154, 0, 9, 42, 5, 182, 0, 164, 172, 42]
abbrev dktX8_addBatch_1 : List UInt8 := dkwX8_addBatch_1 ++ dktX8_addBatch_2
def dkwX8_addBatch_0 : List UInt8 := [42, 3, 181, 0, 137, 42, 27, 182, 1, 219, 153, 0, 11, 42, 29, 182, 1, 44, 154, 0, 9, 42, 4]
abbrev dktX8_addBatch_0 : List UInt8 := dkwX8_addBatch_0 ++ dktX8_addBatch_1
theorem dksX8_addBatch_0 : cX8_addBatch.data.toList.drop 0 = dktX8_addBatch_0 := by decide +kernel
theorem dksX8_addBatch_1 : cX8_addBatch.data.toList.drop 23 = dktX8_addBatch_1 := dk_seg dksX8_addBatch_0 23 rfl rfl
theorem dksX8_addBatch_2 : cX8_addBatch.data.toList.drop 45 = dktX8_addBatch_2 := dk_seg dksX8_addBatch_1 22 rfl rfl
theorem dksX8_addBatch_3 : cX8_addBatch.data.toList.drop 69 = dktX8_addBatch_3 := dk_seg dksX8_addBatch_2 24 rfl rfl
theorem dksX8_addBatch_4 : cX8_addBatch.data.toList.drop 92 = dktX8_addBatch_4 := dk_seg dksX8_addBatch_3 23 rfl rfl
theorem dX8_addBatch_0 : decode cX8_addBatch 0 = .ok (.aload_n 0, 1) := dk_42 (dk_at dksX8_addBatch_0 0 rfl rfl)
theorem dX8_addBatch_1 : decode cX8_addBatch 1 = .ok (.iconst 0, 1) := dk_3 (dk_at dksX8_addBatch_0 1 rfl rfl)
theorem dX8_addBatch_2 : decode cX8_addBatch 2 = .ok (.putfield 137, 3) := dk_181 0 137 (dk_at dksX8_addBatch_0 2 rfl rfl)
theorem dX8_addBatch_5 : decode cX8_addBatch 5 = .ok (.aload_n 0, 1) := dk_42 (dk_at dksX8_addBatch_0 5 rfl rfl)
theorem dX8_addBatch_6 : decode cX8_addBatch 6 = .ok (.iload_n 1, 1) := dk_27 (dk_at dksX8_addBatch_0 6 rfl rfl)
theorem dX8_addBatch_7 : decode cX8_addBatch 7 = .ok (.invokevirtual 475, 3) := dk_182 1 219 (dk_at dksX8_addBatch_0 7 rfl rfl)
theorem dX8_addBatch_10 : decode cX8_addBatch 10 = .ok (.ifCond .eq 11, 3) := dk_153 0 11 (dk_at dksX8_addBatch_0 10 rfl rfl)
theorem dX8_addBatch_13 : decode cX8_addBatch 13 = .ok (.aload_n 0, 1) := dk_42 (dk_at dksX8_addBatch_0 13 rfl rfl)
theorem dX8_addBatch_14 : decode cX8_addBatch 14 = .ok (.iload_n 3, 1) := dk_29 (dk_at dksX8_addBatch_0 14 rfl rfl)
theorem dX8_addBatch_15 : decode cX8_addBatch 15 = .ok (.invokevirtual 300, 3) := dk_182 1 44 (dk_at dksX8_addBatch_0 15 rfl rfl)
theorem dX8_addBatch_18 : decode cX8_addBatch 18 = .ok (.ifCond .ne 9, 3) := dk_154 0 9 (dk_at dksX8_addBatch_0 18 rfl rfl)
theorem dX8_addBatch_21 : decode cX8_addBatch 21 = .ok (.aload_n 0, 1) := dk_42 (dk_at dksX8_addBatch_0 21 rfl rfl)
theorem dX8_addBatch_22 : decode cX8_addBatch 22 = .ok (.iconst 1, 1) := dk_4 (dk_at dksX8_addBatch_0 22 rfl rfl)
theorem dX8_addBatch_23 : decode cX8_addBatch 23 = .ok (.invokevirtual 164, 3) := dk_182 0 164 (dk_at dksX8_addBatch_1 0 rfl rfl)
theorem dX8_addBatch_26 : decode cX8_addBatch 26 = .ok (.ireturn, 1) := dk_172 (dk_at dksX8_addBatch_1 3 rfl rfl)
theorem dX8_addBatch_27 : decode cX8_addBatch 27 = .ok (.iload_n 2, 1) := dk_28 (dk_at dksX8_addBatch_1 4 rfl rfl)
theorem dX8_addBatch_28 : decode cX8_addBatch 28 = .ok (.iconst 0, 1) := dk_3 (dk_at dksX8_addBatch_1 5 rfl rfl)
theorem dX8_addBatch_29 : decode cX8_addBatch 29 = .ok (.sipush 999, 3) := dk_17 3 231 (dk_at dksX8_addBatch_1 6 rfl rfl)
theorem dX8_addBatch_32 : decode cX8_addBatch 32 = .ok (.invokestatic 151, 3) := dk_184 0 151 (dk_at dksX8_addBatch_1 9 rfl rfl)
theorem dX8_addBatch_35 : decode cX8_addBatch 35 = .ok (.ifCond .ne 9, 3) := dk_154 0 9 (dk_at dksX8_addBatch_1 12 rfl rfl)
theorem dX8_addBatch_38 : decode cX8_addBatch 38 = .ok (.aload_n 0, 1) := dk_42 (dk_at dksX8_addBatch_1 15 rfl rfl)
theorem dX8_addBatch_39 : decode cX8_addBatch 39 = .ok (.iconst 2, 1) := dk_5 (dk_at dksX8_addBatch_1 16 rfl rfl)
theorem dX8_addBatch_40 : decode cX8_addBatch 40 = .ok (.invokevirtual 164, 3) := dk_182 0 164 (dk_at dksX8_addBatch_1 17 rfl rfl)
theorem dX8_addBatch_43 : decode cX8_addBatch 43 = .ok (.ireturn, 1) := dk_172 (dk_at dksX8_addBatch_1 20 rfl rfl)
theorem dX8_addBatch_44 : decode cX8_addBatch 44 = .ok (.aload_n 0, 1) := dk_42 (dk_at dksX8_addBatch_1 21 rfl rfl)
theorem dX8_addBatch_45 : decode cX8_addBatch 45 = .ok (.invokevirtual 147, 3) := dk_182 0 147 (dk_at dksX8_addBatch_2 0 rfl rfl)
theorem dX8_addBatch_48 : decode cX8_addBatch 48 = .ok (.bipush 20, 2) := dk_16 20 (dk_at dksX8_addBatch_2 3 rfl rfl)
theorem dX8_addBatch_50 : decode cX8_addBatch 50 = .ok (.if_icmp .ne 9, 3) := dk_160 0 9 (dk_at dksX8_addBatch_2 5 rfl rfl)
theorem dX8_addBatch_53 : decode cX8_addBatch 53 = .ok (.aload_n 0, 1) := dk_42 (dk_at dksX8_addBatch_2 8 rfl rfl)
theorem dX8_addBatch_54 : decode cX8_addBatch 54 = .ok (.iconst 3, 1) := dk_6 (dk_at dksX8_addBatch_2 9 rfl rfl)
theorem dX8_addBatch_55 : decode cX8_addBatch 55 = .ok (.invokevirtual 164, 3) := dk_182 0 164 (dk_at dksX8_addBatch_2 10 rfl rfl)
theorem dX8_addBatch_58 : decode cX8_addBatch 58 = .ok (.ireturn, 1) := dk_172 (dk_at dksX8_addBatch_2 13 rfl rfl)
theorem dX8_addBatch_59 : decode cX8_addBatch 59 = .ok (.aload_n 0, 1) := dk_42 (dk_at dksX8_addBatch_2 14 rfl rfl)
theorem dX8_addBatch_60 : decode cX8_addBatch 60 = .ok (.invokevirtual 478, 3) := dk_182 1 222 (dk_at dksX8_addBatch_2 15 rfl rfl)
theorem dX8_addBatch_63 : decode cX8_addBatch 63 = .ok (.aload_n 0, 1) := dk_42 (dk_at dksX8_addBatch_2 18 rfl rfl)
theorem dX8_addBatch_64 : decode cX8_addBatch 64 = .ok (.invokevirtual 147, 3) := dk_182 0 147 (dk_at dksX8_addBatch_2 19 rfl rfl)
theorem dX8_addBatch_67 : decode cX8_addBatch 67 = .ok (.istore 4, 2) := dk_54 4 (dk_at dksX8_addBatch_2 22 rfl rfl)
theorem dX8_addBatch_69 : decode cX8_addBatch 69 = .ok (.aload_n 0, 1) := dk_42 (dk_at dksX8_addBatch_3 0 rfl rfl)
theorem dX8_addBatch_70 : decode cX8_addBatch 70 = .ok (.bipush 8, 2) := dk_16 8 (dk_at dksX8_addBatch_3 1 rfl rfl)
theorem dX8_addBatch_72 : decode cX8_addBatch 72 = .ok (.iload 4, 2) := dk_21 4 (dk_at dksX8_addBatch_3 3 rfl rfl)
theorem dX8_addBatch_74 : decode cX8_addBatch 74 = .ok (.iconst 1, 1) := dk_4 (dk_at dksX8_addBatch_3 5 rfl rfl)
theorem dX8_addBatch_75 : decode cX8_addBatch 75 = .ok (.iadd, 1) := dk_96 (dk_at dksX8_addBatch_3 6 rfl rfl)
theorem dX8_addBatch_76 : decode cX8_addBatch 76 = .ok (.invokevirtual 459, 3) := dk_182 1 203 (dk_at dksX8_addBatch_3 7 rfl rfl)
theorem dX8_addBatch_79 : decode cX8_addBatch 79 = .ok (.aload_n 0, 1) := dk_42 (dk_at dksX8_addBatch_3 10 rfl rfl)
theorem dX8_addBatch_80 : decode cX8_addBatch 80 = .ok (.iload 4, 2) := dk_21 4 (dk_at dksX8_addBatch_3 11 rfl rfl)
theorem dX8_addBatch_82 : decode cX8_addBatch 82 = .ok (.iconst 0, 1) := dk_3 (dk_at dksX8_addBatch_3 13 rfl rfl)
theorem dX8_addBatch_83 : decode cX8_addBatch 83 = .ok (.iload_n 1, 1) := dk_27 (dk_at dksX8_addBatch_3 14 rfl rfl)
theorem dX8_addBatch_84 : decode cX8_addBatch 84 = .ok (.invokevirtual 437, 3) := dk_182 1 181 (dk_at dksX8_addBatch_3 15 rfl rfl)
theorem dX8_addBatch_87 : decode cX8_addBatch 87 = .ok (.aload_n 0, 1) := dk_42 (dk_at dksX8_addBatch_3 18 rfl rfl)
theorem dX8_addBatch_88 : decode cX8_addBatch 88 = .ok (.iload 4, 2) := dk_21 4 (dk_at dksX8_addBatch_3 19 rfl rfl)
theorem dX8_addBatch_90 : decode cX8_addBatch 90 = .ok (.iconst 1, 1) := dk_4 (dk_at dksX8_addBatch_3 21 rfl rfl)
theorem dX8_addBatch_91 : decode cX8_addBatch 91 = .ok (.iload_n 2, 1) := dk_28 (dk_at dksX8_addBatch_3 22 rfl rfl)
theorem dX8_addBatch_92 : decode cX8_addBatch 92 = .ok (.invokevirtual 437, 3) := dk_182 1 181 (dk_at dksX8_addBatch_4 0 rfl rfl)
theorem dX8_addBatch_95 : decode cX8_addBatch 95 = .ok (.aload_n 0, 1) := dk_42 (dk_at dksX8_addBatch_4 3 rfl rfl)
theorem dX8_addBatch_96 : decode cX8_addBatch 96 = .ok (.iload 4, 2) := dk_21 4 (dk_at dksX8_addBatch_4 4 rfl rfl)
theorem dX8_addBatch_98 : decode cX8_addBatch 98 = .ok (.iconst 2, 1) := dk_5 (dk_at dksX8_addBatch_4 6 rfl rfl)
theorem dX8_addBatch_99 : decode cX8_addBatch 99 = .ok (.iload_n 3, 1) := dk_29 (dk_at dksX8_addBatch_4 7 rfl rfl)
theorem dX8_addBatch_100 : decode cX8_addBatch 100 = .ok (.invokevirtual 437, 3) := dk_182 1 181 (dk_at dksX8_addBatch_4 8 rfl rfl)
theorem dX8_addBatch_103 : decode cX8_addBatch 103 = .ok (.iload 4, 2) := dk_21 4 (dk_at dksX8_addBatch_4 11 rfl rfl)
theorem dX8_addBatch_105 : decode cX8_addBatch 105 = .ok (.ireturn, 1) := dk_172 (dk_at dksX8_addBatch_4 13 rfl rfl)
abbrev cX8_isProduct : ByteArray := prog_13_method_11_code
def yX8_isProduct : MethodName := ⟨RX8, "isProduct", "(I)Z"⟩
def dkwX8_isProduct_0 : List UInt8 := [27, 3, 42, 180, 0, 155, 4, 100, 184, 0, 151, 172]
abbrev dktX8_isProduct_0 : List UInt8 := dkwX8_isProduct_0 ++ []
theorem dksX8_isProduct_0 : cX8_isProduct.data.toList.drop 0 = dktX8_isProduct_0 := by decide +kernel
theorem dX8_isProduct_0 : decode cX8_isProduct 0 = .ok (.iload_n 1, 1) := dk_27 (dk_at dksX8_isProduct_0 0 rfl rfl)
theorem dX8_isProduct_1 : decode cX8_isProduct 1 = .ok (.iconst 0, 1) := dk_3 (dk_at dksX8_isProduct_0 1 rfl rfl)
theorem dX8_isProduct_2 : decode cX8_isProduct 2 = .ok (.aload_n 0, 1) := dk_42 (dk_at dksX8_isProduct_0 2 rfl rfl)
theorem dX8_isProduct_3 : decode cX8_isProduct 3 = .ok (.getfield 155, 3) := dk_180 0 155 (dk_at dksX8_isProduct_0 3 rfl rfl)
theorem dX8_isProduct_6 : decode cX8_isProduct 6 = .ok (.iconst 1, 1) := dk_4 (dk_at dksX8_isProduct_0 6 rfl rfl)
theorem dX8_isProduct_7 : decode cX8_isProduct 7 = .ok (.isub, 1) := dk_100 (dk_at dksX8_isProduct_0 7 rfl rfl)
theorem dX8_isProduct_8 : decode cX8_isProduct 8 = .ok (.invokestatic 151, 3) := dk_184 0 151 (dk_at dksX8_isProduct_0 8 rfl rfl)
theorem dX8_isProduct_11 : decode cX8_isProduct 11 = .ok (.ireturn, 1) := dk_172 (dk_at dksX8_isProduct_0 11 rfl rfl)
abbrev cX8_keep : ByteArray := prog_13_method_126_code
def yX8_keep : MethodName := ⟨RX8, "keep", "()V"⟩
def dkwX8_keep_2 : List UInt8 := [180, 0, 250, 4, 96, 181, 0, 250, 177]
abbrev dktX8_keep_2 : List UInt8 := dkwX8_keep_2 ++ []
def dkwX8_keep_1 : List UInt8 := [180, 0, 250, 4, 100, 181, 0, 250, 42, 3, 42, 42, 180, 0, 250, 182, 1, 216, 182, 0, 246, 42, 89]
abbrev dktX8_keep_1 : List UInt8 := dkwX8_keep_1 ++ dktX8_keep_2
def dkwX8_keep_0 : List UInt8 := [42, 180, 0, 250, 16, 10, 160, 0, 26, 42, 42, 180, 0, 253, 4, 96, 16, 10, 112, 181, 0, 253, 42, 89]
abbrev dktX8_keep_0 : List UInt8 := dkwX8_keep_0 ++ dktX8_keep_1
theorem dksX8_keep_0 : cX8_keep.data.toList.drop 0 = dktX8_keep_0 := by decide +kernel
theorem dksX8_keep_1 : cX8_keep.data.toList.drop 24 = dktX8_keep_1 := dk_seg dksX8_keep_0 24 rfl rfl
theorem dksX8_keep_2 : cX8_keep.data.toList.drop 47 = dktX8_keep_2 := dk_seg dksX8_keep_1 23 rfl rfl
theorem dX8_keep_0 : decode cX8_keep 0 = .ok (.aload_n 0, 1) := dk_42 (dk_at dksX8_keep_0 0 rfl rfl)
theorem dX8_keep_1 : decode cX8_keep 1 = .ok (.getfield 250, 3) := dk_180 0 250 (dk_at dksX8_keep_0 1 rfl rfl)
theorem dX8_keep_4 : decode cX8_keep 4 = .ok (.bipush 10, 2) := dk_16 10 (dk_at dksX8_keep_0 4 rfl rfl)
theorem dX8_keep_6 : decode cX8_keep 6 = .ok (.if_icmp .ne 26, 3) := dk_160 0 26 (dk_at dksX8_keep_0 6 rfl rfl)
theorem dX8_keep_9 : decode cX8_keep 9 = .ok (.aload_n 0, 1) := dk_42 (dk_at dksX8_keep_0 9 rfl rfl)
theorem dX8_keep_10 : decode cX8_keep 10 = .ok (.aload_n 0, 1) := dk_42 (dk_at dksX8_keep_0 10 rfl rfl)
theorem dX8_keep_11 : decode cX8_keep 11 = .ok (.getfield 253, 3) := dk_180 0 253 (dk_at dksX8_keep_0 11 rfl rfl)
theorem dX8_keep_14 : decode cX8_keep 14 = .ok (.iconst 1, 1) := dk_4 (dk_at dksX8_keep_0 14 rfl rfl)
theorem dX8_keep_15 : decode cX8_keep 15 = .ok (.iadd, 1) := dk_96 (dk_at dksX8_keep_0 15 rfl rfl)
theorem dX8_keep_16 : decode cX8_keep 16 = .ok (.bipush 10, 2) := dk_16 10 (dk_at dksX8_keep_0 16 rfl rfl)
theorem dX8_keep_18 : decode cX8_keep 18 = .ok (.irem, 1) := dk_112 (dk_at dksX8_keep_0 18 rfl rfl)
theorem dX8_keep_19 : decode cX8_keep 19 = .ok (.putfield 253, 3) := dk_181 0 253 (dk_at dksX8_keep_0 19 rfl rfl)
theorem dX8_keep_22 : decode cX8_keep 22 = .ok (.aload_n 0, 1) := dk_42 (dk_at dksX8_keep_0 22 rfl rfl)
theorem dX8_keep_23 : decode cX8_keep 23 = .ok (.dup, 1) := dk_89 (dk_at dksX8_keep_0 23 rfl rfl)
theorem dX8_keep_24 : decode cX8_keep 24 = .ok (.getfield 250, 3) := dk_180 0 250 (dk_at dksX8_keep_1 0 rfl rfl)
theorem dX8_keep_27 : decode cX8_keep 27 = .ok (.iconst 1, 1) := dk_4 (dk_at dksX8_keep_1 3 rfl rfl)
theorem dX8_keep_28 : decode cX8_keep 28 = .ok (.isub, 1) := dk_100 (dk_at dksX8_keep_1 4 rfl rfl)
theorem dX8_keep_29 : decode cX8_keep 29 = .ok (.putfield 250, 3) := dk_181 0 250 (dk_at dksX8_keep_1 5 rfl rfl)
theorem dX8_keep_32 : decode cX8_keep 32 = .ok (.aload_n 0, 1) := dk_42 (dk_at dksX8_keep_1 8 rfl rfl)
theorem dX8_keep_33 : decode cX8_keep 33 = .ok (.iconst 0, 1) := dk_3 (dk_at dksX8_keep_1 9 rfl rfl)
theorem dX8_keep_34 : decode cX8_keep 34 = .ok (.aload_n 0, 1) := dk_42 (dk_at dksX8_keep_1 10 rfl rfl)
theorem dX8_keep_35 : decode cX8_keep 35 = .ok (.aload_n 0, 1) := dk_42 (dk_at dksX8_keep_1 11 rfl rfl)
theorem dX8_keep_36 : decode cX8_keep 36 = .ok (.getfield 250, 3) := dk_180 0 250 (dk_at dksX8_keep_1 12 rfl rfl)
theorem dX8_keep_39 : decode cX8_keep 39 = .ok (.invokevirtual 472, 3) := dk_182 1 216 (dk_at dksX8_keep_1 15 rfl rfl)
theorem dX8_keep_42 : decode cX8_keep 42 = .ok (.invokevirtual 246, 3) := dk_182 0 246 (dk_at dksX8_keep_1 18 rfl rfl)
theorem dX8_keep_45 : decode cX8_keep 45 = .ok (.aload_n 0, 1) := dk_42 (dk_at dksX8_keep_1 21 rfl rfl)
theorem dX8_keep_46 : decode cX8_keep 46 = .ok (.dup, 1) := dk_89 (dk_at dksX8_keep_1 22 rfl rfl)
theorem dX8_keep_47 : decode cX8_keep 47 = .ok (.getfield 250, 3) := dk_180 0 250 (dk_at dksX8_keep_2 0 rfl rfl)
theorem dX8_keep_50 : decode cX8_keep 50 = .ok (.iconst 1, 1) := dk_4 (dk_at dksX8_keep_2 3 rfl rfl)
theorem dX8_keep_51 : decode cX8_keep 51 = .ok (.iadd, 1) := dk_96 (dk_at dksX8_keep_2 4 rfl rfl)
theorem dX8_keep_52 : decode cX8_keep 52 = .ok (.putfield 250, 3) := dk_181 0 250 (dk_at dksX8_keep_2 5 rfl rfl)
theorem dX8_keep_55 : decode cX8_keep 55 = .ok (.return_, 1) := dk_177 (dk_at dksX8_keep_2 8 rfl rfl)
abbrev cX8_removeBatch : ByteArray := prog_13_method_129_code
def yX8_removeBatch : MethodName := ⟨RX8, "removeBatch", "(I)I"⟩
def dkwX8_removeBatch_2 : List UInt8 := [167, 255, 235, 42, 16, 8, 42, 182, 0, 147, 4, 100, 182, 1, 203, 42, 182, 0, 147, 172]
abbrev dktX8_removeBatch_2 : List UInt8 := dkwX8_removeBatch_2 ++ []
def dkwX8_removeBatch_1 : List UInt8 := [61, 28, 4, 96, 42, 182, 0, 147, 162, 0, 17, 42, 28, 28, 4, 96, 182, 1, 191, 132, 2, 1]
abbrev dktX8_removeBatch_1 : List UInt8 := dkwX8_removeBatch_1 ++ dktX8_removeBatch_2
def dkwX8_removeBatch_0 : List UInt8 := [42, 3, 181, 0, 137, 42, 27, 182, 1, 47, 154, 0, 9, 42, 4, 182, 0, 164, 172, 42, 182, 1, 222, 27]
abbrev dktX8_removeBatch_0 : List UInt8 := dkwX8_removeBatch_0 ++ dktX8_removeBatch_1
theorem dksX8_removeBatch_0 : cX8_removeBatch.data.toList.drop 0 = dktX8_removeBatch_0 := by decide +kernel
theorem dksX8_removeBatch_1 : cX8_removeBatch.data.toList.drop 24 = dktX8_removeBatch_1 := dk_seg dksX8_removeBatch_0 24 rfl rfl
theorem dksX8_removeBatch_2 : cX8_removeBatch.data.toList.drop 46 = dktX8_removeBatch_2 := dk_seg dksX8_removeBatch_1 22 rfl rfl
theorem dX8_removeBatch_0 : decode cX8_removeBatch 0 = .ok (.aload_n 0, 1) := dk_42 (dk_at dksX8_removeBatch_0 0 rfl rfl)
theorem dX8_removeBatch_1 : decode cX8_removeBatch 1 = .ok (.iconst 0, 1) := dk_3 (dk_at dksX8_removeBatch_0 1 rfl rfl)
theorem dX8_removeBatch_2 : decode cX8_removeBatch 2 = .ok (.putfield 137, 3) := dk_181 0 137 (dk_at dksX8_removeBatch_0 2 rfl rfl)
theorem dX8_removeBatch_5 : decode cX8_removeBatch 5 = .ok (.aload_n 0, 1) := dk_42 (dk_at dksX8_removeBatch_0 5 rfl rfl)
theorem dX8_removeBatch_6 : decode cX8_removeBatch 6 = .ok (.iload_n 1, 1) := dk_27 (dk_at dksX8_removeBatch_0 6 rfl rfl)
theorem dX8_removeBatch_7 : decode cX8_removeBatch 7 = .ok (.invokevirtual 303, 3) := dk_182 1 47 (dk_at dksX8_removeBatch_0 7 rfl rfl)
theorem dX8_removeBatch_10 : decode cX8_removeBatch 10 = .ok (.ifCond .ne 9, 3) := dk_154 0 9 (dk_at dksX8_removeBatch_0 10 rfl rfl)
theorem dX8_removeBatch_13 : decode cX8_removeBatch 13 = .ok (.aload_n 0, 1) := dk_42 (dk_at dksX8_removeBatch_0 13 rfl rfl)
theorem dX8_removeBatch_14 : decode cX8_removeBatch 14 = .ok (.iconst 1, 1) := dk_4 (dk_at dksX8_removeBatch_0 14 rfl rfl)
theorem dX8_removeBatch_15 : decode cX8_removeBatch 15 = .ok (.invokevirtual 164, 3) := dk_182 0 164 (dk_at dksX8_removeBatch_0 15 rfl rfl)
theorem dX8_removeBatch_18 : decode cX8_removeBatch 18 = .ok (.ireturn, 1) := dk_172 (dk_at dksX8_removeBatch_0 18 rfl rfl)
theorem dX8_removeBatch_19 : decode cX8_removeBatch 19 = .ok (.aload_n 0, 1) := dk_42 (dk_at dksX8_removeBatch_0 19 rfl rfl)
theorem dX8_removeBatch_20 : decode cX8_removeBatch 20 = .ok (.invokevirtual 478, 3) := dk_182 1 222 (dk_at dksX8_removeBatch_0 20 rfl rfl)
theorem dX8_removeBatch_23 : decode cX8_removeBatch 23 = .ok (.iload_n 1, 1) := dk_27 (dk_at dksX8_removeBatch_0 23 rfl rfl)
theorem dX8_removeBatch_24 : decode cX8_removeBatch 24 = .ok (.istore_n 2, 1) := dk_61 (dk_at dksX8_removeBatch_1 0 rfl rfl)
theorem dX8_removeBatch_25 : decode cX8_removeBatch 25 = .ok (.iload_n 2, 1) := dk_28 (dk_at dksX8_removeBatch_1 1 rfl rfl)
theorem dX8_removeBatch_26 : decode cX8_removeBatch 26 = .ok (.iconst 1, 1) := dk_4 (dk_at dksX8_removeBatch_1 2 rfl rfl)
theorem dX8_removeBatch_27 : decode cX8_removeBatch 27 = .ok (.iadd, 1) := dk_96 (dk_at dksX8_removeBatch_1 3 rfl rfl)
theorem dX8_removeBatch_28 : decode cX8_removeBatch 28 = .ok (.aload_n 0, 1) := dk_42 (dk_at dksX8_removeBatch_1 4 rfl rfl)
theorem dX8_removeBatch_29 : decode cX8_removeBatch 29 = .ok (.invokevirtual 147, 3) := dk_182 0 147 (dk_at dksX8_removeBatch_1 5 rfl rfl)
theorem dX8_removeBatch_32 : decode cX8_removeBatch 32 = .ok (.if_icmp .ge 17, 3) := dk_162 0 17 (dk_at dksX8_removeBatch_1 8 rfl rfl)
theorem dX8_removeBatch_35 : decode cX8_removeBatch 35 = .ok (.aload_n 0, 1) := dk_42 (dk_at dksX8_removeBatch_1 11 rfl rfl)
theorem dX8_removeBatch_36 : decode cX8_removeBatch 36 = .ok (.iload_n 2, 1) := dk_28 (dk_at dksX8_removeBatch_1 12 rfl rfl)
theorem dX8_removeBatch_37 : decode cX8_removeBatch 37 = .ok (.iload_n 2, 1) := dk_28 (dk_at dksX8_removeBatch_1 13 rfl rfl)
theorem dX8_removeBatch_38 : decode cX8_removeBatch 38 = .ok (.iconst 1, 1) := dk_4 (dk_at dksX8_removeBatch_1 14 rfl rfl)
theorem dX8_removeBatch_39 : decode cX8_removeBatch 39 = .ok (.iadd, 1) := dk_96 (dk_at dksX8_removeBatch_1 15 rfl rfl)
theorem dX8_removeBatch_40 : decode cX8_removeBatch 40 = .ok (.invokevirtual 447, 3) := dk_182 1 191 (dk_at dksX8_removeBatch_1 16 rfl rfl)
theorem dX8_removeBatch_43 : decode cX8_removeBatch 43 = .ok (.iinc 2 1, 3) := dk_132 2 1 (dk_at dksX8_removeBatch_1 19 rfl rfl)
theorem dX8_removeBatch_46 : decode cX8_removeBatch 46 = .ok (.goto (-21), 3) := dk_167 255 235 (dk_at dksX8_removeBatch_2 0 rfl rfl)
theorem dX8_removeBatch_49 : decode cX8_removeBatch 49 = .ok (.aload_n 0, 1) := dk_42 (dk_at dksX8_removeBatch_2 3 rfl rfl)
theorem dX8_removeBatch_50 : decode cX8_removeBatch 50 = .ok (.bipush 8, 2) := dk_16 8 (dk_at dksX8_removeBatch_2 4 rfl rfl)
theorem dX8_removeBatch_52 : decode cX8_removeBatch 52 = .ok (.aload_n 0, 1) := dk_42 (dk_at dksX8_removeBatch_2 6 rfl rfl)
theorem dX8_removeBatch_53 : decode cX8_removeBatch 53 = .ok (.invokevirtual 147, 3) := dk_182 0 147 (dk_at dksX8_removeBatch_2 7 rfl rfl)
theorem dX8_removeBatch_56 : decode cX8_removeBatch 56 = .ok (.iconst 1, 1) := dk_4 (dk_at dksX8_removeBatch_2 10 rfl rfl)
theorem dX8_removeBatch_57 : decode cX8_removeBatch 57 = .ok (.isub, 1) := dk_100 (dk_at dksX8_removeBatch_2 11 rfl rfl)
theorem dX8_removeBatch_58 : decode cX8_removeBatch 58 = .ok (.invokevirtual 459, 3) := dk_182 1 203 (dk_at dksX8_removeBatch_2 12 rfl rfl)
theorem dX8_removeBatch_61 : decode cX8_removeBatch 61 = .ok (.aload_n 0, 1) := dk_42 (dk_at dksX8_removeBatch_2 15 rfl rfl)
theorem dX8_removeBatch_62 : decode cX8_removeBatch 62 = .ok (.invokevirtual 147, 3) := dk_182 0 147 (dk_at dksX8_removeBatch_2 16 rfl rfl)
theorem dX8_removeBatch_65 : decode cX8_removeBatch 65 = .ok (.ireturn, 1) := dk_172 (dk_at dksX8_removeBatch_2 19 rfl rfl)
abbrev cX8_moveBatch : ByteArray := prog_13_method_130_code
def yX8_moveBatch : MethodName := ⟨RX8, "moveBatch", "(II)I"⟩
def dkwX8_moveBatch_3 : List UInt8 := [167, 255, 240, 27, 28, 184, 1, 83, 172]
abbrev dktX8_moveBatch_3 : List UInt8 := dkwX8_moveBatch_3 ++ []
def dkwX8_moveBatch_2 : List UInt8 := [132, 3, 1, 167, 255, 240, 27, 62, 29, 28, 164, 0, 17, 42, 29, 29, 4, 100, 182, 1, 191, 132, 3, 255]
abbrev dktX8_moveBatch_2 : List UInt8 := dkwX8_moveBatch_2 ++ dktX8_moveBatch_3
def dkwX8_moveBatch_1 : List UInt8 := [182, 0, 164, 172, 42, 182, 1, 222, 27, 62, 29, 28, 162, 0, 17, 42, 29, 29, 4, 96, 182, 1, 191]
abbrev dktX8_moveBatch_1 : List UInt8 := dkwX8_moveBatch_1 ++ dktX8_moveBatch_2
def dkwX8_moveBatch_0 : List UInt8 := [42, 3, 181, 0, 137, 42, 27, 182, 1, 47, 153, 0, 11, 42, 28, 182, 1, 47, 154, 0, 9, 42, 4]
abbrev dktX8_moveBatch_0 : List UInt8 := dkwX8_moveBatch_0 ++ dktX8_moveBatch_1
theorem dksX8_moveBatch_0 : cX8_moveBatch.data.toList.drop 0 = dktX8_moveBatch_0 := by decide +kernel
theorem dksX8_moveBatch_1 : cX8_moveBatch.data.toList.drop 23 = dktX8_moveBatch_1 := dk_seg dksX8_moveBatch_0 23 rfl rfl
theorem dksX8_moveBatch_2 : cX8_moveBatch.data.toList.drop 46 = dktX8_moveBatch_2 := dk_seg dksX8_moveBatch_1 23 rfl rfl
theorem dksX8_moveBatch_3 : cX8_moveBatch.data.toList.drop 70 = dktX8_moveBatch_3 := dk_seg dksX8_moveBatch_2 24 rfl rfl
theorem dX8_moveBatch_0 : decode cX8_moveBatch 0 = .ok (.aload_n 0, 1) := dk_42 (dk_at dksX8_moveBatch_0 0 rfl rfl)
theorem dX8_moveBatch_1 : decode cX8_moveBatch 1 = .ok (.iconst 0, 1) := dk_3 (dk_at dksX8_moveBatch_0 1 rfl rfl)
theorem dX8_moveBatch_2 : decode cX8_moveBatch 2 = .ok (.putfield 137, 3) := dk_181 0 137 (dk_at dksX8_moveBatch_0 2 rfl rfl)
theorem dX8_moveBatch_5 : decode cX8_moveBatch 5 = .ok (.aload_n 0, 1) := dk_42 (dk_at dksX8_moveBatch_0 5 rfl rfl)
theorem dX8_moveBatch_6 : decode cX8_moveBatch 6 = .ok (.iload_n 1, 1) := dk_27 (dk_at dksX8_moveBatch_0 6 rfl rfl)
theorem dX8_moveBatch_7 : decode cX8_moveBatch 7 = .ok (.invokevirtual 303, 3) := dk_182 1 47 (dk_at dksX8_moveBatch_0 7 rfl rfl)
theorem dX8_moveBatch_10 : decode cX8_moveBatch 10 = .ok (.ifCond .eq 11, 3) := dk_153 0 11 (dk_at dksX8_moveBatch_0 10 rfl rfl)
theorem dX8_moveBatch_13 : decode cX8_moveBatch 13 = .ok (.aload_n 0, 1) := dk_42 (dk_at dksX8_moveBatch_0 13 rfl rfl)
theorem dX8_moveBatch_14 : decode cX8_moveBatch 14 = .ok (.iload_n 2, 1) := dk_28 (dk_at dksX8_moveBatch_0 14 rfl rfl)
theorem dX8_moveBatch_15 : decode cX8_moveBatch 15 = .ok (.invokevirtual 303, 3) := dk_182 1 47 (dk_at dksX8_moveBatch_0 15 rfl rfl)
theorem dX8_moveBatch_18 : decode cX8_moveBatch 18 = .ok (.ifCond .ne 9, 3) := dk_154 0 9 (dk_at dksX8_moveBatch_0 18 rfl rfl)
theorem dX8_moveBatch_21 : decode cX8_moveBatch 21 = .ok (.aload_n 0, 1) := dk_42 (dk_at dksX8_moveBatch_0 21 rfl rfl)
theorem dX8_moveBatch_22 : decode cX8_moveBatch 22 = .ok (.iconst 1, 1) := dk_4 (dk_at dksX8_moveBatch_0 22 rfl rfl)
theorem dX8_moveBatch_23 : decode cX8_moveBatch 23 = .ok (.invokevirtual 164, 3) := dk_182 0 164 (dk_at dksX8_moveBatch_1 0 rfl rfl)
theorem dX8_moveBatch_26 : decode cX8_moveBatch 26 = .ok (.ireturn, 1) := dk_172 (dk_at dksX8_moveBatch_1 3 rfl rfl)
theorem dX8_moveBatch_27 : decode cX8_moveBatch 27 = .ok (.aload_n 0, 1) := dk_42 (dk_at dksX8_moveBatch_1 4 rfl rfl)
theorem dX8_moveBatch_28 : decode cX8_moveBatch 28 = .ok (.invokevirtual 478, 3) := dk_182 1 222 (dk_at dksX8_moveBatch_1 5 rfl rfl)
theorem dX8_moveBatch_31 : decode cX8_moveBatch 31 = .ok (.iload_n 1, 1) := dk_27 (dk_at dksX8_moveBatch_1 8 rfl rfl)
theorem dX8_moveBatch_32 : decode cX8_moveBatch 32 = .ok (.istore_n 3, 1) := dk_62 (dk_at dksX8_moveBatch_1 9 rfl rfl)
theorem dX8_moveBatch_33 : decode cX8_moveBatch 33 = .ok (.iload_n 3, 1) := dk_29 (dk_at dksX8_moveBatch_1 10 rfl rfl)
theorem dX8_moveBatch_34 : decode cX8_moveBatch 34 = .ok (.iload_n 2, 1) := dk_28 (dk_at dksX8_moveBatch_1 11 rfl rfl)
theorem dX8_moveBatch_35 : decode cX8_moveBatch 35 = .ok (.if_icmp .ge 17, 3) := dk_162 0 17 (dk_at dksX8_moveBatch_1 12 rfl rfl)
theorem dX8_moveBatch_38 : decode cX8_moveBatch 38 = .ok (.aload_n 0, 1) := dk_42 (dk_at dksX8_moveBatch_1 15 rfl rfl)
theorem dX8_moveBatch_39 : decode cX8_moveBatch 39 = .ok (.iload_n 3, 1) := dk_29 (dk_at dksX8_moveBatch_1 16 rfl rfl)
theorem dX8_moveBatch_40 : decode cX8_moveBatch 40 = .ok (.iload_n 3, 1) := dk_29 (dk_at dksX8_moveBatch_1 17 rfl rfl)
theorem dX8_moveBatch_41 : decode cX8_moveBatch 41 = .ok (.iconst 1, 1) := dk_4 (dk_at dksX8_moveBatch_1 18 rfl rfl)
theorem dX8_moveBatch_42 : decode cX8_moveBatch 42 = .ok (.iadd, 1) := dk_96 (dk_at dksX8_moveBatch_1 19 rfl rfl)
theorem dX8_moveBatch_43 : decode cX8_moveBatch 43 = .ok (.invokevirtual 447, 3) := dk_182 1 191 (dk_at dksX8_moveBatch_1 20 rfl rfl)
theorem dX8_moveBatch_46 : decode cX8_moveBatch 46 = .ok (.iinc 3 1, 3) := dk_132 3 1 (dk_at dksX8_moveBatch_2 0 rfl rfl)
theorem dX8_moveBatch_49 : decode cX8_moveBatch 49 = .ok (.goto (-16), 3) := dk_167 255 240 (dk_at dksX8_moveBatch_2 3 rfl rfl)
theorem dX8_moveBatch_52 : decode cX8_moveBatch 52 = .ok (.iload_n 1, 1) := dk_27 (dk_at dksX8_moveBatch_2 6 rfl rfl)
theorem dX8_moveBatch_53 : decode cX8_moveBatch 53 = .ok (.istore_n 3, 1) := dk_62 (dk_at dksX8_moveBatch_2 7 rfl rfl)
theorem dX8_moveBatch_54 : decode cX8_moveBatch 54 = .ok (.iload_n 3, 1) := dk_29 (dk_at dksX8_moveBatch_2 8 rfl rfl)
theorem dX8_moveBatch_55 : decode cX8_moveBatch 55 = .ok (.iload_n 2, 1) := dk_28 (dk_at dksX8_moveBatch_2 9 rfl rfl)
theorem dX8_moveBatch_56 : decode cX8_moveBatch 56 = .ok (.if_icmp .le 17, 3) := dk_164 0 17 (dk_at dksX8_moveBatch_2 10 rfl rfl)
theorem dX8_moveBatch_59 : decode cX8_moveBatch 59 = .ok (.aload_n 0, 1) := dk_42 (dk_at dksX8_moveBatch_2 13 rfl rfl)
theorem dX8_moveBatch_60 : decode cX8_moveBatch 60 = .ok (.iload_n 3, 1) := dk_29 (dk_at dksX8_moveBatch_2 14 rfl rfl)
theorem dX8_moveBatch_61 : decode cX8_moveBatch 61 = .ok (.iload_n 3, 1) := dk_29 (dk_at dksX8_moveBatch_2 15 rfl rfl)
theorem dX8_moveBatch_62 : decode cX8_moveBatch 62 = .ok (.iconst 1, 1) := dk_4 (dk_at dksX8_moveBatch_2 16 rfl rfl)
theorem dX8_moveBatch_63 : decode cX8_moveBatch 63 = .ok (.isub, 1) := dk_100 (dk_at dksX8_moveBatch_2 17 rfl rfl)
theorem dX8_moveBatch_64 : decode cX8_moveBatch 64 = .ok (.invokevirtual 447, 3) := dk_182 1 191 (dk_at dksX8_moveBatch_2 18 rfl rfl)
theorem dX8_moveBatch_67 : decode cX8_moveBatch 67 = .ok (.iinc 3 (-1), 3) := dk_132 3 255 (dk_at dksX8_moveBatch_2 21 rfl rfl)
theorem dX8_moveBatch_70 : decode cX8_moveBatch 70 = .ok (.goto (-16), 3) := dk_167 255 240 (dk_at dksX8_moveBatch_3 0 rfl rfl)
theorem dX8_moveBatch_73 : decode cX8_moveBatch 73 = .ok (.iload_n 1, 1) := dk_27 (dk_at dksX8_moveBatch_3 3 rfl rfl)
theorem dX8_moveBatch_74 : decode cX8_moveBatch 74 = .ok (.iload_n 2, 1) := dk_28 (dk_at dksX8_moveBatch_3 4 rfl rfl)
theorem dX8_moveBatch_75 : decode cX8_moveBatch 75 = .ok (.invokestatic 339, 3) := dk_184 1 83 (dk_at dksX8_moveBatch_3 5 rfl rfl)
theorem dX8_moveBatch_78 : decode cX8_moveBatch 78 = .ok (.ireturn, 1) := dk_172 (dk_at dksX8_moveBatch_3 8 rfl rfl)
abbrev cX8_setStart : ByteArray := prog_13_method_131_code
def yX8_setStart : MethodName := ⟨RX8, "setStart", "(II)I"⟩
def dkwX8_setStart_2 : List UInt8 := [27, 4, 28, 182, 1, 181, 29, 172]
abbrev dktX8_setStart_2 : List UInt8 := dkwX8_setStart_2 ++ []
def dkwX8_setStart_1 : List UInt8 := [184, 0, 151, 154, 0, 9, 42, 5, 182, 0, 164, 172, 42, 182, 1, 222, 42, 27, 4, 182, 1, 50, 62, 42]
abbrev dktX8_setStart_1 : List UInt8 := dkwX8_setStart_1 ++ dktX8_setStart_2
def dkwX8_setStart_0 : List UInt8 := [42, 3, 181, 0, 137, 42, 27, 182, 1, 47, 154, 0, 9, 42, 4, 182, 0, 164, 172, 28, 3, 17, 3, 231]
abbrev dktX8_setStart_0 : List UInt8 := dkwX8_setStart_0 ++ dktX8_setStart_1
theorem dksX8_setStart_0 : cX8_setStart.data.toList.drop 0 = dktX8_setStart_0 := by decide +kernel
theorem dksX8_setStart_1 : cX8_setStart.data.toList.drop 24 = dktX8_setStart_1 := dk_seg dksX8_setStart_0 24 rfl rfl
theorem dksX8_setStart_2 : cX8_setStart.data.toList.drop 48 = dktX8_setStart_2 := dk_seg dksX8_setStart_1 24 rfl rfl
theorem dX8_setStart_0 : decode cX8_setStart 0 = .ok (.aload_n 0, 1) := dk_42 (dk_at dksX8_setStart_0 0 rfl rfl)
theorem dX8_setStart_1 : decode cX8_setStart 1 = .ok (.iconst 0, 1) := dk_3 (dk_at dksX8_setStart_0 1 rfl rfl)
theorem dX8_setStart_2 : decode cX8_setStart 2 = .ok (.putfield 137, 3) := dk_181 0 137 (dk_at dksX8_setStart_0 2 rfl rfl)
theorem dX8_setStart_5 : decode cX8_setStart 5 = .ok (.aload_n 0, 1) := dk_42 (dk_at dksX8_setStart_0 5 rfl rfl)
theorem dX8_setStart_6 : decode cX8_setStart 6 = .ok (.iload_n 1, 1) := dk_27 (dk_at dksX8_setStart_0 6 rfl rfl)
theorem dX8_setStart_7 : decode cX8_setStart 7 = .ok (.invokevirtual 303, 3) := dk_182 1 47 (dk_at dksX8_setStart_0 7 rfl rfl)
theorem dX8_setStart_10 : decode cX8_setStart 10 = .ok (.ifCond .ne 9, 3) := dk_154 0 9 (dk_at dksX8_setStart_0 10 rfl rfl)
theorem dX8_setStart_13 : decode cX8_setStart 13 = .ok (.aload_n 0, 1) := dk_42 (dk_at dksX8_setStart_0 13 rfl rfl)
theorem dX8_setStart_14 : decode cX8_setStart 14 = .ok (.iconst 1, 1) := dk_4 (dk_at dksX8_setStart_0 14 rfl rfl)
theorem dX8_setStart_15 : decode cX8_setStart 15 = .ok (.invokevirtual 164, 3) := dk_182 0 164 (dk_at dksX8_setStart_0 15 rfl rfl)
theorem dX8_setStart_18 : decode cX8_setStart 18 = .ok (.ireturn, 1) := dk_172 (dk_at dksX8_setStart_0 18 rfl rfl)
theorem dX8_setStart_19 : decode cX8_setStart 19 = .ok (.iload_n 2, 1) := dk_28 (dk_at dksX8_setStart_0 19 rfl rfl)
theorem dX8_setStart_20 : decode cX8_setStart 20 = .ok (.iconst 0, 1) := dk_3 (dk_at dksX8_setStart_0 20 rfl rfl)
theorem dX8_setStart_21 : decode cX8_setStart 21 = .ok (.sipush 999, 3) := dk_17 3 231 (dk_at dksX8_setStart_0 21 rfl rfl)
theorem dX8_setStart_24 : decode cX8_setStart 24 = .ok (.invokestatic 151, 3) := dk_184 0 151 (dk_at dksX8_setStart_1 0 rfl rfl)
theorem dX8_setStart_27 : decode cX8_setStart 27 = .ok (.ifCond .ne 9, 3) := dk_154 0 9 (dk_at dksX8_setStart_1 3 rfl rfl)
theorem dX8_setStart_30 : decode cX8_setStart 30 = .ok (.aload_n 0, 1) := dk_42 (dk_at dksX8_setStart_1 6 rfl rfl)
theorem dX8_setStart_31 : decode cX8_setStart 31 = .ok (.iconst 2, 1) := dk_5 (dk_at dksX8_setStart_1 7 rfl rfl)
theorem dX8_setStart_32 : decode cX8_setStart 32 = .ok (.invokevirtual 164, 3) := dk_182 0 164 (dk_at dksX8_setStart_1 8 rfl rfl)
theorem dX8_setStart_35 : decode cX8_setStart 35 = .ok (.ireturn, 1) := dk_172 (dk_at dksX8_setStart_1 11 rfl rfl)
theorem dX8_setStart_36 : decode cX8_setStart 36 = .ok (.aload_n 0, 1) := dk_42 (dk_at dksX8_setStart_1 12 rfl rfl)
theorem dX8_setStart_37 : decode cX8_setStart 37 = .ok (.invokevirtual 478, 3) := dk_182 1 222 (dk_at dksX8_setStart_1 13 rfl rfl)
theorem dX8_setStart_40 : decode cX8_setStart 40 = .ok (.aload_n 0, 1) := dk_42 (dk_at dksX8_setStart_1 16 rfl rfl)
theorem dX8_setStart_41 : decode cX8_setStart 41 = .ok (.iload_n 1, 1) := dk_27 (dk_at dksX8_setStart_1 17 rfl rfl)
theorem dX8_setStart_42 : decode cX8_setStart 42 = .ok (.iconst 1, 1) := dk_4 (dk_at dksX8_setStart_1 18 rfl rfl)
theorem dX8_setStart_43 : decode cX8_setStart 43 = .ok (.invokevirtual 306, 3) := dk_182 1 50 (dk_at dksX8_setStart_1 19 rfl rfl)
theorem dX8_setStart_46 : decode cX8_setStart 46 = .ok (.istore_n 3, 1) := dk_62 (dk_at dksX8_setStart_1 22 rfl rfl)
theorem dX8_setStart_47 : decode cX8_setStart 47 = .ok (.aload_n 0, 1) := dk_42 (dk_at dksX8_setStart_1 23 rfl rfl)
theorem dX8_setStart_48 : decode cX8_setStart 48 = .ok (.iload_n 1, 1) := dk_27 (dk_at dksX8_setStart_2 0 rfl rfl)
theorem dX8_setStart_49 : decode cX8_setStart 49 = .ok (.iconst 1, 1) := dk_4 (dk_at dksX8_setStart_2 1 rfl rfl)
theorem dX8_setStart_50 : decode cX8_setStart 50 = .ok (.iload_n 2, 1) := dk_28 (dk_at dksX8_setStart_2 2 rfl rfl)
theorem dX8_setStart_51 : decode cX8_setStart 51 = .ok (.invokevirtual 437, 3) := dk_182 1 181 (dk_at dksX8_setStart_2 3 rfl rfl)
theorem dX8_setStart_54 : decode cX8_setStart 54 = .ok (.iload_n 3, 1) := dk_29 (dk_at dksX8_setStart_2 6 rfl rfl)
theorem dX8_setStart_55 : decode cX8_setStart 55 = .ok (.ireturn, 1) := dk_172 (dk_at dksX8_setStart_2 7 rfl rfl)
abbrev cX8_setWave : ByteArray := prog_13_method_132_code
def yX8_setWave : MethodName := ⟨RX8, "setWave", "(II)I"⟩
def dkwX8_setWave_1 : List UInt8 := [182, 0, 164, 172, 42, 182, 1, 222, 42, 27, 5, 182, 1, 50, 62, 42, 27, 5, 28, 182, 1, 181, 29, 172]
abbrev dktX8_setWave_1 : List UInt8 := dkwX8_setWave_1 ++ []
def dkwX8_setWave_0 : List UInt8 := [42, 3, 181, 0, 137, 42, 27, 182, 1, 47, 153, 0, 11, 42, 28, 182, 1, 44, 154, 0, 9, 42, 4]
abbrev dktX8_setWave_0 : List UInt8 := dkwX8_setWave_0 ++ dktX8_setWave_1
theorem dksX8_setWave_0 : cX8_setWave.data.toList.drop 0 = dktX8_setWave_0 := by decide +kernel
theorem dksX8_setWave_1 : cX8_setWave.data.toList.drop 23 = dktX8_setWave_1 := dk_seg dksX8_setWave_0 23 rfl rfl
theorem dX8_setWave_0 : decode cX8_setWave 0 = .ok (.aload_n 0, 1) := dk_42 (dk_at dksX8_setWave_0 0 rfl rfl)
theorem dX8_setWave_1 : decode cX8_setWave 1 = .ok (.iconst 0, 1) := dk_3 (dk_at dksX8_setWave_0 1 rfl rfl)
theorem dX8_setWave_2 : decode cX8_setWave 2 = .ok (.putfield 137, 3) := dk_181 0 137 (dk_at dksX8_setWave_0 2 rfl rfl)
theorem dX8_setWave_5 : decode cX8_setWave 5 = .ok (.aload_n 0, 1) := dk_42 (dk_at dksX8_setWave_0 5 rfl rfl)
theorem dX8_setWave_6 : decode cX8_setWave 6 = .ok (.iload_n 1, 1) := dk_27 (dk_at dksX8_setWave_0 6 rfl rfl)
theorem dX8_setWave_7 : decode cX8_setWave 7 = .ok (.invokevirtual 303, 3) := dk_182 1 47 (dk_at dksX8_setWave_0 7 rfl rfl)
theorem dX8_setWave_10 : decode cX8_setWave 10 = .ok (.ifCond .eq 11, 3) := dk_153 0 11 (dk_at dksX8_setWave_0 10 rfl rfl)
theorem dX8_setWave_13 : decode cX8_setWave 13 = .ok (.aload_n 0, 1) := dk_42 (dk_at dksX8_setWave_0 13 rfl rfl)
theorem dX8_setWave_14 : decode cX8_setWave 14 = .ok (.iload_n 2, 1) := dk_28 (dk_at dksX8_setWave_0 14 rfl rfl)
theorem dX8_setWave_15 : decode cX8_setWave 15 = .ok (.invokevirtual 300, 3) := dk_182 1 44 (dk_at dksX8_setWave_0 15 rfl rfl)
theorem dX8_setWave_18 : decode cX8_setWave 18 = .ok (.ifCond .ne 9, 3) := dk_154 0 9 (dk_at dksX8_setWave_0 18 rfl rfl)
theorem dX8_setWave_21 : decode cX8_setWave 21 = .ok (.aload_n 0, 1) := dk_42 (dk_at dksX8_setWave_0 21 rfl rfl)
theorem dX8_setWave_22 : decode cX8_setWave 22 = .ok (.iconst 1, 1) := dk_4 (dk_at dksX8_setWave_0 22 rfl rfl)
theorem dX8_setWave_23 : decode cX8_setWave 23 = .ok (.invokevirtual 164, 3) := dk_182 0 164 (dk_at dksX8_setWave_1 0 rfl rfl)
theorem dX8_setWave_26 : decode cX8_setWave 26 = .ok (.ireturn, 1) := dk_172 (dk_at dksX8_setWave_1 3 rfl rfl)
theorem dX8_setWave_27 : decode cX8_setWave 27 = .ok (.aload_n 0, 1) := dk_42 (dk_at dksX8_setWave_1 4 rfl rfl)
theorem dX8_setWave_28 : decode cX8_setWave 28 = .ok (.invokevirtual 478, 3) := dk_182 1 222 (dk_at dksX8_setWave_1 5 rfl rfl)
theorem dX8_setWave_31 : decode cX8_setWave 31 = .ok (.aload_n 0, 1) := dk_42 (dk_at dksX8_setWave_1 8 rfl rfl)
theorem dX8_setWave_32 : decode cX8_setWave 32 = .ok (.iload_n 1, 1) := dk_27 (dk_at dksX8_setWave_1 9 rfl rfl)
theorem dX8_setWave_33 : decode cX8_setWave 33 = .ok (.iconst 2, 1) := dk_5 (dk_at dksX8_setWave_1 10 rfl rfl)
theorem dX8_setWave_34 : decode cX8_setWave 34 = .ok (.invokevirtual 306, 3) := dk_182 1 50 (dk_at dksX8_setWave_1 11 rfl rfl)
theorem dX8_setWave_37 : decode cX8_setWave 37 = .ok (.istore_n 3, 1) := dk_62 (dk_at dksX8_setWave_1 14 rfl rfl)
theorem dX8_setWave_38 : decode cX8_setWave 38 = .ok (.aload_n 0, 1) := dk_42 (dk_at dksX8_setWave_1 15 rfl rfl)
theorem dX8_setWave_39 : decode cX8_setWave 39 = .ok (.iload_n 1, 1) := dk_27 (dk_at dksX8_setWave_1 16 rfl rfl)
theorem dX8_setWave_40 : decode cX8_setWave 40 = .ok (.iconst 2, 1) := dk_5 (dk_at dksX8_setWave_1 17 rfl rfl)
theorem dX8_setWave_41 : decode cX8_setWave 41 = .ok (.iload_n 2, 1) := dk_28 (dk_at dksX8_setWave_1 18 rfl rfl)
theorem dX8_setWave_42 : decode cX8_setWave 42 = .ok (.invokevirtual 437, 3) := dk_182 1 181 (dk_at dksX8_setWave_1 19 rfl rfl)
theorem dX8_setWave_45 : decode cX8_setWave 45 = .ok (.iload_n 3, 1) := dk_29 (dk_at dksX8_setWave_1 22 rfl rfl)
theorem dX8_setWave_46 : decode cX8_setWave 46 = .ok (.ireturn, 1) := dk_172 (dk_at dksX8_setWave_1 23 rfl rfl)
abbrev cX8_setSetting : ByteArray := prog_13_method_134_code
def yX8_setSetting : MethodName := ⟨RX8, "setSetting", "(II)I"⟩
def dkwX8_setSetting_1 : List UInt8 := [184, 0, 151, 154, 0, 9, 42, 4, 182, 0, 164, 172, 42, 27, 28, 182, 1, 225, 172]
abbrev dktX8_setSetting_1 : List UInt8 := dkwX8_setSetting_1 ++ []
def dkwX8_setSetting_0 : List UInt8 := [42, 3, 181, 0, 137, 27, 3, 16, 6, 184, 0, 151, 153, 0, 18, 28, 27, 184, 1, 14, 27, 184, 1, 17]
abbrev dktX8_setSetting_0 : List UInt8 := dkwX8_setSetting_0 ++ dktX8_setSetting_1
theorem dksX8_setSetting_0 : cX8_setSetting.data.toList.drop 0 = dktX8_setSetting_0 := by decide +kernel
theorem dksX8_setSetting_1 : cX8_setSetting.data.toList.drop 24 = dktX8_setSetting_1 := dk_seg dksX8_setSetting_0 24 rfl rfl
theorem dX8_setSetting_0 : decode cX8_setSetting 0 = .ok (.aload_n 0, 1) := dk_42 (dk_at dksX8_setSetting_0 0 rfl rfl)
theorem dX8_setSetting_1 : decode cX8_setSetting 1 = .ok (.iconst 0, 1) := dk_3 (dk_at dksX8_setSetting_0 1 rfl rfl)
theorem dX8_setSetting_2 : decode cX8_setSetting 2 = .ok (.putfield 137, 3) := dk_181 0 137 (dk_at dksX8_setSetting_0 2 rfl rfl)
theorem dX8_setSetting_5 : decode cX8_setSetting 5 = .ok (.iload_n 1, 1) := dk_27 (dk_at dksX8_setSetting_0 5 rfl rfl)
theorem dX8_setSetting_6 : decode cX8_setSetting 6 = .ok (.iconst 0, 1) := dk_3 (dk_at dksX8_setSetting_0 6 rfl rfl)
theorem dX8_setSetting_7 : decode cX8_setSetting 7 = .ok (.bipush 6, 2) := dk_16 6 (dk_at dksX8_setSetting_0 7 rfl rfl)
theorem dX8_setSetting_9 : decode cX8_setSetting 9 = .ok (.invokestatic 151, 3) := dk_184 0 151 (dk_at dksX8_setSetting_0 9 rfl rfl)
theorem dX8_setSetting_12 : decode cX8_setSetting 12 = .ok (.ifCond .eq 18, 3) := dk_153 0 18 (dk_at dksX8_setSetting_0 12 rfl rfl)
theorem dX8_setSetting_15 : decode cX8_setSetting 15 = .ok (.iload_n 2, 1) := dk_28 (dk_at dksX8_setSetting_0 15 rfl rfl)
theorem dX8_setSetting_16 : decode cX8_setSetting 16 = .ok (.iload_n 1, 1) := dk_27 (dk_at dksX8_setSetting_0 16 rfl rfl)
theorem dX8_setSetting_17 : decode cX8_setSetting 17 = .ok (.invokestatic 270, 3) := dk_184 1 14 (dk_at dksX8_setSetting_0 17 rfl rfl)
theorem dX8_setSetting_20 : decode cX8_setSetting 20 = .ok (.iload_n 1, 1) := dk_27 (dk_at dksX8_setSetting_0 20 rfl rfl)
theorem dX8_setSetting_21 : decode cX8_setSetting 21 = .ok (.invokestatic 273, 3) := dk_184 1 17 (dk_at dksX8_setSetting_0 21 rfl rfl)
theorem dX8_setSetting_24 : decode cX8_setSetting 24 = .ok (.invokestatic 151, 3) := dk_184 0 151 (dk_at dksX8_setSetting_1 0 rfl rfl)
theorem dX8_setSetting_27 : decode cX8_setSetting 27 = .ok (.ifCond .ne 9, 3) := dk_154 0 9 (dk_at dksX8_setSetting_1 3 rfl rfl)
theorem dX8_setSetting_30 : decode cX8_setSetting 30 = .ok (.aload_n 0, 1) := dk_42 (dk_at dksX8_setSetting_1 6 rfl rfl)
theorem dX8_setSetting_31 : decode cX8_setSetting 31 = .ok (.iconst 1, 1) := dk_4 (dk_at dksX8_setSetting_1 7 rfl rfl)
theorem dX8_setSetting_32 : decode cX8_setSetting 32 = .ok (.invokevirtual 164, 3) := dk_182 0 164 (dk_at dksX8_setSetting_1 8 rfl rfl)
theorem dX8_setSetting_35 : decode cX8_setSetting 35 = .ok (.ireturn, 1) := dk_172 (dk_at dksX8_setSetting_1 11 rfl rfl)
theorem dX8_setSetting_36 : decode cX8_setSetting 36 = .ok (.aload_n 0, 1) := dk_42 (dk_at dksX8_setSetting_1 12 rfl rfl)
theorem dX8_setSetting_37 : decode cX8_setSetting 37 = .ok (.iload_n 1, 1) := dk_27 (dk_at dksX8_setSetting_1 13 rfl rfl)
theorem dX8_setSetting_38 : decode cX8_setSetting 38 = .ok (.iload_n 2, 1) := dk_28 (dk_at dksX8_setSetting_1 14 rfl rfl)
theorem dX8_setSetting_39 : decode cX8_setSetting 39 = .ok (.invokevirtual 481, 3) := dk_182 1 225 (dk_at dksX8_setSetting_1 15 rfl rfl)
theorem dX8_setSetting_42 : decode cX8_setSetting 42 = .ok (.ireturn, 1) := dk_172 (dk_at dksX8_setSetting_1 18 rfl rfl)
abbrev cX8_change : ByteArray := prog_13_method_133_code
def yX8_change : MethodName := ⟨RX8, "change", "(II)I"⟩
def dkwX8_change_0 : List UInt8 := [42, 182, 1, 222, 42, 27, 182, 0, 143, 62, 42, 27, 28, 182, 1, 203, 29, 172]
abbrev dktX8_change_0 : List UInt8 := dkwX8_change_0 ++ []
theorem dksX8_change_0 : cX8_change.data.toList.drop 0 = dktX8_change_0 := by decide +kernel
theorem dX8_change_0 : decode cX8_change 0 = .ok (.aload_n 0, 1) := dk_42 (dk_at dksX8_change_0 0 rfl rfl)
theorem dX8_change_1 : decode cX8_change 1 = .ok (.invokevirtual 478, 3) := dk_182 1 222 (dk_at dksX8_change_0 1 rfl rfl)
theorem dX8_change_4 : decode cX8_change 4 = .ok (.aload_n 0, 1) := dk_42 (dk_at dksX8_change_0 4 rfl rfl)
theorem dX8_change_5 : decode cX8_change 5 = .ok (.iload_n 1, 1) := dk_27 (dk_at dksX8_change_0 5 rfl rfl)
theorem dX8_change_6 : decode cX8_change 6 = .ok (.invokevirtual 143, 3) := dk_182 0 143 (dk_at dksX8_change_0 6 rfl rfl)
theorem dX8_change_9 : decode cX8_change 9 = .ok (.istore_n 3, 1) := dk_62 (dk_at dksX8_change_0 9 rfl rfl)
theorem dX8_change_10 : decode cX8_change 10 = .ok (.aload_n 0, 1) := dk_42 (dk_at dksX8_change_0 10 rfl rfl)
theorem dX8_change_11 : decode cX8_change 11 = .ok (.iload_n 1, 1) := dk_27 (dk_at dksX8_change_0 11 rfl rfl)
theorem dX8_change_12 : decode cX8_change 12 = .ok (.iload_n 2, 1) := dk_28 (dk_at dksX8_change_0 12 rfl rfl)
theorem dX8_change_13 : decode cX8_change 13 = .ok (.invokevirtual 459, 3) := dk_182 1 203 (dk_at dksX8_change_0 13 rfl rfl)
theorem dX8_change_16 : decode cX8_change 16 = .ok (.iload_n 3, 1) := dk_29 (dk_at dksX8_change_0 16 rfl rfl)
theorem dX8_change_17 : decode cX8_change 17 = .ok (.ireturn, 1) := dk_172 (dk_at dksX8_change_0 17 rfl rfl)
abbrev cX8_setPolicy : ByteArray := prog_13_method_135_code
def yX8_setPolicy : MethodName := ⟨RX8, "setPolicy", "(I)I"⟩
def dkwX8_setPolicy_1 : List UInt8 := [42, 4, 182, 0, 164, 172]
abbrev dktX8_setPolicy_1 : List UInt8 := dkwX8_setPolicy_1 ++ []
def dkwX8_setPolicy_0 : List UInt8 := [42, 3, 181, 0, 137, 27, 3, 5, 184, 0, 151, 153, 0, 13, 42, 16, 7, 27, 182, 1, 225, 167, 0, 8]
abbrev dktX8_setPolicy_0 : List UInt8 := dkwX8_setPolicy_0 ++ dktX8_setPolicy_1
theorem dksX8_setPolicy_0 : cX8_setPolicy.data.toList.drop 0 = dktX8_setPolicy_0 := by decide +kernel
theorem dksX8_setPolicy_1 : cX8_setPolicy.data.toList.drop 24 = dktX8_setPolicy_1 := dk_seg dksX8_setPolicy_0 24 rfl rfl
theorem dX8_setPolicy_0 : decode cX8_setPolicy 0 = .ok (.aload_n 0, 1) := dk_42 (dk_at dksX8_setPolicy_0 0 rfl rfl)
theorem dX8_setPolicy_1 : decode cX8_setPolicy 1 = .ok (.iconst 0, 1) := dk_3 (dk_at dksX8_setPolicy_0 1 rfl rfl)
theorem dX8_setPolicy_2 : decode cX8_setPolicy 2 = .ok (.putfield 137, 3) := dk_181 0 137 (dk_at dksX8_setPolicy_0 2 rfl rfl)
theorem dX8_setPolicy_5 : decode cX8_setPolicy 5 = .ok (.iload_n 1, 1) := dk_27 (dk_at dksX8_setPolicy_0 5 rfl rfl)
theorem dX8_setPolicy_6 : decode cX8_setPolicy 6 = .ok (.iconst 0, 1) := dk_3 (dk_at dksX8_setPolicy_0 6 rfl rfl)
theorem dX8_setPolicy_7 : decode cX8_setPolicy 7 = .ok (.iconst 2, 1) := dk_5 (dk_at dksX8_setPolicy_0 7 rfl rfl)
theorem dX8_setPolicy_8 : decode cX8_setPolicy 8 = .ok (.invokestatic 151, 3) := dk_184 0 151 (dk_at dksX8_setPolicy_0 8 rfl rfl)
theorem dX8_setPolicy_11 : decode cX8_setPolicy 11 = .ok (.ifCond .eq 13, 3) := dk_153 0 13 (dk_at dksX8_setPolicy_0 11 rfl rfl)
theorem dX8_setPolicy_14 : decode cX8_setPolicy 14 = .ok (.aload_n 0, 1) := dk_42 (dk_at dksX8_setPolicy_0 14 rfl rfl)
theorem dX8_setPolicy_15 : decode cX8_setPolicy 15 = .ok (.bipush 7, 2) := dk_16 7 (dk_at dksX8_setPolicy_0 15 rfl rfl)
theorem dX8_setPolicy_17 : decode cX8_setPolicy 17 = .ok (.iload_n 1, 1) := dk_27 (dk_at dksX8_setPolicy_0 17 rfl rfl)
theorem dX8_setPolicy_18 : decode cX8_setPolicy 18 = .ok (.invokevirtual 481, 3) := dk_182 1 225 (dk_at dksX8_setPolicy_0 18 rfl rfl)
theorem dX8_setPolicy_21 : decode cX8_setPolicy 21 = .ok (.goto 8, 3) := dk_167 0 8 (dk_at dksX8_setPolicy_0 21 rfl rfl)
theorem dX8_setPolicy_24 : decode cX8_setPolicy 24 = .ok (.aload_n 0, 1) := dk_42 (dk_at dksX8_setPolicy_1 0 rfl rfl)
theorem dX8_setPolicy_25 : decode cX8_setPolicy 25 = .ok (.iconst 1, 1) := dk_4 (dk_at dksX8_setPolicy_1 1 rfl rfl)
theorem dX8_setPolicy_26 : decode cX8_setPolicy 26 = .ok (.invokevirtual 164, 3) := dk_182 0 164 (dk_at dksX8_setPolicy_1 2 rfl rfl)
theorem dX8_setPolicy_29 : decode cX8_setPolicy 29 = .ok (.ireturn, 1) := dk_172 (dk_at dksX8_setPolicy_1 5 rfl rfl)
abbrev cX8_format : ByteArray := prog_13_method_142_code
def yX8_format : MethodName := ⟨RX8, "format", "(I)I"⟩
def dkwX8_format_4 : List UInt8 := [182, 2, 5, 42, 42, 27, 182, 1, 146, 184, 2, 9, 182, 2, 13, 42, 180, 1, 228, 172]
abbrev dktX8_format_4 : List UInt8 := dkwX8_format_4 ++ []
def dkwX8_format_3 : List UInt8 := [180, 0, 70, 27, 46, 2, 159, 0, 21, 42, 16, 100, 42, 180, 0, 70, 27, 46, 42, 180, 0, 73, 27, 46]
abbrev dktX8_format_3 : List UInt8 := dkwX8_format_3 ++ dktX8_format_4
def dkwX8_format_2 : List UInt8 := [2, 159, 0, 21, 42, 16, 109, 42, 180, 0, 61, 27, 46, 42, 180, 0, 64, 27, 46, 182, 2, 5, 42]
abbrev dktX8_format_2 : List UInt8 := dkwX8_format_2 ++ dktX8_format_3
def dkwX8_format_1 : List UInt8 := [3, 181, 1, 228, 42, 42, 180, 0, 31, 42, 27, 182, 1, 56, 47, 182, 2, 1, 42, 180, 0, 61, 27, 46]
abbrev dktX8_format_1 : List UInt8 := dkwX8_format_1 ++ dktX8_format_2
def dkwX8_format_0 : List UInt8 := [42, 3, 181, 0, 137, 42, 27, 182, 1, 47, 154, 0, 9, 42, 4, 182, 0, 164, 172, 42, 182, 1, 149, 42]
abbrev dktX8_format_0 : List UInt8 := dkwX8_format_0 ++ dktX8_format_1
theorem dksX8_format_0 : cX8_format.data.toList.drop 0 = dktX8_format_0 := by decide +kernel
theorem dksX8_format_1 : cX8_format.data.toList.drop 24 = dktX8_format_1 := dk_seg dksX8_format_0 24 rfl rfl
theorem dksX8_format_2 : cX8_format.data.toList.drop 48 = dktX8_format_2 := dk_seg dksX8_format_1 24 rfl rfl
theorem dksX8_format_3 : cX8_format.data.toList.drop 71 = dktX8_format_3 := dk_seg dksX8_format_2 23 rfl rfl
theorem dksX8_format_4 : cX8_format.data.toList.drop 95 = dktX8_format_4 := dk_seg dksX8_format_3 24 rfl rfl
theorem dX8_format_0 : decode cX8_format 0 = .ok (.aload_n 0, 1) := dk_42 (dk_at dksX8_format_0 0 rfl rfl)
theorem dX8_format_1 : decode cX8_format 1 = .ok (.iconst 0, 1) := dk_3 (dk_at dksX8_format_0 1 rfl rfl)
theorem dX8_format_2 : decode cX8_format 2 = .ok (.putfield 137, 3) := dk_181 0 137 (dk_at dksX8_format_0 2 rfl rfl)
theorem dX8_format_5 : decode cX8_format 5 = .ok (.aload_n 0, 1) := dk_42 (dk_at dksX8_format_0 5 rfl rfl)
theorem dX8_format_6 : decode cX8_format 6 = .ok (.iload_n 1, 1) := dk_27 (dk_at dksX8_format_0 6 rfl rfl)
theorem dX8_format_7 : decode cX8_format 7 = .ok (.invokevirtual 303, 3) := dk_182 1 47 (dk_at dksX8_format_0 7 rfl rfl)
theorem dX8_format_10 : decode cX8_format 10 = .ok (.ifCond .ne 9, 3) := dk_154 0 9 (dk_at dksX8_format_0 10 rfl rfl)
theorem dX8_format_13 : decode cX8_format 13 = .ok (.aload_n 0, 1) := dk_42 (dk_at dksX8_format_0 13 rfl rfl)
theorem dX8_format_14 : decode cX8_format 14 = .ok (.iconst 1, 1) := dk_4 (dk_at dksX8_format_0 14 rfl rfl)
theorem dX8_format_15 : decode cX8_format 15 = .ok (.invokevirtual 164, 3) := dk_182 0 164 (dk_at dksX8_format_0 15 rfl rfl)
theorem dX8_format_18 : decode cX8_format 18 = .ok (.ireturn, 1) := dk_172 (dk_at dksX8_format_0 18 rfl rfl)
theorem dX8_format_19 : decode cX8_format 19 = .ok (.aload_n 0, 1) := dk_42 (dk_at dksX8_format_0 19 rfl rfl)
theorem dX8_format_20 : decode cX8_format 20 = .ok (.invokevirtual 405, 3) := dk_182 1 149 (dk_at dksX8_format_0 20 rfl rfl)
theorem dX8_format_23 : decode cX8_format 23 = .ok (.aload_n 0, 1) := dk_42 (dk_at dksX8_format_0 23 rfl rfl)
theorem dX8_format_24 : decode cX8_format 24 = .ok (.iconst 0, 1) := dk_3 (dk_at dksX8_format_1 0 rfl rfl)
theorem dX8_format_25 : decode cX8_format 25 = .ok (.putfield 484, 3) := dk_181 1 228 (dk_at dksX8_format_1 1 rfl rfl)
theorem dX8_format_28 : decode cX8_format 28 = .ok (.aload_n 0, 1) := dk_42 (dk_at dksX8_format_1 4 rfl rfl)
theorem dX8_format_29 : decode cX8_format 29 = .ok (.aload_n 0, 1) := dk_42 (dk_at dksX8_format_1 5 rfl rfl)
theorem dX8_format_30 : decode cX8_format 30 = .ok (.getfield 31, 3) := dk_180 0 31 (dk_at dksX8_format_1 6 rfl rfl)
theorem dX8_format_33 : decode cX8_format 33 = .ok (.aload_n 0, 1) := dk_42 (dk_at dksX8_format_1 9 rfl rfl)
theorem dX8_format_34 : decode cX8_format 34 = .ok (.iload_n 1, 1) := dk_27 (dk_at dksX8_format_1 10 rfl rfl)
theorem dX8_format_35 : decode cX8_format 35 = .ok (.invokevirtual 312, 3) := dk_182 1 56 (dk_at dksX8_format_1 11 rfl rfl)
theorem dX8_format_38 : decode cX8_format 38 = .ok (.laload, 1) := dk_47 (dk_at dksX8_format_1 14 rfl rfl)
theorem dX8_format_39 : decode cX8_format 39 = .ok (.invokevirtual 513, 3) := dk_182 2 1 (dk_at dksX8_format_1 15 rfl rfl)
theorem dX8_format_42 : decode cX8_format 42 = .ok (.aload_n 0, 1) := dk_42 (dk_at dksX8_format_1 18 rfl rfl)
theorem dX8_format_43 : decode cX8_format 43 = .ok (.getfield 61, 3) := dk_180 0 61 (dk_at dksX8_format_1 19 rfl rfl)
theorem dX8_format_46 : decode cX8_format 46 = .ok (.iload_n 1, 1) := dk_27 (dk_at dksX8_format_1 22 rfl rfl)
theorem dX8_format_47 : decode cX8_format 47 = .ok (.iaload, 1) := dk_46 (dk_at dksX8_format_1 23 rfl rfl)
theorem dX8_format_48 : decode cX8_format 48 = .ok (.iconst (-1), 1) := dk_2 (dk_at dksX8_format_2 0 rfl rfl)
theorem dX8_format_49 : decode cX8_format 49 = .ok (.if_icmp .eq 21, 3) := dk_159 0 21 (dk_at dksX8_format_2 1 rfl rfl)
theorem dX8_format_52 : decode cX8_format 52 = .ok (.aload_n 0, 1) := dk_42 (dk_at dksX8_format_2 4 rfl rfl)
theorem dX8_format_53 : decode cX8_format 53 = .ok (.bipush 109, 2) := dk_16 109 (dk_at dksX8_format_2 5 rfl rfl)
theorem dX8_format_55 : decode cX8_format 55 = .ok (.aload_n 0, 1) := dk_42 (dk_at dksX8_format_2 7 rfl rfl)
theorem dX8_format_56 : decode cX8_format 56 = .ok (.getfield 61, 3) := dk_180 0 61 (dk_at dksX8_format_2 8 rfl rfl)
theorem dX8_format_59 : decode cX8_format 59 = .ok (.iload_n 1, 1) := dk_27 (dk_at dksX8_format_2 11 rfl rfl)
theorem dX8_format_60 : decode cX8_format 60 = .ok (.iaload, 1) := dk_46 (dk_at dksX8_format_2 12 rfl rfl)
theorem dX8_format_61 : decode cX8_format 61 = .ok (.aload_n 0, 1) := dk_42 (dk_at dksX8_format_2 13 rfl rfl)
theorem dX8_format_62 : decode cX8_format 62 = .ok (.getfield 64, 3) := dk_180 0 64 (dk_at dksX8_format_2 14 rfl rfl)
theorem dX8_format_65 : decode cX8_format 65 = .ok (.iload_n 1, 1) := dk_27 (dk_at dksX8_format_2 17 rfl rfl)
theorem dX8_format_66 : decode cX8_format 66 = .ok (.iaload, 1) := dk_46 (dk_at dksX8_format_2 18 rfl rfl)
theorem dX8_format_67 : decode cX8_format 67 = .ok (.invokevirtual 517, 3) := dk_182 2 5 (dk_at dksX8_format_2 19 rfl rfl)
theorem dX8_format_70 : decode cX8_format 70 = .ok (.aload_n 0, 1) := dk_42 (dk_at dksX8_format_2 22 rfl rfl)
theorem dX8_format_71 : decode cX8_format 71 = .ok (.getfield 70, 3) := dk_180 0 70 (dk_at dksX8_format_3 0 rfl rfl)
theorem dX8_format_74 : decode cX8_format 74 = .ok (.iload_n 1, 1) := dk_27 (dk_at dksX8_format_3 3 rfl rfl)
theorem dX8_format_75 : decode cX8_format 75 = .ok (.iaload, 1) := dk_46 (dk_at dksX8_format_3 4 rfl rfl)
theorem dX8_format_76 : decode cX8_format 76 = .ok (.iconst (-1), 1) := dk_2 (dk_at dksX8_format_3 5 rfl rfl)
theorem dX8_format_77 : decode cX8_format 77 = .ok (.if_icmp .eq 21, 3) := dk_159 0 21 (dk_at dksX8_format_3 6 rfl rfl)
theorem dX8_format_80 : decode cX8_format 80 = .ok (.aload_n 0, 1) := dk_42 (dk_at dksX8_format_3 9 rfl rfl)
theorem dX8_format_81 : decode cX8_format 81 = .ok (.bipush 100, 2) := dk_16 100 (dk_at dksX8_format_3 10 rfl rfl)
theorem dX8_format_83 : decode cX8_format 83 = .ok (.aload_n 0, 1) := dk_42 (dk_at dksX8_format_3 12 rfl rfl)
theorem dX8_format_84 : decode cX8_format 84 = .ok (.getfield 70, 3) := dk_180 0 70 (dk_at dksX8_format_3 13 rfl rfl)
theorem dX8_format_87 : decode cX8_format 87 = .ok (.iload_n 1, 1) := dk_27 (dk_at dksX8_format_3 16 rfl rfl)
theorem dX8_format_88 : decode cX8_format 88 = .ok (.iaload, 1) := dk_46 (dk_at dksX8_format_3 17 rfl rfl)
theorem dX8_format_89 : decode cX8_format 89 = .ok (.aload_n 0, 1) := dk_42 (dk_at dksX8_format_3 18 rfl rfl)
theorem dX8_format_90 : decode cX8_format 90 = .ok (.getfield 73, 3) := dk_180 0 73 (dk_at dksX8_format_3 19 rfl rfl)
theorem dX8_format_93 : decode cX8_format 93 = .ok (.iload_n 1, 1) := dk_27 (dk_at dksX8_format_3 22 rfl rfl)
theorem dX8_format_94 : decode cX8_format 94 = .ok (.iaload, 1) := dk_46 (dk_at dksX8_format_3 23 rfl rfl)
theorem dX8_format_95 : decode cX8_format 95 = .ok (.invokevirtual 517, 3) := dk_182 2 5 (dk_at dksX8_format_4 0 rfl rfl)
theorem dX8_format_98 : decode cX8_format 98 = .ok (.aload_n 0, 1) := dk_42 (dk_at dksX8_format_4 3 rfl rfl)
theorem dX8_format_99 : decode cX8_format 99 = .ok (.aload_n 0, 1) := dk_42 (dk_at dksX8_format_4 4 rfl rfl)
theorem dX8_format_100 : decode cX8_format 100 = .ok (.iload_n 1, 1) := dk_27 (dk_at dksX8_format_4 5 rfl rfl)
theorem dX8_format_101 : decode cX8_format 101 = .ok (.invokevirtual 402, 3) := dk_182 1 146 (dk_at dksX8_format_4 6 rfl rfl)
theorem dX8_format_104 : decode cX8_format 104 = .ok (.invokestatic 521, 3) := dk_184 2 9 (dk_at dksX8_format_4 9 rfl rfl)
theorem dX8_format_107 : decode cX8_format 107 = .ok (.invokevirtual 525, 3) := dk_182 2 13 (dk_at dksX8_format_4 12 rfl rfl)
theorem dX8_format_110 : decode cX8_format 110 = .ok (.aload_n 0, 1) := dk_42 (dk_at dksX8_format_4 15 rfl rfl)
theorem dX8_format_111 : decode cX8_format 111 = .ok (.getfield 484, 3) := dk_180 1 228 (dk_at dksX8_format_4 16 rfl rfl)
theorem dX8_format_114 : decode cX8_format 114 = .ok (.ireturn, 1) := dk_172 (dk_at dksX8_format_4 19 rfl rfl)
abbrev cX8_sayName : ByteArray := prog_13_method_139_code
def yX8_sayName : MethodName := ⟨RX8, "sayName", "(J)V"⟩
def dkwX8_sayName_2 : List UInt8 := [167, 255, 233, 177]
abbrev dktX8_sayName_2 : List UInt8 := dkwX8_sayName_2 ++ []
def dkwX8_sayName_1 : List UInt8 := [155, 0, 25, 42, 16, 96, 31, 29, 123, 20, 1, 244, 127, 136, 96, 146, 182, 1, 240, 132, 3, 251]
abbrev dktX8_sayName_1 : List UInt8 := dkwX8_sayName_1 ++ dktX8_sayName_2
def dkwX8_sayName_0 : List UInt8 := [16, 45, 62, 29, 158, 0, 17, 31, 29, 123, 9, 148, 154, 0, 9, 132, 3, 251, 167, 255, 241, 29]
abbrev dktX8_sayName_0 : List UInt8 := dkwX8_sayName_0 ++ dktX8_sayName_1
theorem dksX8_sayName_0 : cX8_sayName.data.toList.drop 0 = dktX8_sayName_0 := by decide +kernel
theorem dksX8_sayName_1 : cX8_sayName.data.toList.drop 22 = dktX8_sayName_1 := dk_seg dksX8_sayName_0 22 rfl rfl
theorem dksX8_sayName_2 : cX8_sayName.data.toList.drop 44 = dktX8_sayName_2 := dk_seg dksX8_sayName_1 22 rfl rfl
theorem dX8_sayName_0 : decode cX8_sayName 0 = .ok (.bipush 45, 2) := dk_16 45 (dk_at dksX8_sayName_0 0 rfl rfl)
theorem dX8_sayName_2 : decode cX8_sayName 2 = .ok (.istore_n 3, 1) := dk_62 (dk_at dksX8_sayName_0 2 rfl rfl)
theorem dX8_sayName_3 : decode cX8_sayName 3 = .ok (.iload_n 3, 1) := dk_29 (dk_at dksX8_sayName_0 3 rfl rfl)
theorem dX8_sayName_4 : decode cX8_sayName 4 = .ok (.ifCond .le 17, 3) := dk_158 0 17 (dk_at dksX8_sayName_0 4 rfl rfl)
theorem dX8_sayName_7 : decode cX8_sayName 7 = .ok (.lload_n 1, 1) := dk_31 (dk_at dksX8_sayName_0 7 rfl rfl)
theorem dX8_sayName_8 : decode cX8_sayName 8 = .ok (.iload_n 3, 1) := dk_29 (dk_at dksX8_sayName_0 8 rfl rfl)
theorem dX8_sayName_9 : decode cX8_sayName 9 = .ok (.lshr, 1) := dk_123 (dk_at dksX8_sayName_0 9 rfl rfl)
theorem dX8_sayName_10 : decode cX8_sayName 10 = .ok (.lconst 0, 1) := dk_9 (dk_at dksX8_sayName_0 10 rfl rfl)
theorem dX8_sayName_11 : decode cX8_sayName 11 = .ok (.lcmp, 1) := dk_148 (dk_at dksX8_sayName_0 11 rfl rfl)
theorem dX8_sayName_12 : decode cX8_sayName 12 = .ok (.ifCond .ne 9, 3) := dk_154 0 9 (dk_at dksX8_sayName_0 12 rfl rfl)
theorem dX8_sayName_15 : decode cX8_sayName 15 = .ok (.iinc 3 (-5), 3) := dk_132 3 251 (dk_at dksX8_sayName_0 15 rfl rfl)
theorem dX8_sayName_18 : decode cX8_sayName 18 = .ok (.goto (-15), 3) := dk_167 255 241 (dk_at dksX8_sayName_0 18 rfl rfl)
theorem dX8_sayName_21 : decode cX8_sayName 21 = .ok (.iload_n 3, 1) := dk_29 (dk_at dksX8_sayName_0 21 rfl rfl)
theorem dX8_sayName_22 : decode cX8_sayName 22 = .ok (.ifCond .lt 25, 3) := dk_155 0 25 (dk_at dksX8_sayName_1 0 rfl rfl)
theorem dX8_sayName_25 : decode cX8_sayName 25 = .ok (.aload_n 0, 1) := dk_42 (dk_at dksX8_sayName_1 3 rfl rfl)
theorem dX8_sayName_26 : decode cX8_sayName 26 = .ok (.bipush 96, 2) := dk_16 96 (dk_at dksX8_sayName_1 4 rfl rfl)
theorem dX8_sayName_28 : decode cX8_sayName 28 = .ok (.lload_n 1, 1) := dk_31 (dk_at dksX8_sayName_1 6 rfl rfl)
theorem dX8_sayName_29 : decode cX8_sayName 29 = .ok (.iload_n 3, 1) := dk_29 (dk_at dksX8_sayName_1 7 rfl rfl)
theorem dX8_sayName_30 : decode cX8_sayName 30 = .ok (.lshr, 1) := dk_123 (dk_at dksX8_sayName_1 8 rfl rfl)
theorem dX8_sayName_31 : decode cX8_sayName 31 = .ok (.ldc2_w 500, 3) := dk_20 1 244 (dk_at dksX8_sayName_1 9 rfl rfl)
theorem dX8_sayName_34 : decode cX8_sayName 34 = .ok (.land, 1) := dk_127 (dk_at dksX8_sayName_1 12 rfl rfl)
theorem dX8_sayName_35 : decode cX8_sayName 35 = .ok (.l2i, 1) := dk_136 (dk_at dksX8_sayName_1 13 rfl rfl)
theorem dX8_sayName_36 : decode cX8_sayName 36 = .ok (.iadd, 1) := dk_96 (dk_at dksX8_sayName_1 14 rfl rfl)
theorem dX8_sayName_37 : decode cX8_sayName 37 = .ok (.i2c, 1) := dk_146 (dk_at dksX8_sayName_1 15 rfl rfl)
theorem dX8_sayName_38 : decode cX8_sayName 38 = .ok (.invokevirtual 496, 3) := dk_182 1 240 (dk_at dksX8_sayName_1 16 rfl rfl)
theorem dX8_sayName_41 : decode cX8_sayName 41 = .ok (.iinc 3 (-5), 3) := dk_132 3 251 (dk_at dksX8_sayName_1 19 rfl rfl)
theorem dX8_sayName_44 : decode cX8_sayName 44 = .ok (.goto (-23), 3) := dk_167 255 233 (dk_at dksX8_sayName_2 0 rfl rfl)
theorem dX8_sayName_47 : decode cX8_sayName 47 = .ok (.return_, 1) := dk_177 (dk_at dksX8_sayName_2 3 rfl rfl)
abbrev cX8_say : ByteArray := prog_13_method_136_code
def yX8_say : MethodName := ⟨RX8, "say", "(C)V"⟩
def dkwX8_say_0 : List UInt8 := [42, 180, 0, 42, 42, 180, 1, 228, 27, 85, 42, 89, 180, 1, 228, 4, 96, 181, 1, 228, 177]
abbrev dktX8_say_0 : List UInt8 := dkwX8_say_0 ++ []
theorem dksX8_say_0 : cX8_say.data.toList.drop 0 = dktX8_say_0 := by decide +kernel
theorem dX8_say_0 : decode cX8_say 0 = .ok (.aload_n 0, 1) := dk_42 (dk_at dksX8_say_0 0 rfl rfl)
theorem dX8_say_1 : decode cX8_say 1 = .ok (.getfield 42, 3) := dk_180 0 42 (dk_at dksX8_say_0 1 rfl rfl)
theorem dX8_say_4 : decode cX8_say 4 = .ok (.aload_n 0, 1) := dk_42 (dk_at dksX8_say_0 4 rfl rfl)
theorem dX8_say_5 : decode cX8_say 5 = .ok (.getfield 484, 3) := dk_180 1 228 (dk_at dksX8_say_0 5 rfl rfl)
theorem dX8_say_8 : decode cX8_say 8 = .ok (.iload_n 1, 1) := dk_27 (dk_at dksX8_say_0 8 rfl rfl)
theorem dX8_say_9 : decode cX8_say 9 = .ok (.castore, 1) := dk_85 (dk_at dksX8_say_0 9 rfl rfl)
theorem dX8_say_10 : decode cX8_say 10 = .ok (.aload_n 0, 1) := dk_42 (dk_at dksX8_say_0 10 rfl rfl)
theorem dX8_say_11 : decode cX8_say 11 = .ok (.dup, 1) := dk_89 (dk_at dksX8_say_0 11 rfl rfl)
theorem dX8_say_12 : decode cX8_say 12 = .ok (.getfield 484, 3) := dk_180 1 228 (dk_at dksX8_say_0 12 rfl rfl)
theorem dX8_say_15 : decode cX8_say 15 = .ok (.iconst 1, 1) := dk_4 (dk_at dksX8_say_0 15 rfl rfl)
theorem dX8_say_16 : decode cX8_say 16 = .ok (.iadd, 1) := dk_96 (dk_at dksX8_say_0 16 rfl rfl)
theorem dX8_say_17 : decode cX8_say 17 = .ok (.putfield 484, 3) := dk_181 1 228 (dk_at dksX8_say_0 17 rfl rfl)
theorem dX8_say_20 : decode cX8_say 20 = .ok (.return_, 1) := dk_177 (dk_at dksX8_say_0 20 rfl rfl)
abbrev cX8_sayPlace : ByteArray := prog_13_method_140_code
def yX8_sayPlace : MethodName := ⟨RX8, "sayPlace", "(CII)V"⟩
def dkwX8_sayPlace_1 : List UInt8 := [182, 1, 246, 177]
abbrev dktX8_sayPlace_1 : List UInt8 := dkwX8_sayPlace_1 ++ []
def dkwX8_sayPlace_0 : List UInt8 := [42, 16, 32, 182, 1, 240, 42, 27, 182, 1, 240, 42, 28, 182, 1, 246, 42, 16, 64, 182, 1, 240, 42, 29]
abbrev dktX8_sayPlace_0 : List UInt8 := dkwX8_sayPlace_0 ++ dktX8_sayPlace_1
theorem dksX8_sayPlace_0 : cX8_sayPlace.data.toList.drop 0 = dktX8_sayPlace_0 := by decide +kernel
theorem dksX8_sayPlace_1 : cX8_sayPlace.data.toList.drop 24 = dktX8_sayPlace_1 := dk_seg dksX8_sayPlace_0 24 rfl rfl
theorem dX8_sayPlace_0 : decode cX8_sayPlace 0 = .ok (.aload_n 0, 1) := dk_42 (dk_at dksX8_sayPlace_0 0 rfl rfl)
theorem dX8_sayPlace_1 : decode cX8_sayPlace 1 = .ok (.bipush 32, 2) := dk_16 32 (dk_at dksX8_sayPlace_0 1 rfl rfl)
theorem dX8_sayPlace_3 : decode cX8_sayPlace 3 = .ok (.invokevirtual 496, 3) := dk_182 1 240 (dk_at dksX8_sayPlace_0 3 rfl rfl)
theorem dX8_sayPlace_6 : decode cX8_sayPlace 6 = .ok (.aload_n 0, 1) := dk_42 (dk_at dksX8_sayPlace_0 6 rfl rfl)
theorem dX8_sayPlace_7 : decode cX8_sayPlace 7 = .ok (.iload_n 1, 1) := dk_27 (dk_at dksX8_sayPlace_0 7 rfl rfl)
theorem dX8_sayPlace_8 : decode cX8_sayPlace 8 = .ok (.invokevirtual 496, 3) := dk_182 1 240 (dk_at dksX8_sayPlace_0 8 rfl rfl)
theorem dX8_sayPlace_11 : decode cX8_sayPlace 11 = .ok (.aload_n 0, 1) := dk_42 (dk_at dksX8_sayPlace_0 11 rfl rfl)
theorem dX8_sayPlace_12 : decode cX8_sayPlace 12 = .ok (.iload_n 2, 1) := dk_28 (dk_at dksX8_sayPlace_0 12 rfl rfl)
theorem dX8_sayPlace_13 : decode cX8_sayPlace 13 = .ok (.invokevirtual 502, 3) := dk_182 1 246 (dk_at dksX8_sayPlace_0 13 rfl rfl)
theorem dX8_sayPlace_16 : decode cX8_sayPlace 16 = .ok (.aload_n 0, 1) := dk_42 (dk_at dksX8_sayPlace_0 16 rfl rfl)
theorem dX8_sayPlace_17 : decode cX8_sayPlace 17 = .ok (.bipush 64, 2) := dk_16 64 (dk_at dksX8_sayPlace_0 17 rfl rfl)
theorem dX8_sayPlace_19 : decode cX8_sayPlace 19 = .ok (.invokevirtual 496, 3) := dk_182 1 240 (dk_at dksX8_sayPlace_0 19 rfl rfl)
theorem dX8_sayPlace_22 : decode cX8_sayPlace 22 = .ok (.aload_n 0, 1) := dk_42 (dk_at dksX8_sayPlace_0 22 rfl rfl)
theorem dX8_sayPlace_23 : decode cX8_sayPlace 23 = .ok (.iload_n 3, 1) := dk_29 (dk_at dksX8_sayPlace_0 23 rfl rfl)
theorem dX8_sayPlace_24 : decode cX8_sayPlace 24 = .ok (.invokevirtual 502, 3) := dk_182 1 246 (dk_at dksX8_sayPlace_1 0 rfl rfl)
theorem dX8_sayPlace_27 : decode cX8_sayPlace 27 = .ok (.return_, 1) := dk_177 (dk_at dksX8_sayPlace_1 3 rfl rfl)
abbrev cX8_sayNumber : ByteArray := prog_13_method_138_code
def yX8_sayNumber : MethodName := ⟨RX8, "sayNumber", "(I)V"⟩
def dkwX8_sayNumber_1 : List UInt8 := [16, 48, 27, 28, 108, 16, 10, 112, 96, 146, 182, 1, 240, 28, 16, 10, 108, 61, 167, 255, 233, 177]
abbrev dktX8_sayNumber_1 : List UInt8 := dkwX8_sayNumber_1 ++ []
def dkwX8_sayNumber_0 : List UInt8 := [4, 61, 27, 28, 108, 16, 9, 164, 0, 11, 28, 16, 10, 104, 61, 167, 255, 243, 28, 158, 0, 25, 42]
abbrev dktX8_sayNumber_0 : List UInt8 := dkwX8_sayNumber_0 ++ dktX8_sayNumber_1
theorem dksX8_sayNumber_0 : cX8_sayNumber.data.toList.drop 0 = dktX8_sayNumber_0 := by decide +kernel
theorem dksX8_sayNumber_1 : cX8_sayNumber.data.toList.drop 23 = dktX8_sayNumber_1 := dk_seg dksX8_sayNumber_0 23 rfl rfl
theorem dX8_sayNumber_0 : decode cX8_sayNumber 0 = .ok (.iconst 1, 1) := dk_4 (dk_at dksX8_sayNumber_0 0 rfl rfl)
theorem dX8_sayNumber_1 : decode cX8_sayNumber 1 = .ok (.istore_n 2, 1) := dk_61 (dk_at dksX8_sayNumber_0 1 rfl rfl)
theorem dX8_sayNumber_2 : decode cX8_sayNumber 2 = .ok (.iload_n 1, 1) := dk_27 (dk_at dksX8_sayNumber_0 2 rfl rfl)
theorem dX8_sayNumber_3 : decode cX8_sayNumber 3 = .ok (.iload_n 2, 1) := dk_28 (dk_at dksX8_sayNumber_0 3 rfl rfl)
theorem dX8_sayNumber_4 : decode cX8_sayNumber 4 = .ok (.idiv, 1) := dk_108 (dk_at dksX8_sayNumber_0 4 rfl rfl)
theorem dX8_sayNumber_5 : decode cX8_sayNumber 5 = .ok (.bipush 9, 2) := dk_16 9 (dk_at dksX8_sayNumber_0 5 rfl rfl)
theorem dX8_sayNumber_7 : decode cX8_sayNumber 7 = .ok (.if_icmp .le 11, 3) := dk_164 0 11 (dk_at dksX8_sayNumber_0 7 rfl rfl)
theorem dX8_sayNumber_10 : decode cX8_sayNumber 10 = .ok (.iload_n 2, 1) := dk_28 (dk_at dksX8_sayNumber_0 10 rfl rfl)
theorem dX8_sayNumber_11 : decode cX8_sayNumber 11 = .ok (.bipush 10, 2) := dk_16 10 (dk_at dksX8_sayNumber_0 11 rfl rfl)
theorem dX8_sayNumber_13 : decode cX8_sayNumber 13 = .ok (.imul, 1) := dk_104 (dk_at dksX8_sayNumber_0 13 rfl rfl)
theorem dX8_sayNumber_14 : decode cX8_sayNumber 14 = .ok (.istore_n 2, 1) := dk_61 (dk_at dksX8_sayNumber_0 14 rfl rfl)
theorem dX8_sayNumber_15 : decode cX8_sayNumber 15 = .ok (.goto (-13), 3) := dk_167 255 243 (dk_at dksX8_sayNumber_0 15 rfl rfl)
theorem dX8_sayNumber_18 : decode cX8_sayNumber 18 = .ok (.iload_n 2, 1) := dk_28 (dk_at dksX8_sayNumber_0 18 rfl rfl)
theorem dX8_sayNumber_19 : decode cX8_sayNumber 19 = .ok (.ifCond .le 25, 3) := dk_158 0 25 (dk_at dksX8_sayNumber_0 19 rfl rfl)
theorem dX8_sayNumber_22 : decode cX8_sayNumber 22 = .ok (.aload_n 0, 1) := dk_42 (dk_at dksX8_sayNumber_0 22 rfl rfl)
theorem dX8_sayNumber_23 : decode cX8_sayNumber 23 = .ok (.bipush 48, 2) := dk_16 48 (dk_at dksX8_sayNumber_1 0 rfl rfl)
theorem dX8_sayNumber_25 : decode cX8_sayNumber 25 = .ok (.iload_n 1, 1) := dk_27 (dk_at dksX8_sayNumber_1 2 rfl rfl)
theorem dX8_sayNumber_26 : decode cX8_sayNumber 26 = .ok (.iload_n 2, 1) := dk_28 (dk_at dksX8_sayNumber_1 3 rfl rfl)
theorem dX8_sayNumber_27 : decode cX8_sayNumber 27 = .ok (.idiv, 1) := dk_108 (dk_at dksX8_sayNumber_1 4 rfl rfl)
theorem dX8_sayNumber_28 : decode cX8_sayNumber 28 = .ok (.bipush 10, 2) := dk_16 10 (dk_at dksX8_sayNumber_1 5 rfl rfl)
theorem dX8_sayNumber_30 : decode cX8_sayNumber 30 = .ok (.irem, 1) := dk_112 (dk_at dksX8_sayNumber_1 7 rfl rfl)
theorem dX8_sayNumber_31 : decode cX8_sayNumber 31 = .ok (.iadd, 1) := dk_96 (dk_at dksX8_sayNumber_1 8 rfl rfl)
theorem dX8_sayNumber_32 : decode cX8_sayNumber 32 = .ok (.i2c, 1) := dk_146 (dk_at dksX8_sayNumber_1 9 rfl rfl)
theorem dX8_sayNumber_33 : decode cX8_sayNumber 33 = .ok (.invokevirtual 496, 3) := dk_182 1 240 (dk_at dksX8_sayNumber_1 10 rfl rfl)
theorem dX8_sayNumber_36 : decode cX8_sayNumber 36 = .ok (.iload_n 2, 1) := dk_28 (dk_at dksX8_sayNumber_1 13 rfl rfl)
theorem dX8_sayNumber_37 : decode cX8_sayNumber 37 = .ok (.bipush 10, 2) := dk_16 10 (dk_at dksX8_sayNumber_1 14 rfl rfl)
theorem dX8_sayNumber_39 : decode cX8_sayNumber 39 = .ok (.idiv, 1) := dk_108 (dk_at dksX8_sayNumber_1 16 rfl rfl)
theorem dX8_sayNumber_40 : decode cX8_sayNumber 40 = .ok (.istore_n 2, 1) := dk_61 (dk_at dksX8_sayNumber_1 17 rfl rfl)
theorem dX8_sayNumber_41 : decode cX8_sayNumber 41 = .ok (.goto (-23), 3) := dk_167 255 233 (dk_at dksX8_sayNumber_1 18 rfl rfl)
theorem dX8_sayNumber_44 : decode cX8_sayNumber 44 = .ok (.return_, 1) := dk_177 (dk_at dksX8_sayNumber_1 21 rfl rfl)
abbrev cX8_nameOfState : ByteArray := prog_13_method_141_code
def yX8_nameOfState : MethodName := ⟨RX8, "nameOfState", "(I)Ljava/lang/String;"⟩
def dkwX8_nameOfState_2 : List UInt8 := [19, 1, 249, 176, 19, 1, 251, 176, 19, 1, 253, 176, 19, 1, 255, 176]
abbrev dktX8_nameOfState_2 : List UInt8 := dkwX8_nameOfState_2 ++ []
def dkwX8_nameOfState_1 : List UInt8 := [170, 0, 0, 0, 0, 0, 39, 0, 0, 0, 0, 0, 0, 0, 2, 0, 0, 0, 27, 0, 0, 0, 31, 0, 0, 0, 35]
abbrev dktX8_nameOfState_1 : List UInt8 := dkwX8_nameOfState_1 ++ dktX8_nameOfState_2
def dkwX8_nameOfState_0 : List UInt8 := [26]
abbrev dktX8_nameOfState_0 : List UInt8 := dkwX8_nameOfState_0 ++ dktX8_nameOfState_1
theorem dksX8_nameOfState_0 : cX8_nameOfState.data.toList.drop 0 = dktX8_nameOfState_0 := by decide +kernel
theorem dksX8_nameOfState_1 : cX8_nameOfState.data.toList.drop 1 = dktX8_nameOfState_1 := dk_seg dksX8_nameOfState_0 1 rfl rfl
theorem dksX8_nameOfState_2 : cX8_nameOfState.data.toList.drop 28 = dktX8_nameOfState_2 := dk_seg dksX8_nameOfState_1 27 rfl rfl
theorem dX8_nameOfState_0 : decode cX8_nameOfState 0 = .ok (.iload_n 0, 1) := dk_26 (dk_at dksX8_nameOfState_0 0 rfl rfl)
theorem dX8_nameOfState_1 : decode cX8_nameOfState 1 = .ok (.tableswitch 39 0 2 #[27, 31, 35], 27) := by decide +kernel
theorem dX8_nameOfState_28 : decode cX8_nameOfState 28 = .ok (.ldc_w 505, 3) := dk_19 1 249 (dk_at dksX8_nameOfState_2 0 rfl rfl)
theorem dX8_nameOfState_31 : decode cX8_nameOfState 31 = .ok (.areturn, 1) := dk_176 (dk_at dksX8_nameOfState_2 3 rfl rfl)
theorem dX8_nameOfState_32 : decode cX8_nameOfState 32 = .ok (.ldc_w 507, 3) := dk_19 1 251 (dk_at dksX8_nameOfState_2 4 rfl rfl)
theorem dX8_nameOfState_35 : decode cX8_nameOfState 35 = .ok (.areturn, 1) := dk_176 (dk_at dksX8_nameOfState_2 7 rfl rfl)
theorem dX8_nameOfState_36 : decode cX8_nameOfState 36 = .ok (.ldc_w 509, 3) := dk_19 1 253 (dk_at dksX8_nameOfState_2 8 rfl rfl)
theorem dX8_nameOfState_39 : decode cX8_nameOfState 39 = .ok (.areturn, 1) := dk_176 (dk_at dksX8_nameOfState_2 11 rfl rfl)
theorem dX8_nameOfState_40 : decode cX8_nameOfState 40 = .ok (.ldc_w 511, 3) := dk_19 1 255 (dk_at dksX8_nameOfState_2 12 rfl rfl)
theorem dX8_nameOfState_43 : decode cX8_nameOfState 43 = .ok (.areturn, 1) := dk_176 (dk_at dksX8_nameOfState_2 15 rfl rfl)
abbrev cX8_sayText : ByteArray := prog_13_method_137_code
def yX8_sayText : MethodName := ⟨RX8, "sayText", "(Ljava/lang/String;)V"⟩
def dkwX8_sayText_1 : List UInt8 := [167, 255, 236, 177]
abbrev dktX8_sayText_1 : List UInt8 := dkwX8_sayText_1 ++ []
def dkwX8_sayText_0 : List UInt8 := [3, 61, 28, 43, 182, 1, 231, 162, 0, 18, 42, 43, 28, 182, 1, 236, 182, 1, 240, 132, 2, 1]
abbrev dktX8_sayText_0 : List UInt8 := dkwX8_sayText_0 ++ dktX8_sayText_1
theorem dksX8_sayText_0 : cX8_sayText.data.toList.drop 0 = dktX8_sayText_0 := by decide +kernel
theorem dksX8_sayText_1 : cX8_sayText.data.toList.drop 22 = dktX8_sayText_1 := dk_seg dksX8_sayText_0 22 rfl rfl
theorem dX8_sayText_0 : decode cX8_sayText 0 = .ok (.iconst 0, 1) := dk_3 (dk_at dksX8_sayText_0 0 rfl rfl)
theorem dX8_sayText_1 : decode cX8_sayText 1 = .ok (.istore_n 2, 1) := dk_61 (dk_at dksX8_sayText_0 1 rfl rfl)
theorem dX8_sayText_2 : decode cX8_sayText 2 = .ok (.iload_n 2, 1) := dk_28 (dk_at dksX8_sayText_0 2 rfl rfl)
theorem dX8_sayText_3 : decode cX8_sayText 3 = .ok (.aload_n 1, 1) := dk_43 (dk_at dksX8_sayText_0 3 rfl rfl)
theorem dX8_sayText_4 : decode cX8_sayText 4 = .ok (.invokevirtual 487, 3) := dk_182 1 231 (dk_at dksX8_sayText_0 4 rfl rfl)
theorem dX8_sayText_7 : decode cX8_sayText 7 = .ok (.if_icmp .ge 18, 3) := dk_162 0 18 (dk_at dksX8_sayText_0 7 rfl rfl)
theorem dX8_sayText_10 : decode cX8_sayText 10 = .ok (.aload_n 0, 1) := dk_42 (dk_at dksX8_sayText_0 10 rfl rfl)
theorem dX8_sayText_11 : decode cX8_sayText 11 = .ok (.aload_n 1, 1) := dk_43 (dk_at dksX8_sayText_0 11 rfl rfl)
theorem dX8_sayText_12 : decode cX8_sayText 12 = .ok (.iload_n 2, 1) := dk_28 (dk_at dksX8_sayText_0 12 rfl rfl)
theorem dX8_sayText_13 : decode cX8_sayText 13 = .ok (.invokevirtual 492, 3) := dk_182 1 236 (dk_at dksX8_sayText_0 13 rfl rfl)
theorem dX8_sayText_16 : decode cX8_sayText 16 = .ok (.invokevirtual 496, 3) := dk_182 1 240 (dk_at dksX8_sayText_0 16 rfl rfl)
theorem dX8_sayText_19 : decode cX8_sayText 19 = .ok (.iinc 2 1, 3) := dk_132 2 1 (dk_at dksX8_sayText_0 19 rfl rfl)
theorem dX8_sayText_22 : decode cX8_sayText 22 = .ok (.goto (-20), 3) := dk_167 255 236 (dk_at dksX8_sayText_1 0 rfl rfl)
theorem dX8_sayText_25 : decode cX8_sayText 25 = .ok (.return_, 1) := dk_177 (dk_at dksX8_sayText_1 3 rfl rfl)
abbrev cX8_formattedCharacter : ByteArray := prog_13_method_143_code
def yX8_formattedCharacter : MethodName := ⟨RX8, "formattedCharacter", "(I)C"⟩
def dkwX8_formattedCharacter_1 : List UInt8 := [3, 172, 42, 180, 0, 42, 27, 52, 172]
abbrev dktX8_formattedCharacter_1 : List UInt8 := dkwX8_formattedCharacter_1 ++ []
def dkwX8_formattedCharacter_0 : List UInt8 := [42, 3, 181, 0, 137, 27, 3, 42, 180, 1, 228, 4, 100, 184, 0, 151, 154, 0, 10, 42, 4, 181, 0, 137]
abbrev dktX8_formattedCharacter_0 : List UInt8 := dkwX8_formattedCharacter_0 ++ dktX8_formattedCharacter_1
theorem dksX8_formattedCharacter_0 : cX8_formattedCharacter.data.toList.drop 0 = dktX8_formattedCharacter_0 := by decide +kernel
theorem dksX8_formattedCharacter_1 : cX8_formattedCharacter.data.toList.drop 24 = dktX8_formattedCharacter_1 := dk_seg dksX8_formattedCharacter_0 24 rfl rfl
theorem dX8_formattedCharacter_0 : decode cX8_formattedCharacter 0 = .ok (.aload_n 0, 1) := dk_42 (dk_at dksX8_formattedCharacter_0 0 rfl rfl)
theorem dX8_formattedCharacter_1 : decode cX8_formattedCharacter 1 = .ok (.iconst 0, 1) := dk_3 (dk_at dksX8_formattedCharacter_0 1 rfl rfl)
theorem dX8_formattedCharacter_2 : decode cX8_formattedCharacter 2 = .ok (.putfield 137, 3) := dk_181 0 137 (dk_at dksX8_formattedCharacter_0 2 rfl rfl)
theorem dX8_formattedCharacter_5 : decode cX8_formattedCharacter 5 = .ok (.iload_n 1, 1) := dk_27 (dk_at dksX8_formattedCharacter_0 5 rfl rfl)
theorem dX8_formattedCharacter_6 : decode cX8_formattedCharacter 6 = .ok (.iconst 0, 1) := dk_3 (dk_at dksX8_formattedCharacter_0 6 rfl rfl)
theorem dX8_formattedCharacter_7 : decode cX8_formattedCharacter 7 = .ok (.aload_n 0, 1) := dk_42 (dk_at dksX8_formattedCharacter_0 7 rfl rfl)
theorem dX8_formattedCharacter_8 : decode cX8_formattedCharacter 8 = .ok (.getfield 484, 3) := dk_180 1 228 (dk_at dksX8_formattedCharacter_0 8 rfl rfl)
theorem dX8_formattedCharacter_11 : decode cX8_formattedCharacter 11 = .ok (.iconst 1, 1) := dk_4 (dk_at dksX8_formattedCharacter_0 11 rfl rfl)
theorem dX8_formattedCharacter_12 : decode cX8_formattedCharacter 12 = .ok (.isub, 1) := dk_100 (dk_at dksX8_formattedCharacter_0 12 rfl rfl)
theorem dX8_formattedCharacter_13 : decode cX8_formattedCharacter 13 = .ok (.invokestatic 151, 3) := dk_184 0 151 (dk_at dksX8_formattedCharacter_0 13 rfl rfl)
theorem dX8_formattedCharacter_16 : decode cX8_formattedCharacter 16 = .ok (.ifCond .ne 10, 3) := dk_154 0 10 (dk_at dksX8_formattedCharacter_0 16 rfl rfl)
theorem dX8_formattedCharacter_19 : decode cX8_formattedCharacter 19 = .ok (.aload_n 0, 1) := dk_42 (dk_at dksX8_formattedCharacter_0 19 rfl rfl)
theorem dX8_formattedCharacter_20 : decode cX8_formattedCharacter 20 = .ok (.iconst 1, 1) := dk_4 (dk_at dksX8_formattedCharacter_0 20 rfl rfl)
theorem dX8_formattedCharacter_21 : decode cX8_formattedCharacter 21 = .ok (.putfield 137, 3) := dk_181 0 137 (dk_at dksX8_formattedCharacter_0 21 rfl rfl)
theorem dX8_formattedCharacter_24 : decode cX8_formattedCharacter 24 = .ok (.iconst 0, 1) := dk_3 (dk_at dksX8_formattedCharacter_1 0 rfl rfl)
theorem dX8_formattedCharacter_25 : decode cX8_formattedCharacter 25 = .ok (.ireturn, 1) := dk_172 (dk_at dksX8_formattedCharacter_1 1 rfl rfl)
theorem dX8_formattedCharacter_26 : decode cX8_formattedCharacter 26 = .ok (.aload_n 0, 1) := dk_42 (dk_at dksX8_formattedCharacter_1 2 rfl rfl)
theorem dX8_formattedCharacter_27 : decode cX8_formattedCharacter 27 = .ok (.getfield 42, 3) := dk_180 0 42 (dk_at dksX8_formattedCharacter_1 3 rfl rfl)
theorem dX8_formattedCharacter_30 : decode cX8_formattedCharacter 30 = .ok (.iload_n 1, 1) := dk_27 (dk_at dksX8_formattedCharacter_1 6 rfl rfl)
theorem dX8_formattedCharacter_31 : decode cX8_formattedCharacter 31 = .ok (.caload, 1) := dk_52 (dk_at dksX8_formattedCharacter_1 7 rfl rfl)
theorem dX8_formattedCharacter_32 : decode cX8_formattedCharacter 32 = .ok (.ireturn, 1) := dk_172 (dk_at dksX8_formattedCharacter_1 8 rfl rfl)
theorem q150 : (Jvm.Cond.initialized "BakeryPlanModel") ∈ lw_all := lw_g (lw_at lw_m1 28 rfl) rfl
theorem q1025 : (Jvm.Cond.selects "BakeryPlanModel" ({ cls := "java/lang/Object", name := "getClass", desc := "()Ljava/lang/Class;" } : Jvm.MethodName) ({ cls := "java/lang/Object", name := "getClass", desc := "()Ljava/lang/Class;" } : Jvm.MethodName)) ∈ lw_all := lw_g (lw_at lw_m4 183 rfl) rfl
theorem q1892 : (Jvm.Cond.instantiable "BakeryPlanModel" (61 : Nat)) ∈ lw_all := lw_g (lw_at lw_m8 90 rfl) rfl
theorem q1894 : (Jvm.Cond.instanceMethod ({ cls := "BakeryPlanModel", name := "<init>", desc := "()V" } : Jvm.MethodName)) ∈ lw_all := lw_g (lw_at lw_m8 92 rfl) rfl
theorem q1895 : (Jvm.Cond.code ({ cls := "BakeryPlanModel", name := "<init>", desc := "()V" } : Jvm.MethodName) prog_13_method_1_code (1 : Nat) (Option.none : Option Jvm.ClassFile.FieldType)) ∈ lw_all := lw_g (lw_at lw_m8 93 rfl) rfl
theorem q1896 : (Jvm.Cond.methodLink "BakeryPlanModel" (1 : Nat) ({ cls := "java/lang/Object", name := "<init>", desc := "()V" } : Jvm.MethodName)) ∈ lw_all := lw_g (lw_at lw_m8 94 rfl) rfl
theorem q1897 : (Jvm.Cond.methodLink "BakeryPlanModel" (131 : Nat) ({ cls := "BakeryPlanModel", name := "beginReading", desc := "()V" } : Jvm.MethodName)) ∈ lw_all := lw_g (lw_at lw_m8 95 rfl) rfl
theorem q1898 : (Jvm.Cond.privateMethod ({ cls := "BakeryPlanModel", name := "beginReading", desc := "()V" } : Jvm.MethodName)) ∈ lw_tbl := lw_at lw_m8 96 rfl
theorem q1899 : (Jvm.Cond.instanceMethod ({ cls := "BakeryPlanModel", name := "beginReading", desc := "()V" } : Jvm.MethodName)) ∈ lw_all := lw_g (lw_at lw_m8 97 rfl) rfl
theorem q1900 : (Jvm.Cond.code ({ cls := "BakeryPlanModel", name := "beginReading", desc := "()V" } : Jvm.MethodName) prog_13_method_36_code (2 : Nat) (Option.none : Option Jvm.ClassFile.FieldType)) ∈ lw_all := lw_g (lw_at lw_m8 98 rfl) rfl
theorem q1901 : (Jvm.Cond.methodLink "BakeryPlanModel" (134 : Nat) ({ cls := "BakeryPlanModel", name := "keepReading", desc := "()V" } : Jvm.MethodName)) ∈ lw_all := lw_g (lw_at lw_m8 99 rfl) rfl
theorem q1902 : (Jvm.Cond.privateMethod ({ cls := "BakeryPlanModel", name := "keepReading", desc := "()V" } : Jvm.MethodName)) ∈ lw_tbl := lw_at lw_m8 100 rfl
theorem q1903 : (Jvm.Cond.instanceMethod ({ cls := "BakeryPlanModel", name := "keepReading", desc := "()V" } : Jvm.MethodName)) ∈ lw_all := lw_g (lw_at lw_m8 101 rfl) rfl
theorem q1904 : (Jvm.Cond.code ({ cls := "BakeryPlanModel", name := "keepReading", desc := "()V" } : Jvm.MethodName) prog_13_method_37_code (2 : Nat) (Option.none : Option Jvm.ClassFile.FieldType)) ∈ lw_all := lw_g (lw_at lw_m8 102 rfl) rfl
theorem q1905 : (Jvm.Cond.methodLink "BakeryPlanModel" (246 : Nat) ({ cls := "BakeryPlanModel", name := "copyRow", desc := "(II)V" } : Jvm.MethodName)) ∈ lw_all := lw_g (lw_at lw_m8 103 rfl) rfl
theorem q1906 : (Jvm.Cond.privateMethod ({ cls := "BakeryPlanModel", name := "copyRow", desc := "(II)V" } : Jvm.MethodName)) ∈ lw_tbl := lw_at lw_m8 104 rfl
theorem q1907 : (Jvm.Cond.instanceMethod ({ cls := "BakeryPlanModel", name := "copyRow", desc := "(II)V" } : Jvm.MethodName)) ∈ lw_all := lw_g (lw_at lw_m8 105 rfl) rfl
theorem q1908 : (Jvm.Cond.code ({ cls := "BakeryPlanModel", name := "copyRow", desc := "(II)V" } : Jvm.MethodName) prog_13_method_115_code (4 : Nat) (Option.none : Option Jvm.ClassFile.FieldType)) ∈ lw_all := lw_g (lw_at lw_m8 106 rfl) rfl
theorem q1909 : (Jvm.Cond.fieldLink "BakeryPlanModel" (137 : Nat) "BakeryPlanModel" "thrown" "I") ∈ lw_all := lw_g (lw_at lw_m8 107 rfl) rfl
theorem q1910 : (Jvm.Cond.fieldLink "BakeryPlanModel" (7 : Nat) "BakeryPlanModel" "rows" "[I") ∈ lw_all := lw_g (lw_at lw_m8 108 rfl) rfl
theorem q1911 : (Jvm.Cond.fieldLink "BakeryPlanModel" (140 : Nat) "BakeryPlanModel" "at" "I") ∈ lw_all := lw_g (lw_at lw_m8 109 rfl) rfl
theorem q1912 : (Jvm.Cond.fieldLink "BakeryPlanModel" (250 : Nat) "BakeryPlanModel" "edits" "I") ∈ lw_all := lw_g (lw_at lw_m8 110 rfl) rfl
theorem q1913 : (Jvm.Cond.fieldLink "BakeryPlanModel" (253 : Nat) "BakeryPlanModel" "firstEdit" "I") ∈ lw_all := lw_g (lw_at lw_m8 111 rfl) rfl
theorem q1914 : (Jvm.Cond.fieldLink "BakeryPlanModel" (155 : Nat) "BakeryPlanModel" "products" "I") ∈ lw_all := lw_g (lw_at lw_m8 112 rfl) rfl
theorem q1915 : (Jvm.Cond.fieldLink "BakeryPlanModel" (13 : Nat) "BakeryPlanModel" "dough" "[I") ∈ lw_all := lw_g (lw_at lw_m8 113 rfl) rfl
theorem q1916 : (Jvm.Cond.fieldLink "BakeryPlanModel" (16 : Nat) "BakeryPlanModel" "mix" "[I") ∈ lw_all := lw_g (lw_at lw_m8 114 rfl) rfl
theorem q1917 : (Jvm.Cond.fieldLink "BakeryPlanModel" (19 : Nat) "BakeryPlanModel" "proof" "[I") ∈ lw_all := lw_g (lw_at lw_m8 115 rfl) rfl
theorem q1918 : (Jvm.Cond.fieldLink "BakeryPlanModel" (22 : Nat) "BakeryPlanModel" "window" "[I") ∈ lw_all := lw_g (lw_at lw_m8 116 rfl) rfl
theorem q1919 : (Jvm.Cond.fieldLink "BakeryPlanModel" (25 : Nat) "BakeryPlanModel" "bake" "[I") ∈ lw_all := lw_g (lw_at lw_m8 117 rfl) rfl
theorem q1920 : (Jvm.Cond.fieldLink "BakeryPlanModel" (28 : Nat) "BakeryPlanModel" "heat" "[I") ∈ lw_all := lw_g (lw_at lw_m8 118 rfl) rfl
theorem q1921 : (Jvm.Cond.fieldLink "BakeryPlanModel" (31 : Nat) "BakeryPlanModel" "names" "[J") ∈ lw_all := lw_g (lw_at lw_m8 119 rfl) rfl
theorem q1922 : (Jvm.Cond.fieldLink "BakeryPlanModel" (158 : Nat) "BakeryPlanModel" "waves" "I") ∈ lw_all := lw_g (lw_at lw_m8 120 rfl) rfl
theorem q1923 : (Jvm.Cond.fieldLink "BakeryPlanModel" (35 : Nat) "BakeryPlanModel" "minutes" "[I") ∈ lw_all := lw_g (lw_at lw_m8 121 rfl) rfl
theorem q1924 : (Jvm.Cond.fieldLink "BakeryPlanModel" (38 : Nat) "BakeryPlanModel" "buffer" "[B") ∈ lw_all := lw_g (lw_at lw_m8 122 rfl) rfl
theorem q1925 : (Jvm.Cond.fieldLink "BakeryPlanModel" (161 : Nat) "BakeryPlanModel" "buffered" "I") ∈ lw_all := lw_g (lw_at lw_m8 123 rfl) rfl
theorem q1926 : (Jvm.Cond.fieldLink "BakeryPlanModel" (127 : Nat) "BakeryPlanModel" "errorOffset" "I") ∈ lw_all := lw_g (lw_at lw_m8 124 rfl) rfl
theorem q1927 : (Jvm.Cond.fieldLink "BakeryPlanModel" (42 : Nat) "BakeryPlanModel" "formatted" "[C") ∈ lw_all := lw_g (lw_at lw_m8 125 rfl) rfl
theorem q1928 : (Jvm.Cond.fieldLink "BakeryPlanModel" (484 : Nat) "BakeryPlanModel" "formattedLength" "I") ∈ lw_all := lw_g (lw_at lw_m8 126 rfl) rfl
theorem q1929 : (Jvm.Cond.fieldLink "BakeryPlanModel" (171 : Nat) "BakeryPlanModel" "textLength" "I") ∈ lw_all := lw_g (lw_at lw_m8 127 rfl) rfl
theorem q1930 : (Jvm.Cond.fieldLink "BakeryPlanModel" (181 : Nat) "BakeryPlanModel" "next" "I") ∈ lw_all := lw_g (lw_at lw_m8 128 rfl) rfl
theorem q1931 : (Jvm.Cond.fieldLink "BakeryPlanModel" (204 : Nat) "BakeryPlanModel" "tokenAt" "I") ∈ lw_all := lw_g (lw_at lw_m8 129 rfl) rfl
theorem q1932 : (Jvm.Cond.fieldLink "BakeryPlanModel" (192 : Nat) "BakeryPlanModel" "token" "I") ∈ lw_all := lw_g (lw_at lw_m8 130 rfl) rfl
theorem q1933 : (Jvm.Cond.fieldLink "BakeryPlanModel" (195 : Nat) "BakeryPlanModel" "number" "I") ∈ lw_all := lw_g (lw_at lw_m8 131 rfl) rfl
theorem q1934 : (Jvm.Cond.fieldLink "BakeryPlanModel" (177 : Nat) "BakeryPlanModel" "word" "J") ∈ lw_all := lw_g (lw_at lw_m8 132 rfl) rfl
theorem q1935 : (Jvm.Cond.fieldLink "BakeryPlanModel" (213 : Nat) "BakeryPlanModel" "wrongAt" "I") ∈ lw_all := lw_g (lw_at lw_m8 133 rfl) rfl
theorem q1936 : (Jvm.Cond.fieldLink "BakeryPlanModel" (240 : Nat) "BakeryPlanModel" "newProducts" "I") ∈ lw_all := lw_g (lw_at lw_m8 134 rfl) rfl
theorem q1937 : (Jvm.Cond.fieldLink "BakeryPlanModel" (243 : Nat) "BakeryPlanModel" "newWaves" "I") ∈ lw_all := lw_g (lw_at lw_m8 135 rfl) rfl
theorem q1938 : (Jvm.Cond.fieldLink "BakeryPlanModel" (46 : Nat) "BakeryPlanModel" "newNumbers" "[I") ∈ lw_all := lw_g (lw_at lw_m8 136 rfl) rfl
theorem q1939 : (Jvm.Cond.fieldLink "BakeryPlanModel" (49 : Nat) "BakeryPlanModel" "newNames" "[J") ∈ lw_all := lw_g (lw_at lw_m8 137 rfl) rfl
theorem q1940 : (Jvm.Cond.fieldLink "BakeryPlanModel" (52 : Nat) "BakeryPlanModel" "newMinutes" "[I") ∈ lw_all := lw_g (lw_at lw_m8 138 rfl) rfl
theorem q1941 : (Jvm.Cond.fieldLink "BakeryPlanModel" (55 : Nat) "BakeryPlanModel" "place" "[I") ∈ lw_all := lw_g (lw_at lw_m8 139 rfl) rfl
theorem q1942 : (Jvm.Cond.fieldLink "BakeryPlanModel" (58 : Nat) "BakeryPlanModel" "parts" "[I") ∈ lw_all := lw_g (lw_at lw_m8 140 rfl) rfl
theorem q1943 : (Jvm.Cond.fieldLink "BakeryPlanModel" (61 : Nat) "BakeryPlanModel" "byMixer" "[I") ∈ lw_all := lw_g (lw_at lw_m8 141 rfl) rfl
theorem q1944 : (Jvm.Cond.fieldLink "BakeryPlanModel" (64 : Nat) "BakeryPlanModel" "mixFrom" "[I") ∈ lw_all := lw_g (lw_at lw_m8 142 rfl) rfl
theorem q1945 : (Jvm.Cond.fieldLink "BakeryPlanModel" (67 : Nat) "BakeryPlanModel" "proofFrom" "[I") ∈ lw_all := lw_g (lw_at lw_m8 143 rfl) rfl
theorem q1946 : (Jvm.Cond.fieldLink "BakeryPlanModel" (70 : Nat) "BakeryPlanModel" "byDeck" "[I") ∈ lw_all := lw_g (lw_at lw_m8 144 rfl) rfl
theorem q1947 : (Jvm.Cond.fieldLink "BakeryPlanModel" (73 : Nat) "BakeryPlanModel" "bakeFrom" "[I") ∈ lw_all := lw_g (lw_at lw_m8 145 rfl) rfl
theorem q1948 : (Jvm.Cond.fieldLink "BakeryPlanModel" (76 : Nat) "BakeryPlanModel" "bakedAt" "[I") ∈ lw_all := lw_g (lw_at lw_m8 146 rfl) rfl
theorem q1949 : (Jvm.Cond.fieldLink "BakeryPlanModel" (79 : Nat) "BakeryPlanModel" "lostIn" "[I") ∈ lw_all := lw_g (lw_at lw_m8 147 rfl) rfl
theorem q1950 : (Jvm.Cond.fieldLink "BakeryPlanModel" (82 : Nat) "BakeryPlanModel" "shelved" "[I") ∈ lw_all := lw_g (lw_at lw_m8 148 rfl) rfl
theorem q1951 : (Jvm.Cond.fieldLink "BakeryPlanModel" (85 : Nat) "BakeryPlanModel" "partsThen" "[I") ∈ lw_all := lw_g (lw_at lw_m8 149 rfl) rfl
theorem q1952 : (Jvm.Cond.fieldLink "BakeryPlanModel" (88 : Nat) "BakeryPlanModel" "mixes" "[I") ∈ lw_all := lw_g (lw_at lw_m8 150 rfl) rfl
theorem q1953 : (Jvm.Cond.fieldLink "BakeryPlanModel" (91 : Nat) "BakeryPlanModel" "mixUntil" "[I") ∈ lw_all := lw_g (lw_at lw_m8 151 rfl) rfl
theorem q1954 : (Jvm.Cond.fieldLink "BakeryPlanModel" (94 : Nat) "BakeryPlanModel" "doughBefore" "[I") ∈ lw_all := lw_g (lw_at lw_m8 152 rfl) rfl
theorem q1955 : (Jvm.Cond.fieldLink "BakeryPlanModel" (97 : Nat) "BakeryPlanModel" "begun" "[I") ∈ lw_all := lw_g (lw_at lw_m8 153 rfl) rfl
theorem q1956 : (Jvm.Cond.fieldLink "BakeryPlanModel" (100 : Nat) "BakeryPlanModel" "reserved" "[I") ∈ lw_all := lw_g (lw_at lw_m8 154 rfl) rfl
theorem q1957 : (Jvm.Cond.fieldLink "BakeryPlanModel" (103 : Nat) "BakeryPlanModel" "bakes" "[I") ∈ lw_all := lw_g (lw_at lw_m8 155 rfl) rfl
theorem q1958 : (Jvm.Cond.fieldLink "BakeryPlanModel" (106 : Nat) "BakeryPlanModel" "bakeUntil" "[I") ∈ lw_all := lw_g (lw_at lw_m8 156 rfl) rfl
theorem q1959 : (Jvm.Cond.fieldLink "BakeryPlanModel" (109 : Nat) "BakeryPlanModel" "degree" "[I") ∈ lw_all := lw_g (lw_at lw_m8 157 rfl) rfl
theorem q1960 : (Jvm.Cond.fieldLink "BakeryPlanModel" (112 : Nat) "BakeryPlanModel" "bakeMinutes" "[I") ∈ lw_all := lw_g (lw_at lw_m8 158 rfl) rfl
theorem q1961 : (Jvm.Cond.fieldLink "BakeryPlanModel" (318 : Nat) "BakeryPlanModel" "cleaned" "I") ∈ lw_all := lw_g (lw_at lw_m8 159 rfl) rfl
theorem q1962 : (Jvm.Cond.fieldLink "BakeryPlanModel" (321 : Nat) "BakeryPlanModel" "changed" "I") ∈ lw_all := lw_g (lw_at lw_m8 160 rfl) rfl
theorem q1963 : (Jvm.Cond.fieldLink "BakeryPlanModel" (115 : Nat) "BakeryPlanModel" "degreeAt" "[I") ∈ lw_all := lw_g (lw_at lw_m8 161 rfl) rfl
theorem q1964 : (Jvm.Cond.fieldLink "BakeryPlanModel" (118 : Nat) "BakeryPlanModel" "bakingAt" "[I") ∈ lw_all := lw_g (lw_at lw_m8 162 rfl) rfl
theorem q1965 : (Jvm.Cond.fieldLink "BakeryPlanModel" (121 : Nat) "BakeryPlanModel" "roomAt" "[I") ∈ lw_all := lw_g (lw_at lw_m8 163 rfl) rfl
theorem q1966 : (Jvm.Cond.fieldLink "BakeryPlanModel" (124 : Nat) "BakeryPlanModel" "shelfAt" "[I") ∈ lw_all := lw_g (lw_at lw_m8 164 rfl) rfl
theorem q1967 : (Jvm.Cond.fieldLink "BakeryPlanModel" (428 : Nat) "BakeryPlanModel" "bestLost" "I") ∈ lw_all := lw_g (lw_at lw_m8 165 rfl) rfl
theorem q1968 : (Jvm.Cond.fieldLink "BakeryPlanModel" (431 : Nat) "BakeryPlanModel" "bestDone" "I") ∈ lw_all := lw_g (lw_at lw_m8 166 rfl) rfl
theorem q1969 : (Jvm.Cond.fieldLink "BakeryPlanModel" (434 : Nat) "BakeryPlanModel" "bestLast" "I") ∈ lw_all := lw_g (lw_at lw_m8 167 rfl) rfl
theorem q1970 : (Jvm.Cond.lays "BakeryPlanModel" "BakeryPlanModel" "thrown" "I") ∈ lw_all := lw_g (lw_at lw_m8 168 rfl) rfl
theorem q1971 : (Jvm.Cond.soleField "BakeryPlanModel" "thrown") ∈ lw_all := lw_g (lw_at lw_m8 169 rfl) rfl
theorem q1972 : (Jvm.Cond.laysFinal "BakeryPlanModel" "BakeryPlanModel" "rows" "[I") ∈ lw_all := lw_g (lw_at lw_m8 170 rfl) rfl
theorem q1973 : (Jvm.Cond.soleField "BakeryPlanModel" "rows") ∈ lw_all := lw_g (lw_at lw_m8 171 rfl) rfl
theorem q1974 : (Jvm.Cond.lays "BakeryPlanModel" "BakeryPlanModel" "at" "I") ∈ lw_all := lw_g (lw_at lw_m8 172 rfl) rfl
theorem q1975 : (Jvm.Cond.soleField "BakeryPlanModel" "at") ∈ lw_all := lw_g (lw_at lw_m8 173 rfl) rfl
theorem q1976 : (Jvm.Cond.lays "BakeryPlanModel" "BakeryPlanModel" "edits" "I") ∈ lw_all := lw_g (lw_at lw_m8 174 rfl) rfl
theorem q1977 : (Jvm.Cond.soleField "BakeryPlanModel" "edits") ∈ lw_all := lw_g (lw_at lw_m8 175 rfl) rfl
theorem q1978 : (Jvm.Cond.lays "BakeryPlanModel" "BakeryPlanModel" "firstEdit" "I") ∈ lw_all := lw_g (lw_at lw_m8 176 rfl) rfl
theorem q1979 : (Jvm.Cond.soleField "BakeryPlanModel" "firstEdit") ∈ lw_all := lw_g (lw_at lw_m8 177 rfl) rfl
theorem q1980 : (Jvm.Cond.lays "BakeryPlanModel" "BakeryPlanModel" "products" "I") ∈ lw_all := lw_g (lw_at lw_m8 178 rfl) rfl
theorem q1981 : (Jvm.Cond.soleField "BakeryPlanModel" "products") ∈ lw_all := lw_g (lw_at lw_m8 179 rfl) rfl
theorem q1982 : (Jvm.Cond.laysFinal "BakeryPlanModel" "BakeryPlanModel" "dough" "[I") ∈ lw_all := lw_g (lw_at lw_m8 180 rfl) rfl
theorem q1983 : (Jvm.Cond.soleField "BakeryPlanModel" "dough") ∈ lw_all := lw_g (lw_at lw_m8 181 rfl) rfl
theorem q1984 : (Jvm.Cond.laysFinal "BakeryPlanModel" "BakeryPlanModel" "mix" "[I") ∈ lw_all := lw_g (lw_at lw_m8 182 rfl) rfl
theorem q1985 : (Jvm.Cond.soleField "BakeryPlanModel" "mix") ∈ lw_all := lw_g (lw_at lw_m8 183 rfl) rfl
theorem q1986 : (Jvm.Cond.laysFinal "BakeryPlanModel" "BakeryPlanModel" "proof" "[I") ∈ lw_all := lw_g (lw_at lw_m8 184 rfl) rfl
theorem q1987 : (Jvm.Cond.soleField "BakeryPlanModel" "proof") ∈ lw_all := lw_g (lw_at lw_m8 185 rfl) rfl
theorem q1988 : (Jvm.Cond.laysFinal "BakeryPlanModel" "BakeryPlanModel" "window" "[I") ∈ lw_all := lw_g (lw_at lw_m8 186 rfl) rfl
theorem q1989 : (Jvm.Cond.soleField "BakeryPlanModel" "window") ∈ lw_all := lw_g (lw_at lw_m8 187 rfl) rfl
theorem q1990 : (Jvm.Cond.laysFinal "BakeryPlanModel" "BakeryPlanModel" "bake" "[I") ∈ lw_all := lw_g (lw_at lw_m8 188 rfl) rfl
theorem q1991 : (Jvm.Cond.soleField "BakeryPlanModel" "bake") ∈ lw_all := lw_g (lw_at lw_m8 189 rfl) rfl
theorem q1992 : (Jvm.Cond.laysFinal "BakeryPlanModel" "BakeryPlanModel" "heat" "[I") ∈ lw_all := lw_g (lw_at lw_m8 190 rfl) rfl
theorem q1993 : (Jvm.Cond.soleField "BakeryPlanModel" "heat") ∈ lw_all := lw_g (lw_at lw_m8 191 rfl) rfl
theorem q1994 : (Jvm.Cond.laysFinal "BakeryPlanModel" "BakeryPlanModel" "names" "[J") ∈ lw_all := lw_g (lw_at lw_m8 192 rfl) rfl
theorem q1995 : (Jvm.Cond.soleField "BakeryPlanModel" "names") ∈ lw_all := lw_g (lw_at lw_m8 193 rfl) rfl
theorem q1996 : (Jvm.Cond.lays "BakeryPlanModel" "BakeryPlanModel" "waves" "I") ∈ lw_all := lw_g (lw_at lw_m8 194 rfl) rfl
theorem q1997 : (Jvm.Cond.soleField "BakeryPlanModel" "waves") ∈ lw_all := lw_g (lw_at lw_m8 195 rfl) rfl
theorem q1998 : (Jvm.Cond.laysFinal "BakeryPlanModel" "BakeryPlanModel" "minutes" "[I") ∈ lw_all := lw_g (lw_at lw_m8 196 rfl) rfl
theorem q1999 : (Jvm.Cond.soleField "BakeryPlanModel" "minutes") ∈ lw_all := lw_g (lw_at lw_m8 197 rfl) rfl
theorem q2000 : (Jvm.Cond.laysFinal "BakeryPlanModel" "BakeryPlanModel" "buffer" "[B") ∈ lw_all := lw_g (lw_at lw_m8 198 rfl) rfl
theorem q2001 : (Jvm.Cond.soleField "BakeryPlanModel" "buffer") ∈ lw_all := lw_g (lw_at lw_m8 199 rfl) rfl
theorem q2002 : (Jvm.Cond.lays "BakeryPlanModel" "BakeryPlanModel" "buffered" "I") ∈ lw_all := lw_g (lw_at lw_m8 200 rfl) rfl
theorem q2003 : (Jvm.Cond.soleField "BakeryPlanModel" "buffered") ∈ lw_all := lw_g (lw_at lw_m8 201 rfl) rfl
theorem q2004 : (Jvm.Cond.lays "BakeryPlanModel" "BakeryPlanModel" "errorOffset" "I") ∈ lw_all := lw_g (lw_at lw_m8 202 rfl) rfl
theorem q2005 : (Jvm.Cond.soleField "BakeryPlanModel" "errorOffset") ∈ lw_all := lw_g (lw_at lw_m8 203 rfl) rfl
theorem q2006 : (Jvm.Cond.laysFinal "BakeryPlanModel" "BakeryPlanModel" "formatted" "[C") ∈ lw_all := lw_g (lw_at lw_m8 204 rfl) rfl
theorem q2007 : (Jvm.Cond.soleField "BakeryPlanModel" "formatted") ∈ lw_all := lw_g (lw_at lw_m8 205 rfl) rfl
theorem q2008 : (Jvm.Cond.lays "BakeryPlanModel" "BakeryPlanModel" "formattedLength" "I") ∈ lw_all := lw_g (lw_at lw_m8 206 rfl) rfl
theorem q2009 : (Jvm.Cond.soleField "BakeryPlanModel" "formattedLength") ∈ lw_all := lw_g (lw_at lw_m8 207 rfl) rfl
theorem q2010 : (Jvm.Cond.lays "BakeryPlanModel" "BakeryPlanModel" "textLength" "I") ∈ lw_all := lw_g (lw_at lw_m8 208 rfl) rfl
theorem q2011 : (Jvm.Cond.soleField "BakeryPlanModel" "textLength") ∈ lw_all := lw_g (lw_at lw_m8 209 rfl) rfl
theorem q2012 : (Jvm.Cond.lays "BakeryPlanModel" "BakeryPlanModel" "next" "I") ∈ lw_all := lw_g (lw_at lw_m8 210 rfl) rfl
theorem q2013 : (Jvm.Cond.soleField "BakeryPlanModel" "next") ∈ lw_all := lw_g (lw_at lw_m8 211 rfl) rfl
theorem q2014 : (Jvm.Cond.lays "BakeryPlanModel" "BakeryPlanModel" "tokenAt" "I") ∈ lw_all := lw_g (lw_at lw_m8 212 rfl) rfl
theorem q2015 : (Jvm.Cond.soleField "BakeryPlanModel" "tokenAt") ∈ lw_all := lw_g (lw_at lw_m8 213 rfl) rfl
theorem q2016 : (Jvm.Cond.lays "BakeryPlanModel" "BakeryPlanModel" "token" "I") ∈ lw_all := lw_g (lw_at lw_m8 214 rfl) rfl
theorem q2017 : (Jvm.Cond.soleField "BakeryPlanModel" "token") ∈ lw_all := lw_g (lw_at lw_m8 215 rfl) rfl
theorem q2018 : (Jvm.Cond.lays "BakeryPlanModel" "BakeryPlanModel" "number" "I") ∈ lw_all := lw_g (lw_at lw_m8 216 rfl) rfl
theorem q2019 : (Jvm.Cond.soleField "BakeryPlanModel" "number") ∈ lw_all := lw_g (lw_at lw_m8 217 rfl) rfl
theorem q2020 : (Jvm.Cond.lays "BakeryPlanModel" "BakeryPlanModel" "word" "J") ∈ lw_all := lw_g (lw_at lw_m8 218 rfl) rfl
theorem q2021 : (Jvm.Cond.soleField "BakeryPlanModel" "word") ∈ lw_all := lw_g (lw_at lw_m8 219 rfl) rfl
theorem q2022 : (Jvm.Cond.lays "BakeryPlanModel" "BakeryPlanModel" "wrongAt" "I") ∈ lw_all := lw_g (lw_at lw_m8 220 rfl) rfl
theorem q2023 : (Jvm.Cond.soleField "BakeryPlanModel" "wrongAt") ∈ lw_all := lw_g (lw_at lw_m8 221 rfl) rfl
theorem q2024 : (Jvm.Cond.lays "BakeryPlanModel" "BakeryPlanModel" "newProducts" "I") ∈ lw_all := lw_g (lw_at lw_m8 222 rfl) rfl
theorem q2025 : (Jvm.Cond.soleField "BakeryPlanModel" "newProducts") ∈ lw_all := lw_g (lw_at lw_m8 223 rfl) rfl
theorem q2026 : (Jvm.Cond.lays "BakeryPlanModel" "BakeryPlanModel" "newWaves" "I") ∈ lw_all := lw_g (lw_at lw_m8 224 rfl) rfl
theorem q2027 : (Jvm.Cond.soleField "BakeryPlanModel" "newWaves") ∈ lw_all := lw_g (lw_at lw_m8 225 rfl) rfl
theorem q2028 : (Jvm.Cond.laysFinal "BakeryPlanModel" "BakeryPlanModel" "newNumbers" "[I") ∈ lw_all := lw_g (lw_at lw_m8 226 rfl) rfl
theorem q2029 : (Jvm.Cond.soleField "BakeryPlanModel" "newNumbers") ∈ lw_all := lw_g (lw_at lw_m8 227 rfl) rfl
theorem q2030 : (Jvm.Cond.laysFinal "BakeryPlanModel" "BakeryPlanModel" "newNames" "[J") ∈ lw_all := lw_g (lw_at lw_m8 228 rfl) rfl
theorem q2031 : (Jvm.Cond.soleField "BakeryPlanModel" "newNames") ∈ lw_all := lw_g (lw_at lw_m8 229 rfl) rfl
theorem q2032 : (Jvm.Cond.laysFinal "BakeryPlanModel" "BakeryPlanModel" "newMinutes" "[I") ∈ lw_all := lw_g (lw_at lw_m8 230 rfl) rfl
theorem q2033 : (Jvm.Cond.soleField "BakeryPlanModel" "newMinutes") ∈ lw_all := lw_g (lw_at lw_m8 231 rfl) rfl
theorem q2034 : (Jvm.Cond.laysFinal "BakeryPlanModel" "BakeryPlanModel" "place" "[I") ∈ lw_all := lw_g (lw_at lw_m8 232 rfl) rfl
theorem q2035 : (Jvm.Cond.soleField "BakeryPlanModel" "place") ∈ lw_all := lw_g (lw_at lw_m8 233 rfl) rfl
theorem q2036 : (Jvm.Cond.laysFinal "BakeryPlanModel" "BakeryPlanModel" "parts" "[I") ∈ lw_all := lw_g (lw_at lw_m8 234 rfl) rfl
theorem q2037 : (Jvm.Cond.soleField "BakeryPlanModel" "parts") ∈ lw_all := lw_g (lw_at lw_m8 235 rfl) rfl
theorem q2038 : (Jvm.Cond.laysFinal "BakeryPlanModel" "BakeryPlanModel" "byMixer" "[I") ∈ lw_all := lw_g (lw_at lw_m8 236 rfl) rfl
theorem q2039 : (Jvm.Cond.soleField "BakeryPlanModel" "byMixer") ∈ lw_all := lw_g (lw_at lw_m8 237 rfl) rfl
theorem q2040 : (Jvm.Cond.laysFinal "BakeryPlanModel" "BakeryPlanModel" "mixFrom" "[I") ∈ lw_all := lw_g (lw_at lw_m8 238 rfl) rfl
theorem q2041 : (Jvm.Cond.soleField "BakeryPlanModel" "mixFrom") ∈ lw_all := lw_g (lw_at lw_m8 239 rfl) rfl
theorem q2042 : (Jvm.Cond.laysFinal "BakeryPlanModel" "BakeryPlanModel" "proofFrom" "[I") ∈ lw_all := lw_g (lw_at lw_m9 0 rfl) rfl
theorem q2043 : (Jvm.Cond.soleField "BakeryPlanModel" "proofFrom") ∈ lw_all := lw_g (lw_at lw_m9 1 rfl) rfl
theorem q2044 : (Jvm.Cond.laysFinal "BakeryPlanModel" "BakeryPlanModel" "byDeck" "[I") ∈ lw_all := lw_g (lw_at lw_m9 2 rfl) rfl
theorem q2045 : (Jvm.Cond.soleField "BakeryPlanModel" "byDeck") ∈ lw_all := lw_g (lw_at lw_m9 3 rfl) rfl
theorem q2046 : (Jvm.Cond.laysFinal "BakeryPlanModel" "BakeryPlanModel" "bakeFrom" "[I") ∈ lw_all := lw_g (lw_at lw_m9 4 rfl) rfl
theorem q2047 : (Jvm.Cond.soleField "BakeryPlanModel" "bakeFrom") ∈ lw_all := lw_g (lw_at lw_m9 5 rfl) rfl
theorem q2048 : (Jvm.Cond.laysFinal "BakeryPlanModel" "BakeryPlanModel" "bakedAt" "[I") ∈ lw_all := lw_g (lw_at lw_m9 6 rfl) rfl
theorem q2049 : (Jvm.Cond.soleField "BakeryPlanModel" "bakedAt") ∈ lw_all := lw_g (lw_at lw_m9 7 rfl) rfl
theorem q2050 : (Jvm.Cond.laysFinal "BakeryPlanModel" "BakeryPlanModel" "lostIn" "[I") ∈ lw_all := lw_g (lw_at lw_m9 8 rfl) rfl
theorem q2051 : (Jvm.Cond.soleField "BakeryPlanModel" "lostIn") ∈ lw_all := lw_g (lw_at lw_m9 9 rfl) rfl
theorem q2052 : (Jvm.Cond.laysFinal "BakeryPlanModel" "BakeryPlanModel" "shelved" "[I") ∈ lw_all := lw_g (lw_at lw_m9 10 rfl) rfl
theorem q2053 : (Jvm.Cond.soleField "BakeryPlanModel" "shelved") ∈ lw_all := lw_g (lw_at lw_m9 11 rfl) rfl
theorem q2054 : (Jvm.Cond.laysFinal "BakeryPlanModel" "BakeryPlanModel" "partsThen" "[I") ∈ lw_all := lw_g (lw_at lw_m9 12 rfl) rfl
theorem q2055 : (Jvm.Cond.soleField "BakeryPlanModel" "partsThen") ∈ lw_all := lw_g (lw_at lw_m9 13 rfl) rfl
theorem q2056 : (Jvm.Cond.laysFinal "BakeryPlanModel" "BakeryPlanModel" "mixes" "[I") ∈ lw_all := lw_g (lw_at lw_m9 14 rfl) rfl
theorem q2057 : (Jvm.Cond.soleField "BakeryPlanModel" "mixes") ∈ lw_all := lw_g (lw_at lw_m9 15 rfl) rfl
theorem q2058 : (Jvm.Cond.laysFinal "BakeryPlanModel" "BakeryPlanModel" "mixUntil" "[I") ∈ lw_all := lw_g (lw_at lw_m9 16 rfl) rfl
theorem q2059 : (Jvm.Cond.soleField "BakeryPlanModel" "mixUntil") ∈ lw_all := lw_g (lw_at lw_m9 17 rfl) rfl
theorem q2060 : (Jvm.Cond.laysFinal "BakeryPlanModel" "BakeryPlanModel" "doughBefore" "[I") ∈ lw_all := lw_g (lw_at lw_m9 18 rfl) rfl
theorem q2061 : (Jvm.Cond.soleField "BakeryPlanModel" "doughBefore") ∈ lw_all := lw_g (lw_at lw_m9 19 rfl) rfl
theorem q2062 : (Jvm.Cond.laysFinal "BakeryPlanModel" "BakeryPlanModel" "begun" "[I") ∈ lw_all := lw_g (lw_at lw_m9 20 rfl) rfl
theorem q2063 : (Jvm.Cond.soleField "BakeryPlanModel" "begun") ∈ lw_all := lw_g (lw_at lw_m9 21 rfl) rfl
theorem q2064 : (Jvm.Cond.laysFinal "BakeryPlanModel" "BakeryPlanModel" "reserved" "[I") ∈ lw_all := lw_g (lw_at lw_m9 22 rfl) rfl
theorem q2065 : (Jvm.Cond.soleField "BakeryPlanModel" "reserved") ∈ lw_all := lw_g (lw_at lw_m9 23 rfl) rfl
theorem q2066 : (Jvm.Cond.laysFinal "BakeryPlanModel" "BakeryPlanModel" "bakes" "[I") ∈ lw_all := lw_g (lw_at lw_m9 24 rfl) rfl
theorem q2067 : (Jvm.Cond.soleField "BakeryPlanModel" "bakes") ∈ lw_all := lw_g (lw_at lw_m9 25 rfl) rfl
theorem q2068 : (Jvm.Cond.laysFinal "BakeryPlanModel" "BakeryPlanModel" "bakeUntil" "[I") ∈ lw_all := lw_g (lw_at lw_m9 26 rfl) rfl
theorem q2069 : (Jvm.Cond.soleField "BakeryPlanModel" "bakeUntil") ∈ lw_all := lw_g (lw_at lw_m9 27 rfl) rfl
theorem q2070 : (Jvm.Cond.laysFinal "BakeryPlanModel" "BakeryPlanModel" "degree" "[I") ∈ lw_all := lw_g (lw_at lw_m9 28 rfl) rfl
theorem q2071 : (Jvm.Cond.soleField "BakeryPlanModel" "degree") ∈ lw_all := lw_g (lw_at lw_m9 29 rfl) rfl
theorem q2072 : (Jvm.Cond.laysFinal "BakeryPlanModel" "BakeryPlanModel" "bakeMinutes" "[I") ∈ lw_all := lw_g (lw_at lw_m9 30 rfl) rfl
theorem q2073 : (Jvm.Cond.soleField "BakeryPlanModel" "bakeMinutes") ∈ lw_all := lw_g (lw_at lw_m9 31 rfl) rfl
theorem q2074 : (Jvm.Cond.lays "BakeryPlanModel" "BakeryPlanModel" "cleaned" "I") ∈ lw_all := lw_g (lw_at lw_m9 32 rfl) rfl
theorem q2075 : (Jvm.Cond.soleField "BakeryPlanModel" "cleaned") ∈ lw_all := lw_g (lw_at lw_m9 33 rfl) rfl
theorem q2076 : (Jvm.Cond.lays "BakeryPlanModel" "BakeryPlanModel" "changed" "I") ∈ lw_all := lw_g (lw_at lw_m9 34 rfl) rfl
theorem q2077 : (Jvm.Cond.soleField "BakeryPlanModel" "changed") ∈ lw_all := lw_g (lw_at lw_m9 35 rfl) rfl
theorem q2078 : (Jvm.Cond.laysFinal "BakeryPlanModel" "BakeryPlanModel" "degreeAt" "[I") ∈ lw_all := lw_g (lw_at lw_m9 36 rfl) rfl
theorem q2079 : (Jvm.Cond.soleField "BakeryPlanModel" "degreeAt") ∈ lw_all := lw_g (lw_at lw_m9 37 rfl) rfl
theorem q2080 : (Jvm.Cond.laysFinal "BakeryPlanModel" "BakeryPlanModel" "bakingAt" "[I") ∈ lw_all := lw_g (lw_at lw_m9 38 rfl) rfl
theorem q2081 : (Jvm.Cond.soleField "BakeryPlanModel" "bakingAt") ∈ lw_all := lw_g (lw_at lw_m9 39 rfl) rfl
theorem q2082 : (Jvm.Cond.laysFinal "BakeryPlanModel" "BakeryPlanModel" "roomAt" "[I") ∈ lw_all := lw_g (lw_at lw_m9 40 rfl) rfl
theorem q2083 : (Jvm.Cond.soleField "BakeryPlanModel" "roomAt") ∈ lw_all := lw_g (lw_at lw_m9 41 rfl) rfl
theorem q2084 : (Jvm.Cond.laysFinal "BakeryPlanModel" "BakeryPlanModel" "shelfAt" "[I") ∈ lw_all := lw_g (lw_at lw_m9 42 rfl) rfl
theorem q2085 : (Jvm.Cond.soleField "BakeryPlanModel" "shelfAt") ∈ lw_all := lw_g (lw_at lw_m9 43 rfl) rfl
theorem q2086 : (Jvm.Cond.lays "BakeryPlanModel" "BakeryPlanModel" "bestLost" "I") ∈ lw_all := lw_g (lw_at lw_m9 44 rfl) rfl
theorem q2087 : (Jvm.Cond.soleField "BakeryPlanModel" "bestLost") ∈ lw_all := lw_g (lw_at lw_m9 45 rfl) rfl
theorem q2088 : (Jvm.Cond.lays "BakeryPlanModel" "BakeryPlanModel" "bestDone" "I") ∈ lw_all := lw_g (lw_at lw_m9 46 rfl) rfl
theorem q2089 : (Jvm.Cond.soleField "BakeryPlanModel" "bestDone") ∈ lw_all := lw_g (lw_at lw_m9 47 rfl) rfl
theorem q2090 : (Jvm.Cond.lays "BakeryPlanModel" "BakeryPlanModel" "bestLast" "I") ∈ lw_all := lw_g (lw_at lw_m9 48 rfl) rfl
theorem q2091 : (Jvm.Cond.soleField "BakeryPlanModel" "bestLast") ∈ lw_all := lw_g (lw_at lw_m9 49 rfl) rfl
theorem q2092 : (Jvm.Cond.superclass "BakeryPlanModel" "java/lang/Object") ∈ lw_all := lw_g (lw_at lw_m9 50 rfl) rfl
theorem q2096 : (Jvm.Cond.instanceMethod ({ cls := "BakeryPlanModel", name := "thrown", desc := "()I" } : Jvm.MethodName)) ∈ lw_all := lw_g (lw_at lw_m9 54 rfl) rfl
theorem q2097 : (Jvm.Cond.selects "BakeryPlanModel" ({ cls := "BakeryPlanModel", name := "thrown", desc := "()I" } : Jvm.MethodName) ({ cls := "BakeryPlanModel", name := "thrown", desc := "()I" } : Jvm.MethodName)) ∈ lw_all := lw_g (lw_at lw_m9 55 rfl) rfl
theorem q2098 : (Jvm.Cond.code ({ cls := "BakeryPlanModel", name := "thrown", desc := "()I" } : Jvm.MethodName) prog_13_method_2_code (1 : Nat) (Option.some Jvm.ClassFile.FieldType.int)) ∈ lw_all := lw_g (lw_at lw_m9 56 rfl) rfl
theorem q2100 : (Jvm.Cond.instanceMethod ({ cls := "BakeryPlanModel", name := "append", desc := "(IIIII)I" } : Jvm.MethodName)) ∈ lw_all := lw_g (lw_at lw_m9 58 rfl) rfl
theorem q2101 : (Jvm.Cond.selects "BakeryPlanModel" ({ cls := "BakeryPlanModel", name := "append", desc := "(IIIII)I" } : Jvm.MethodName) ({ cls := "BakeryPlanModel", name := "append", desc := "(IIIII)I" } : Jvm.MethodName)) ∈ lw_all := lw_g (lw_at lw_m9 59 rfl) rfl
theorem q2102 : (Jvm.Cond.code ({ cls := "BakeryPlanModel", name := "append", desc := "(IIIII)I" } : Jvm.MethodName) prog_13_method_18_code (6 : Nat) (Option.some Jvm.ClassFile.FieldType.int)) ∈ lw_all := lw_g (lw_at lw_m9 60 rfl) rfl
theorem q2103 : (Jvm.Cond.methodLink "BakeryPlanModel" (164 : Nat) ({ cls := "BakeryPlanModel", name := "fails", desc := "(I)I" } : Jvm.MethodName)) ∈ lw_all := lw_g (lw_at lw_m9 61 rfl) rfl
theorem q2104 : (Jvm.Cond.privateMethod ({ cls := "BakeryPlanModel", name := "fails", desc := "(I)I" } : Jvm.MethodName)) ∈ lw_tbl := lw_at lw_m9 62 rfl
theorem q2105 : (Jvm.Cond.instanceMethod ({ cls := "BakeryPlanModel", name := "fails", desc := "(I)I" } : Jvm.MethodName)) ∈ lw_all := lw_g (lw_at lw_m9 63 rfl) rfl
theorem q2106 : (Jvm.Cond.code ({ cls := "BakeryPlanModel", name := "fails", desc := "(I)I" } : Jvm.MethodName) prog_13_method_3_code (2 : Nat) (Option.some Jvm.ClassFile.FieldType.int)) ∈ lw_all := lw_g (lw_at lw_m9 64 rfl) rfl
theorem q2107 : (Jvm.Cond.methodLink "BakeryPlanModel" (167 : Nat) ({ cls := "BakeryPlanModel", name := "put", desc := "(I)V" } : Jvm.MethodName)) ∈ lw_all := lw_g (lw_at lw_m9 65 rfl) rfl
theorem q2108 : (Jvm.Cond.privateMethod ({ cls := "BakeryPlanModel", name := "put", desc := "(I)V" } : Jvm.MethodName)) ∈ lw_tbl := lw_at lw_m9 66 rfl
theorem q2109 : (Jvm.Cond.instanceMethod ({ cls := "BakeryPlanModel", name := "put", desc := "(I)V" } : Jvm.MethodName)) ∈ lw_all := lw_g (lw_at lw_m9 67 rfl) rfl
theorem q2110 : (Jvm.Cond.code ({ cls := "BakeryPlanModel", name := "put", desc := "(I)V" } : Jvm.MethodName) prog_13_method_17_code (2 : Nat) (Option.none : Option Jvm.ClassFile.FieldType)) ∈ lw_all := lw_g (lw_at lw_m9 68 rfl) rfl
theorem q2112 : (Jvm.Cond.instanceMethod ({ cls := "BakeryPlanModel", name := "truncate", desc := "(I)V" } : Jvm.MethodName)) ∈ lw_all := lw_g (lw_at lw_m9 70 rfl) rfl
theorem q2113 : (Jvm.Cond.selects "BakeryPlanModel" ({ cls := "BakeryPlanModel", name := "truncate", desc := "(I)V" } : Jvm.MethodName) ({ cls := "BakeryPlanModel", name := "truncate", desc := "(I)V" } : Jvm.MethodName)) ∈ lw_all := lw_g (lw_at lw_m9 71 rfl) rfl
theorem q2114 : (Jvm.Cond.code ({ cls := "BakeryPlanModel", name := "truncate", desc := "(I)V" } : Jvm.MethodName) prog_13_method_19_code (2 : Nat) (Option.none : Option Jvm.ClassFile.FieldType)) ∈ lw_all := lw_g (lw_at lw_m9 72 rfl) rfl
theorem q2115 : (Jvm.Cond.methodLink "BakeryPlanModel" (151 : Nat) ({ cls := "BakeryPlanModel", name := "isIn", desc := "(III)Z" } : Jvm.MethodName)) ∈ lw_all := lw_g (lw_at lw_m9 73 rfl) rfl
theorem q2116 : (Jvm.Cond.static ({ cls := "BakeryPlanModel", name := "isIn", desc := "(III)Z" } : Jvm.MethodName)) ∈ lw_all := lw_g (lw_at lw_m9 74 rfl) rfl
theorem q2117 : (Jvm.Cond.code ({ cls := "BakeryPlanModel", name := "isIn", desc := "(III)Z" } : Jvm.MethodName) prog_13_method_4_code (3 : Nat) (Option.some Jvm.ClassFile.FieldType.boolean)) ∈ lw_all := lw_g (lw_at lw_m9 75 rfl) rfl
theorem q2119 : (Jvm.Cond.instanceMethod ({ cls := "BakeryPlanModel", name := "load", desc := "()I" } : Jvm.MethodName)) ∈ lw_all := lw_g (lw_at lw_m9 77 rfl) rfl
theorem q2120 : (Jvm.Cond.selects "BakeryPlanModel" ({ cls := "BakeryPlanModel", name := "load", desc := "()I" } : Jvm.MethodName) ({ cls := "BakeryPlanModel", name := "load", desc := "()I" } : Jvm.MethodName)) ∈ lw_all := lw_g (lw_at lw_m9 78 rfl) rfl
theorem q2121 : (Jvm.Cond.code ({ cls := "BakeryPlanModel", name := "load", desc := "()I" } : Jvm.MethodName) prog_13_method_46_code (1 : Nat) (Option.some Jvm.ClassFile.FieldType.int)) ∈ lw_all := lw_g (lw_at lw_m9 79 rfl) rfl
theorem q2122 : (Jvm.Cond.methodLink "BakeryPlanModel" (220 : Nat) ({ cls := "BakeryPlanModel", name := "readToken", desc := "()V" } : Jvm.MethodName)) ∈ lw_all := lw_g (lw_at lw_m9 80 rfl) rfl
theorem q2123 : (Jvm.Cond.privateMethod ({ cls := "BakeryPlanModel", name := "readToken", desc := "()V" } : Jvm.MethodName)) ∈ lw_tbl := lw_at lw_m9 81 rfl
theorem q2124 : (Jvm.Cond.instanceMethod ({ cls := "BakeryPlanModel", name := "readToken", desc := "()V" } : Jvm.MethodName)) ∈ lw_all := lw_g (lw_at lw_m9 82 rfl) rfl
theorem q2125 : (Jvm.Cond.code ({ cls := "BakeryPlanModel", name := "readToken", desc := "()V" } : Jvm.MethodName) prog_13_method_26_code (1 : Nat) (Option.none : Option Jvm.ClassFile.FieldType)) ∈ lw_all := lw_g (lw_at lw_m9 83 rfl) rfl
theorem q2126 : (Jvm.Cond.methodLink "BakeryPlanModel" (201 : Nat) ({ cls := "BakeryPlanModel", name := "isBlank", desc := "(I)Z" } : Jvm.MethodName)) ∈ lw_all := lw_g (lw_at lw_m9 84 rfl) rfl
theorem q2127 : (Jvm.Cond.privateMethod ({ cls := "BakeryPlanModel", name := "isBlank", desc := "(I)Z" } : Jvm.MethodName)) ∈ lw_tbl := lw_at lw_m9 85 rfl
theorem q2128 : (Jvm.Cond.instanceMethod ({ cls := "BakeryPlanModel", name := "isBlank", desc := "(I)Z" } : Jvm.MethodName)) ∈ lw_all := lw_g (lw_at lw_m9 86 rfl) rfl
theorem q2129 : (Jvm.Cond.code ({ cls := "BakeryPlanModel", name := "isBlank", desc := "(I)Z" } : Jvm.MethodName) prog_13_method_23_code (2 : Nat) (Option.some Jvm.ClassFile.FieldType.boolean)) ∈ lw_all := lw_g (lw_at lw_m9 87 rfl) rfl
theorem q2130 : (Jvm.Cond.methodLink "BakeryPlanModel" (174 : Nat) ({ cls := "BakeryPlanModel", name := "byteAt", desc := "(I)I" } : Jvm.MethodName)) ∈ lw_all := lw_g (lw_at lw_m9 88 rfl) rfl
theorem q2131 : (Jvm.Cond.privateMethod ({ cls := "BakeryPlanModel", name := "byteAt", desc := "(I)I" } : Jvm.MethodName)) ∈ lw_tbl := lw_at lw_m9 89 rfl
theorem q2132 : (Jvm.Cond.instanceMethod ({ cls := "BakeryPlanModel", name := "byteAt", desc := "(I)I" } : Jvm.MethodName)) ∈ lw_all := lw_g (lw_at lw_m9 90 rfl) rfl
theorem q2133 : (Jvm.Cond.code ({ cls := "BakeryPlanModel", name := "byteAt", desc := "(I)I" } : Jvm.MethodName) prog_13_method_20_code (2 : Nat) (Option.some Jvm.ClassFile.FieldType.int)) ∈ lw_all := lw_g (lw_at lw_m9 91 rfl) rfl
theorem q2134 : (Jvm.Cond.methodLink "BakeryPlanModel" (184 : Nat) ({ cls := "BakeryPlanModel", name := "isLetter", desc := "(I)Z" } : Jvm.MethodName)) ∈ lw_all := lw_g (lw_at lw_m9 92 rfl) rfl
theorem q2135 : (Jvm.Cond.privateMethod ({ cls := "BakeryPlanModel", name := "isLetter", desc := "(I)Z" } : Jvm.MethodName)) ∈ lw_tbl := lw_at lw_m9 93 rfl
theorem q2136 : (Jvm.Cond.instanceMethod ({ cls := "BakeryPlanModel", name := "isLetter", desc := "(I)Z" } : Jvm.MethodName)) ∈ lw_all := lw_g (lw_at lw_m9 94 rfl) rfl
theorem q2137 : (Jvm.Cond.code ({ cls := "BakeryPlanModel", name := "isLetter", desc := "(I)Z" } : Jvm.MethodName) prog_13_method_21_code (2 : Nat) (Option.some Jvm.ClassFile.FieldType.boolean)) ∈ lw_all := lw_g (lw_at lw_m9 95 rfl) rfl
theorem q2138 : (Jvm.Cond.methodLink "BakeryPlanModel" (207 : Nat) ({ cls := "BakeryPlanModel", name := "readWord", desc := "()V" } : Jvm.MethodName)) ∈ lw_all := lw_g (lw_at lw_m9 96 rfl) rfl
theorem q2139 : (Jvm.Cond.privateMethod ({ cls := "BakeryPlanModel", name := "readWord", desc := "()V" } : Jvm.MethodName)) ∈ lw_tbl := lw_at lw_m9 97 rfl
theorem q2140 : (Jvm.Cond.instanceMethod ({ cls := "BakeryPlanModel", name := "readWord", desc := "()V" } : Jvm.MethodName)) ∈ lw_all := lw_g (lw_at lw_m9 98 rfl) rfl
theorem q2141 : (Jvm.Cond.code ({ cls := "BakeryPlanModel", name := "readWord", desc := "()V" } : Jvm.MethodName) prog_13_method_24_code (2 : Nat) (Option.none : Option Jvm.ClassFile.FieldType)) ∈ lw_all := lw_g (lw_at lw_m9 99 rfl) rfl
theorem q2142 : (Jvm.Cond.constantLong "BakeryPlanModel" (188 : Nat) (32 : Int64)) ∈ lw_all := lw_g (lw_at lw_m9 100 rfl) rfl
theorem q2143 : (Jvm.Cond.constantLong "BakeryPlanModel" (190 : Nat) (97 : Int64)) ∈ lw_all := lw_g (lw_at lw_m9 101 rfl) rfl
theorem q2144 : (Jvm.Cond.methodLink "BakeryPlanModel" (198 : Nat) ({ cls := "BakeryPlanModel", name := "isDigit", desc := "(I)Z" } : Jvm.MethodName)) ∈ lw_all := lw_g (lw_at lw_m9 102 rfl) rfl
theorem q2145 : (Jvm.Cond.privateMethod ({ cls := "BakeryPlanModel", name := "isDigit", desc := "(I)Z" } : Jvm.MethodName)) ∈ lw_tbl := lw_at lw_m9 103 rfl
theorem q2146 : (Jvm.Cond.instanceMethod ({ cls := "BakeryPlanModel", name := "isDigit", desc := "(I)Z" } : Jvm.MethodName)) ∈ lw_all := lw_g (lw_at lw_m9 104 rfl) rfl
theorem q2147 : (Jvm.Cond.code ({ cls := "BakeryPlanModel", name := "isDigit", desc := "(I)Z" } : Jvm.MethodName) prog_13_method_22_code (2 : Nat) (Option.some Jvm.ClassFile.FieldType.boolean)) ∈ lw_all := lw_g (lw_at lw_m9 105 rfl) rfl
theorem q2148 : (Jvm.Cond.methodLink "BakeryPlanModel" (210 : Nat) ({ cls := "BakeryPlanModel", name := "readNumber", desc := "()V" } : Jvm.MethodName)) ∈ lw_all := lw_g (lw_at lw_m9 106 rfl) rfl
theorem q2149 : (Jvm.Cond.privateMethod ({ cls := "BakeryPlanModel", name := "readNumber", desc := "()V" } : Jvm.MethodName)) ∈ lw_tbl := lw_at lw_m9 107 rfl
theorem q2150 : (Jvm.Cond.instanceMethod ({ cls := "BakeryPlanModel", name := "readNumber", desc := "()V" } : Jvm.MethodName)) ∈ lw_all := lw_g (lw_at lw_m9 108 rfl) rfl
theorem q2151 : (Jvm.Cond.code ({ cls := "BakeryPlanModel", name := "readNumber", desc := "()V" } : Jvm.MethodName) prog_13_method_25_code (2 : Nat) (Option.none : Option Jvm.ClassFile.FieldType)) ∈ lw_all := lw_g (lw_at lw_m9 109 rfl) rfl
theorem q2152 : (Jvm.Cond.methodLink "BakeryPlanModel" (216 : Nat) ({ cls := "BakeryPlanModel", name := "isWell", desc := "()Z" } : Jvm.MethodName)) ∈ lw_all := lw_g (lw_at lw_m9 110 rfl) rfl
theorem q2153 : (Jvm.Cond.privateMethod ({ cls := "BakeryPlanModel", name := "isWell", desc := "()Z" } : Jvm.MethodName)) ∈ lw_tbl := lw_at lw_m9 111 rfl
theorem q2154 : (Jvm.Cond.instanceMethod ({ cls := "BakeryPlanModel", name := "isWell", desc := "()Z" } : Jvm.MethodName)) ∈ lw_all := lw_g (lw_at lw_m9 112 rfl) rfl
theorem q2155 : (Jvm.Cond.code ({ cls := "BakeryPlanModel", name := "isWell", desc := "()Z" } : Jvm.MethodName) prog_13_method_27_code (1 : Nat) (Option.some Jvm.ClassFile.FieldType.boolean)) ∈ lw_all := lw_g (lw_at lw_m9 113 rfl) rfl
theorem q2156 : (Jvm.Cond.methodLink "BakeryPlanModel" (297 : Nat) ({ cls := "BakeryPlanModel", name := "readStatement", desc := "()V" } : Jvm.MethodName)) ∈ lw_all := lw_g (lw_at lw_m9 114 rfl) rfl
theorem q2157 : (Jvm.Cond.privateMethod ({ cls := "BakeryPlanModel", name := "readStatement", desc := "()V" } : Jvm.MethodName)) ∈ lw_tbl := lw_at lw_m9 115 rfl
theorem q2158 : (Jvm.Cond.instanceMethod ({ cls := "BakeryPlanModel", name := "readStatement", desc := "()V" } : Jvm.MethodName)) ∈ lw_all := lw_g (lw_at lw_m9 116 rfl) rfl
theorem q2159 : (Jvm.Cond.code ({ cls := "BakeryPlanModel", name := "readStatement", desc := "()V" } : Jvm.MethodName) prog_13_method_45_code (1 : Nat) (Option.none : Option Jvm.ClassFile.FieldType)) ∈ lw_all := lw_g (lw_at lw_m9 117 rfl) rfl
theorem q2160 : (Jvm.Cond.methodLink "BakeryPlanModel" (229 : Nat) ({ cls := "BakeryPlanModel", name := "spelled", desc := "(IIIIIII)J" } : Jvm.MethodName)) ∈ lw_all := lw_g (lw_at lw_m9 118 rfl) rfl
theorem q2161 : (Jvm.Cond.static ({ cls := "BakeryPlanModel", name := "spelled", desc := "(IIIIIII)J" } : Jvm.MethodName)) ∈ lw_all := lw_g (lw_at lw_m9 119 rfl) rfl
theorem q2162 : (Jvm.Cond.code ({ cls := "BakeryPlanModel", name := "spelled", desc := "(IIIIIII)J" } : Jvm.MethodName) prog_13_method_31_code (9 : Nat) (Option.some Jvm.ClassFile.FieldType.long)) ∈ lw_all := lw_g (lw_at lw_m9 120 rfl) rfl
theorem q2163 : (Jvm.Cond.methodLink "BakeryPlanModel" (225 : Nat) ({ cls := "BakeryPlanModel", name := "more", desc := "(JI)J" } : Jvm.MethodName)) ∈ lw_all := lw_g (lw_at lw_m9 121 rfl) rfl
theorem q2164 : (Jvm.Cond.static ({ cls := "BakeryPlanModel", name := "more", desc := "(JI)J" } : Jvm.MethodName)) ∈ lw_all := lw_g (lw_at lw_m9 122 rfl) rfl
theorem q2165 : (Jvm.Cond.code ({ cls := "BakeryPlanModel", name := "more", desc := "(JI)J" } : Jvm.MethodName) prog_13_method_30_code (3 : Nat) (Option.some Jvm.ClassFile.FieldType.long)) ∈ lw_all := lw_g (lw_at lw_m9 123 rfl) rfl
theorem q2166 : (Jvm.Cond.constantLong "BakeryPlanModel" (223 : Nat) (96 : Int64)) ∈ lw_all := lw_g (lw_at lw_m9 124 rfl) rfl
theorem q2167 : (Jvm.Cond.methodLink "BakeryPlanModel" (233 : Nat) ({ cls := "BakeryPlanModel", name := "isWord", desc := "(J)Z" } : Jvm.MethodName)) ∈ lw_all := lw_g (lw_at lw_m9 125 rfl) rfl
theorem q2168 : (Jvm.Cond.privateMethod ({ cls := "BakeryPlanModel", name := "isWord", desc := "(J)Z" } : Jvm.MethodName)) ∈ lw_tbl := lw_at lw_m9 126 rfl
theorem q2169 : (Jvm.Cond.instanceMethod ({ cls := "BakeryPlanModel", name := "isWord", desc := "(J)Z" } : Jvm.MethodName)) ∈ lw_all := lw_g (lw_at lw_m9 127 rfl) rfl
theorem q2170 : (Jvm.Cond.code ({ cls := "BakeryPlanModel", name := "isWord", desc := "(J)Z" } : Jvm.MethodName) prog_13_method_32_code (3 : Nat) (Option.some Jvm.ClassFile.FieldType.boolean)) ∈ lw_all := lw_g (lw_at lw_m9 128 rfl) rfl
theorem q2171 : (Jvm.Cond.methodLink "BakeryPlanModel" (279 : Nat) ({ cls := "BakeryPlanModel", name := "readProduct", desc := "()V" } : Jvm.MethodName)) ∈ lw_all := lw_g (lw_at lw_m9 129 rfl) rfl
theorem q2172 : (Jvm.Cond.privateMethod ({ cls := "BakeryPlanModel", name := "readProduct", desc := "()V" } : Jvm.MethodName)) ∈ lw_tbl := lw_at lw_m9 130 rfl
theorem q2173 : (Jvm.Cond.instanceMethod ({ cls := "BakeryPlanModel", name := "readProduct", desc := "()V" } : Jvm.MethodName)) ∈ lw_all := lw_g (lw_at lw_m9 131 rfl) rfl
theorem q2174 : (Jvm.Cond.code ({ cls := "BakeryPlanModel", name := "readProduct", desc := "()V" } : Jvm.MethodName) prog_13_method_40_code (2 : Nat) (Option.none : Option Jvm.ClassFile.FieldType)) ∈ lw_all := lw_g (lw_at lw_m9 132 rfl) rfl
theorem q2175 : (Jvm.Cond.methodLink "BakeryPlanModel" (256 : Nat) ({ cls := "BakeryPlanModel", name := "must", desc := "(Z)V" } : Jvm.MethodName)) ∈ lw_all := lw_g (lw_at lw_m9 133 rfl) rfl
theorem q2176 : (Jvm.Cond.privateMethod ({ cls := "BakeryPlanModel", name := "must", desc := "(Z)V" } : Jvm.MethodName)) ∈ lw_tbl := lw_at lw_m9 134 rfl
theorem q2177 : (Jvm.Cond.instanceMethod ({ cls := "BakeryPlanModel", name := "must", desc := "(Z)V" } : Jvm.MethodName)) ∈ lw_all := lw_g (lw_at lw_m9 135 rfl) rfl
theorem q2178 : (Jvm.Cond.code ({ cls := "BakeryPlanModel", name := "must", desc := "(Z)V" } : Jvm.MethodName) prog_13_method_28_code (2 : Nat) (Option.none : Option Jvm.ClassFile.FieldType)) ∈ lw_all := lw_g (lw_at lw_m9 136 rfl) rfl
theorem q2179 : (Jvm.Cond.methodLink "BakeryPlanModel" (260 : Nat) ({ cls := "BakeryPlanModel", name := "goesOn", desc := "()V" } : Jvm.MethodName)) ∈ lw_all := lw_g (lw_at lw_m9 137 rfl) rfl
theorem q2180 : (Jvm.Cond.privateMethod ({ cls := "BakeryPlanModel", name := "goesOn", desc := "()V" } : Jvm.MethodName)) ∈ lw_tbl := lw_at lw_m9 138 rfl
theorem q2181 : (Jvm.Cond.instanceMethod ({ cls := "BakeryPlanModel", name := "goesOn", desc := "()V" } : Jvm.MethodName)) ∈ lw_all := lw_g (lw_at lw_m9 139 rfl) rfl
theorem q2182 : (Jvm.Cond.code ({ cls := "BakeryPlanModel", name := "goesOn", desc := "()V" } : Jvm.MethodName) prog_13_method_29_code (1 : Nat) (Option.none : Option Jvm.ClassFile.FieldType)) ∈ lw_all := lw_g (lw_at lw_m9 140 rfl) rfl
theorem q2183 : (Jvm.Cond.methodLink "BakeryPlanModel" (263 : Nat) ({ cls := "BakeryPlanModel", name := "productHere", desc := "()I" } : Jvm.MethodName)) ∈ lw_all := lw_g (lw_at lw_m9 141 rfl) rfl
theorem q2184 : (Jvm.Cond.privateMethod ({ cls := "BakeryPlanModel", name := "productHere", desc := "()I" } : Jvm.MethodName)) ∈ lw_tbl := lw_at lw_m9 142 rfl
theorem q2185 : (Jvm.Cond.instanceMethod ({ cls := "BakeryPlanModel", name := "productHere", desc := "()I" } : Jvm.MethodName)) ∈ lw_all := lw_g (lw_at lw_m9 143 rfl) rfl
theorem q2186 : (Jvm.Cond.code ({ cls := "BakeryPlanModel", name := "productHere", desc := "()I" } : Jvm.MethodName) prog_13_method_39_code (2 : Nat) (Option.some Jvm.ClassFile.FieldType.int)) ∈ lw_all := lw_g (lw_at lw_m9 144 rfl) rfl
theorem q2187 : (Jvm.Cond.methodLink "BakeryPlanModel" (266 : Nat) ({ cls := "BakeryPlanModel", name := "readValue", desc := "(II)I" } : Jvm.MethodName)) ∈ lw_all := lw_g (lw_at lw_m9 145 rfl) rfl
theorem q2188 : (Jvm.Cond.privateMethod ({ cls := "BakeryPlanModel", name := "readValue", desc := "(II)I" } : Jvm.MethodName)) ∈ lw_tbl := lw_at lw_m9 146 rfl
theorem q2189 : (Jvm.Cond.instanceMethod ({ cls := "BakeryPlanModel", name := "readValue", desc := "(II)I" } : Jvm.MethodName)) ∈ lw_all := lw_g (lw_at lw_m9 147 rfl) rfl
theorem q2190 : (Jvm.Cond.code ({ cls := "BakeryPlanModel", name := "readValue", desc := "(II)I" } : Jvm.MethodName) prog_13_method_38_code (4 : Nat) (Option.some Jvm.ClassFile.FieldType.int)) ∈ lw_all := lw_g (lw_at lw_m9 148 rfl) rfl
theorem q2191 : (Jvm.Cond.methodLink "BakeryPlanModel" (237 : Nat) ({ cls := "BakeryPlanModel", name := "isWaveWord", desc := "()Z" } : Jvm.MethodName)) ∈ lw_all := lw_g (lw_at lw_m9 149 rfl) rfl
theorem q2192 : (Jvm.Cond.privateMethod ({ cls := "BakeryPlanModel", name := "isWaveWord", desc := "()Z" } : Jvm.MethodName)) ∈ lw_tbl := lw_at lw_m9 150 rfl
theorem q2193 : (Jvm.Cond.instanceMethod ({ cls := "BakeryPlanModel", name := "isWaveWord", desc := "()Z" } : Jvm.MethodName)) ∈ lw_all := lw_g (lw_at lw_m9 151 rfl) rfl
theorem q2194 : (Jvm.Cond.code ({ cls := "BakeryPlanModel", name := "isWaveWord", desc := "()Z" } : Jvm.MethodName) prog_13_method_34_code (1 : Nat) (Option.some Jvm.ClassFile.FieldType.boolean)) ∈ lw_all := lw_g (lw_at lw_m9 152 rfl) rfl
theorem q2195 : (Jvm.Cond.methodLink "BakeryPlanModel" (282 : Nat) ({ cls := "BakeryPlanModel", name := "readWave", desc := "()V" } : Jvm.MethodName)) ∈ lw_all := lw_g (lw_at lw_m9 153 rfl) rfl
theorem q2196 : (Jvm.Cond.privateMethod ({ cls := "BakeryPlanModel", name := "readWave", desc := "()V" } : Jvm.MethodName)) ∈ lw_tbl := lw_at lw_m9 154 rfl
theorem q2197 : (Jvm.Cond.instanceMethod ({ cls := "BakeryPlanModel", name := "readWave", desc := "()V" } : Jvm.MethodName)) ∈ lw_all := lw_g (lw_at lw_m9 155 rfl) rfl
theorem q2198 : (Jvm.Cond.code ({ cls := "BakeryPlanModel", name := "readWave", desc := "()V" } : Jvm.MethodName) prog_13_method_41_code (3 : Nat) (Option.none : Option Jvm.ClassFile.FieldType)) ∈ lw_all := lw_g (lw_at lw_m9 156 rfl) rfl
theorem q2199 : (Jvm.Cond.methodLink "BakeryPlanModel" (285 : Nat) ({ cls := "BakeryPlanModel", name := "readBatch", desc := "()V" } : Jvm.MethodName)) ∈ lw_all := lw_g (lw_at lw_m9 157 rfl) rfl
theorem q2200 : (Jvm.Cond.privateMethod ({ cls := "BakeryPlanModel", name := "readBatch", desc := "()V" } : Jvm.MethodName)) ∈ lw_tbl := lw_at lw_m9 158 rfl
theorem q2201 : (Jvm.Cond.instanceMethod ({ cls := "BakeryPlanModel", name := "readBatch", desc := "()V" } : Jvm.MethodName)) ∈ lw_all := lw_g (lw_at lw_m9 159 rfl) rfl
theorem q2202 : (Jvm.Cond.code ({ cls := "BakeryPlanModel", name := "readBatch", desc := "()V" } : Jvm.MethodName) prog_13_method_42_code (6 : Nat) (Option.none : Option Jvm.ClassFile.FieldType)) ∈ lw_all := lw_g (lw_at lw_m9 160 rfl) rfl
theorem q2203 : (Jvm.Cond.methodLink "BakeryPlanModel" (288 : Nat) ({ cls := "BakeryPlanModel", name := "readPolicy", desc := "()V" } : Jvm.MethodName)) ∈ lw_all := lw_g (lw_at lw_m9 161 rfl) rfl
theorem q2204 : (Jvm.Cond.privateMethod ({ cls := "BakeryPlanModel", name := "readPolicy", desc := "()V" } : Jvm.MethodName)) ∈ lw_tbl := lw_at lw_m9 162 rfl
theorem q2205 : (Jvm.Cond.instanceMethod ({ cls := "BakeryPlanModel", name := "readPolicy", desc := "()V" } : Jvm.MethodName)) ∈ lw_all := lw_g (lw_at lw_m9 163 rfl) rfl
theorem q2206 : (Jvm.Cond.code ({ cls := "BakeryPlanModel", name := "readPolicy", desc := "()V" } : Jvm.MethodName) prog_13_method_44_code (2 : Nat) (Option.none : Option Jvm.ClassFile.FieldType)) ∈ lw_all := lw_g (lw_at lw_m9 164 rfl) rfl
theorem q2207 : (Jvm.Cond.methodLink "BakeryPlanModel" (276 : Nat) ({ cls := "BakeryPlanModel", name := "policyHere", desc := "()I" } : Jvm.MethodName)) ∈ lw_all := lw_g (lw_at lw_m9 165 rfl) rfl
theorem q2208 : (Jvm.Cond.privateMethod ({ cls := "BakeryPlanModel", name := "policyHere", desc := "()I" } : Jvm.MethodName)) ∈ lw_tbl := lw_at lw_m9 166 rfl
theorem q2209 : (Jvm.Cond.instanceMethod ({ cls := "BakeryPlanModel", name := "policyHere", desc := "()I" } : Jvm.MethodName)) ∈ lw_all := lw_g (lw_at lw_m9 167 rfl) rfl
theorem q2210 : (Jvm.Cond.code ({ cls := "BakeryPlanModel", name := "policyHere", desc := "()I" } : Jvm.MethodName) prog_13_method_35_code (1 : Nat) (Option.some Jvm.ClassFile.FieldType.int)) ∈ lw_all := lw_g (lw_at lw_m9 168 rfl) rfl
theorem q2211 : (Jvm.Cond.methodLink "BakeryPlanModel" (291 : Nat) ({ cls := "BakeryPlanModel", name := "settingHere", desc := "()I" } : Jvm.MethodName)) ∈ lw_all := lw_g (lw_at lw_m9 169 rfl) rfl
theorem q2212 : (Jvm.Cond.privateMethod ({ cls := "BakeryPlanModel", name := "settingHere", desc := "()I" } : Jvm.MethodName)) ∈ lw_tbl := lw_at lw_m9 170 rfl
theorem q2213 : (Jvm.Cond.instanceMethod ({ cls := "BakeryPlanModel", name := "settingHere", desc := "()I" } : Jvm.MethodName)) ∈ lw_all := lw_g (lw_at lw_m9 171 rfl) rfl
theorem q2214 : (Jvm.Cond.code ({ cls := "BakeryPlanModel", name := "settingHere", desc := "()I" } : Jvm.MethodName) prog_13_method_33_code (1 : Nat) (Option.some Jvm.ClassFile.FieldType.int)) ∈ lw_all := lw_g (lw_at lw_m9 172 rfl) rfl
theorem q2215 : (Jvm.Cond.methodLink "BakeryPlanModel" (294 : Nat) ({ cls := "BakeryPlanModel", name := "readSetting", desc := "(I)V" } : Jvm.MethodName)) ∈ lw_all := lw_g (lw_at lw_m9 173 rfl) rfl
theorem q2216 : (Jvm.Cond.privateMethod ({ cls := "BakeryPlanModel", name := "readSetting", desc := "(I)V" } : Jvm.MethodName)) ∈ lw_tbl := lw_at lw_m9 174 rfl
theorem q2217 : (Jvm.Cond.instanceMethod ({ cls := "BakeryPlanModel", name := "readSetting", desc := "(I)V" } : Jvm.MethodName)) ∈ lw_all := lw_g (lw_at lw_m9 175 rfl) rfl
theorem q2218 : (Jvm.Cond.code ({ cls := "BakeryPlanModel", name := "readSetting", desc := "(I)V" } : Jvm.MethodName) prog_13_method_43_code (3 : Nat) (Option.none : Option Jvm.ClassFile.FieldType)) ∈ lw_all := lw_g (lw_at lw_m9 176 rfl) rfl
theorem q2219 : (Jvm.Cond.methodLink "BakeryPlanModel" (270 : Nat) ({ cls := "BakeryPlanModel", name := "least", desc := "(I)I" } : Jvm.MethodName)) ∈ lw_all := lw_g (lw_at lw_m9 177 rfl) rfl
theorem q2220 : (Jvm.Cond.static ({ cls := "BakeryPlanModel", name := "least", desc := "(I)I" } : Jvm.MethodName)) ∈ lw_all := lw_g (lw_at lw_m9 178 rfl) rfl
theorem q2221 : (Jvm.Cond.code ({ cls := "BakeryPlanModel", name := "least", desc := "(I)I" } : Jvm.MethodName) prog_13_method_15_code (1 : Nat) (Option.some Jvm.ClassFile.FieldType.int)) ∈ lw_all := lw_g (lw_at lw_m9 179 rfl) rfl
theorem q2222 : (Jvm.Cond.methodLink "BakeryPlanModel" (273 : Nat) ({ cls := "BakeryPlanModel", name := "greatest", desc := "(I)I" } : Jvm.MethodName)) ∈ lw_all := lw_g (lw_at lw_m9 180 rfl) rfl
theorem q2223 : (Jvm.Cond.static ({ cls := "BakeryPlanModel", name := "greatest", desc := "(I)I" } : Jvm.MethodName)) ∈ lw_all := lw_g (lw_at lw_m9 181 rfl) rfl
theorem q2224 : (Jvm.Cond.code ({ cls := "BakeryPlanModel", name := "greatest", desc := "(I)I" } : Jvm.MethodName) prog_13_method_16_code (1 : Nat) (Option.some Jvm.ClassFile.FieldType.int)) ∈ lw_all := lw_g (lw_at lw_m9 182 rfl) rfl
theorem q2225 : (Jvm.Cond.methodLink "BakeryPlanModel" (147 : Nat) ({ cls := "BakeryPlanModel", name := "many", desc := "()I" } : Jvm.MethodName)) ∈ lw_all := lw_g (lw_at lw_m9 183 rfl) rfl
theorem q2226 : (Jvm.Cond.privateMethod ({ cls := "BakeryPlanModel", name := "many", desc := "()I" } : Jvm.MethodName)) ∈ lw_tbl := lw_at lw_m9 184 rfl
theorem q2227 : (Jvm.Cond.instanceMethod ({ cls := "BakeryPlanModel", name := "many", desc := "()I" } : Jvm.MethodName)) ∈ lw_all := lw_g (lw_at lw_m9 185 rfl) rfl
theorem q2228 : (Jvm.Cond.code ({ cls := "BakeryPlanModel", name := "many", desc := "()I" } : Jvm.MethodName) prog_13_method_9_code (1 : Nat) (Option.some Jvm.ClassFile.FieldType.int)) ∈ lw_all := lw_g (lw_at lw_m9 186 rfl) rfl
theorem q2229 : (Jvm.Cond.methodLink "BakeryPlanModel" (143 : Nat) ({ cls := "BakeryPlanModel", name := "get", desc := "(I)I" } : Jvm.MethodName)) ∈ lw_all := lw_g (lw_at lw_m9 187 rfl) rfl
theorem q2230 : (Jvm.Cond.privateMethod ({ cls := "BakeryPlanModel", name := "get", desc := "(I)I" } : Jvm.MethodName)) ∈ lw_tbl := lw_at lw_m9 188 rfl
theorem q2231 : (Jvm.Cond.instanceMethod ({ cls := "BakeryPlanModel", name := "get", desc := "(I)I" } : Jvm.MethodName)) ∈ lw_all := lw_g (lw_at lw_m9 189 rfl) rfl
theorem q2232 : (Jvm.Cond.code ({ cls := "BakeryPlanModel", name := "get", desc := "(I)I" } : Jvm.MethodName) prog_13_method_5_code (2 : Nat) (Option.some Jvm.ClassFile.FieldType.int)) ∈ lw_all := lw_g (lw_at lw_m9 190 rfl) rfl
theorem q2234 : (Jvm.Cond.instanceMethod ({ cls := "BakeryPlanModel", name := "errorOffset", desc := "()I" } : Jvm.MethodName)) ∈ lw_all := lw_g (lw_at lw_m9 192 rfl) rfl
theorem q2235 : (Jvm.Cond.selects "BakeryPlanModel" ({ cls := "BakeryPlanModel", name := "errorOffset", desc := "()I" } : Jvm.MethodName) ({ cls := "BakeryPlanModel", name := "errorOffset", desc := "()I" } : Jvm.MethodName)) ∈ lw_all := lw_g (lw_at lw_m9 193 rfl) rfl
theorem q2236 : (Jvm.Cond.code ({ cls := "BakeryPlanModel", name := "errorOffset", desc := "()I" } : Jvm.MethodName) prog_13_method_47_code (1 : Nat) (Option.some Jvm.ClassFile.FieldType.int)) ∈ lw_all := lw_g (lw_at lw_m9 194 rfl) rfl
theorem q2238 : (Jvm.Cond.instanceMethod ({ cls := "BakeryPlanModel", name := "products", desc := "()I" } : Jvm.MethodName)) ∈ lw_all := lw_g (lw_at lw_m9 196 rfl) rfl
theorem q2239 : (Jvm.Cond.selects "BakeryPlanModel" ({ cls := "BakeryPlanModel", name := "products", desc := "()I" } : Jvm.MethodName) ({ cls := "BakeryPlanModel", name := "products", desc := "()I" } : Jvm.MethodName)) ∈ lw_all := lw_g (lw_at lw_m9 197 rfl) rfl
theorem q2240 : (Jvm.Cond.code ({ cls := "BakeryPlanModel", name := "products", desc := "()I" } : Jvm.MethodName) prog_13_method_48_code (1 : Nat) (Option.some Jvm.ClassFile.FieldType.int)) ∈ lw_all := lw_g (lw_at lw_m9 198 rfl) rfl
theorem q2242 : (Jvm.Cond.instanceMethod ({ cls := "BakeryPlanModel", name := "waves", desc := "()I" } : Jvm.MethodName)) ∈ lw_all := lw_g (lw_at lw_m9 200 rfl) rfl
theorem q2243 : (Jvm.Cond.selects "BakeryPlanModel" ({ cls := "BakeryPlanModel", name := "waves", desc := "()I" } : Jvm.MethodName) ({ cls := "BakeryPlanModel", name := "waves", desc := "()I" } : Jvm.MethodName)) ∈ lw_all := lw_g (lw_at lw_m9 201 rfl) rfl
theorem q2244 : (Jvm.Cond.code ({ cls := "BakeryPlanModel", name := "waves", desc := "()I" } : Jvm.MethodName) prog_13_method_49_code (1 : Nat) (Option.some Jvm.ClassFile.FieldType.int)) ∈ lw_all := lw_g (lw_at lw_m9 202 rfl) rfl
theorem q2246 : (Jvm.Cond.instanceMethod ({ cls := "BakeryPlanModel", name := "batches", desc := "()I" } : Jvm.MethodName)) ∈ lw_all := lw_g (lw_at lw_m9 204 rfl) rfl
theorem q2247 : (Jvm.Cond.selects "BakeryPlanModel" ({ cls := "BakeryPlanModel", name := "batches", desc := "()I" } : Jvm.MethodName) ({ cls := "BakeryPlanModel", name := "batches", desc := "()I" } : Jvm.MethodName)) ∈ lw_all := lw_g (lw_at lw_m9 205 rfl) rfl
theorem q2248 : (Jvm.Cond.code ({ cls := "BakeryPlanModel", name := "batches", desc := "()I" } : Jvm.MethodName) prog_13_method_50_code (1 : Nat) (Option.some Jvm.ClassFile.FieldType.int)) ∈ lw_all := lw_g (lw_at lw_m9 206 rfl) rfl
theorem q2250 : (Jvm.Cond.instanceMethod ({ cls := "BakeryPlanModel", name := "waveMinute", desc := "(I)I" } : Jvm.MethodName)) ∈ lw_all := lw_g (lw_at lw_m9 208 rfl) rfl
theorem q2251 : (Jvm.Cond.selects "BakeryPlanModel" ({ cls := "BakeryPlanModel", name := "waveMinute", desc := "(I)I" } : Jvm.MethodName) ({ cls := "BakeryPlanModel", name := "waveMinute", desc := "(I)I" } : Jvm.MethodName)) ∈ lw_all := lw_g (lw_at lw_m9 209 rfl) rfl
theorem q2252 : (Jvm.Cond.code ({ cls := "BakeryPlanModel", name := "waveMinute", desc := "(I)I" } : Jvm.MethodName) prog_13_method_51_code (2 : Nat) (Option.some Jvm.ClassFile.FieldType.int)) ∈ lw_all := lw_g (lw_at lw_m9 210 rfl) rfl
theorem q2253 : (Jvm.Cond.methodLink "BakeryPlanModel" (300 : Nat) ({ cls := "BakeryPlanModel", name := "isWave", desc := "(I)Z" } : Jvm.MethodName)) ∈ lw_all := lw_g (lw_at lw_m9 211 rfl) rfl
theorem q2254 : (Jvm.Cond.privateMethod ({ cls := "BakeryPlanModel", name := "isWave", desc := "(I)Z" } : Jvm.MethodName)) ∈ lw_tbl := lw_at lw_m9 212 rfl
theorem q2255 : (Jvm.Cond.instanceMethod ({ cls := "BakeryPlanModel", name := "isWave", desc := "(I)Z" } : Jvm.MethodName)) ∈ lw_all := lw_g (lw_at lw_m9 213 rfl) rfl
theorem q2256 : (Jvm.Cond.code ({ cls := "BakeryPlanModel", name := "isWave", desc := "(I)Z" } : Jvm.MethodName) prog_13_method_12_code (2 : Nat) (Option.some Jvm.ClassFile.FieldType.boolean)) ∈ lw_all := lw_g (lw_at lw_m9 214 rfl) rfl
theorem q2258 : (Jvm.Cond.instanceMethod ({ cls := "BakeryPlanModel", name := "productOf", desc := "(I)I" } : Jvm.MethodName)) ∈ lw_all := lw_g (lw_at lw_m9 216 rfl) rfl
theorem q2259 : (Jvm.Cond.selects "BakeryPlanModel" ({ cls := "BakeryPlanModel", name := "productOf", desc := "(I)I" } : Jvm.MethodName) ({ cls := "BakeryPlanModel", name := "productOf", desc := "(I)I" } : Jvm.MethodName)) ∈ lw_all := lw_g (lw_at lw_m9 217 rfl) rfl
theorem q2260 : (Jvm.Cond.code ({ cls := "BakeryPlanModel", name := "productOf", desc := "(I)I" } : Jvm.MethodName) prog_13_method_53_code (2 : Nat) (Option.some Jvm.ClassFile.FieldType.int)) ∈ lw_all := lw_g (lw_at lw_m9 218 rfl) rfl
theorem q2261 : (Jvm.Cond.methodLink "BakeryPlanModel" (309 : Nat) ({ cls := "BakeryPlanModel", name := "told", desc := "(II)I" } : Jvm.MethodName)) ∈ lw_all := lw_g (lw_at lw_m9 219 rfl) rfl
theorem q2262 : (Jvm.Cond.privateMethod ({ cls := "BakeryPlanModel", name := "told", desc := "(II)I" } : Jvm.MethodName)) ∈ lw_tbl := lw_at lw_m9 220 rfl
theorem q2263 : (Jvm.Cond.instanceMethod ({ cls := "BakeryPlanModel", name := "told", desc := "(II)I" } : Jvm.MethodName)) ∈ lw_all := lw_g (lw_at lw_m9 221 rfl) rfl
theorem q2264 : (Jvm.Cond.code ({ cls := "BakeryPlanModel", name := "told", desc := "(II)I" } : Jvm.MethodName) prog_13_method_52_code (3 : Nat) (Option.some Jvm.ClassFile.FieldType.int)) ∈ lw_all := lw_g (lw_at lw_m9 222 rfl) rfl
theorem q2265 : (Jvm.Cond.methodLink "BakeryPlanModel" (303 : Nat) ({ cls := "BakeryPlanModel", name := "isBatch", desc := "(I)Z" } : Jvm.MethodName)) ∈ lw_all := lw_g (lw_at lw_m9 223 rfl) rfl
theorem q2266 : (Jvm.Cond.privateMethod ({ cls := "BakeryPlanModel", name := "isBatch", desc := "(I)Z" } : Jvm.MethodName)) ∈ lw_tbl := lw_at lw_m9 224 rfl
theorem q2267 : (Jvm.Cond.instanceMethod ({ cls := "BakeryPlanModel", name := "isBatch", desc := "(I)Z" } : Jvm.MethodName)) ∈ lw_all := lw_g (lw_at lw_m9 225 rfl) rfl
theorem q2268 : (Jvm.Cond.code ({ cls := "BakeryPlanModel", name := "isBatch", desc := "(I)Z" } : Jvm.MethodName) prog_13_method_10_code (2 : Nat) (Option.some Jvm.ClassFile.FieldType.boolean)) ∈ lw_all := lw_g (lw_at lw_m9 226 rfl) rfl
theorem q2269 : (Jvm.Cond.methodLink "BakeryPlanModel" (306 : Nat) ({ cls := "BakeryPlanModel", name := "batch", desc := "(II)I" } : Jvm.MethodName)) ∈ lw_all := lw_g (lw_at lw_m9 227 rfl) rfl
theorem q2270 : (Jvm.Cond.privateMethod ({ cls := "BakeryPlanModel", name := "batch", desc := "(II)I" } : Jvm.MethodName)) ∈ lw_tbl := lw_at lw_m9 228 rfl
theorem q2271 : (Jvm.Cond.instanceMethod ({ cls := "BakeryPlanModel", name := "batch", desc := "(II)I" } : Jvm.MethodName)) ∈ lw_all := lw_g (lw_at lw_m9 229 rfl) rfl
theorem q2272 : (Jvm.Cond.code ({ cls := "BakeryPlanModel", name := "batch", desc := "(II)I" } : Jvm.MethodName) prog_13_method_7_code (3 : Nat) (Option.some Jvm.ClassFile.FieldType.int)) ∈ lw_all := lw_g (lw_at lw_m9 230 rfl) rfl
theorem q2274 : (Jvm.Cond.instanceMethod ({ cls := "BakeryPlanModel", name := "startOf", desc := "(I)I" } : Jvm.MethodName)) ∈ lw_all := lw_g (lw_at lw_m9 232 rfl) rfl
theorem q2275 : (Jvm.Cond.selects "BakeryPlanModel" ({ cls := "BakeryPlanModel", name := "startOf", desc := "(I)I" } : Jvm.MethodName) ({ cls := "BakeryPlanModel", name := "startOf", desc := "(I)I" } : Jvm.MethodName)) ∈ lw_all := lw_g (lw_at lw_m9 233 rfl) rfl
theorem q2276 : (Jvm.Cond.code ({ cls := "BakeryPlanModel", name := "startOf", desc := "(I)I" } : Jvm.MethodName) prog_13_method_54_code (2 : Nat) (Option.some Jvm.ClassFile.FieldType.int)) ∈ lw_all := lw_g (lw_at lw_m9 234 rfl) rfl
theorem q2278 : (Jvm.Cond.instanceMethod ({ cls := "BakeryPlanModel", name := "waveOf", desc := "(I)I" } : Jvm.MethodName)) ∈ lw_all := lw_g (lw_at lw_m9 236 rfl) rfl
theorem q2279 : (Jvm.Cond.selects "BakeryPlanModel" ({ cls := "BakeryPlanModel", name := "waveOf", desc := "(I)I" } : Jvm.MethodName) ({ cls := "BakeryPlanModel", name := "waveOf", desc := "(I)I" } : Jvm.MethodName)) ∈ lw_all := lw_g (lw_at lw_m9 237 rfl) rfl
theorem q2280 : (Jvm.Cond.code ({ cls := "BakeryPlanModel", name := "waveOf", desc := "(I)I" } : Jvm.MethodName) prog_13_method_55_code (2 : Nat) (Option.some Jvm.ClassFile.FieldType.int)) ∈ lw_all := lw_g (lw_at lw_m9 238 rfl) rfl
theorem q2282 : (Jvm.Cond.instanceMethod ({ cls := "BakeryPlanModel", name := "setting", desc := "(I)I" } : Jvm.MethodName)) ∈ lw_all := lw_g (lw_at lw_m10 0 rfl) rfl
theorem q2283 : (Jvm.Cond.selects "BakeryPlanModel" ({ cls := "BakeryPlanModel", name := "setting", desc := "(I)I" } : Jvm.MethodName) ({ cls := "BakeryPlanModel", name := "setting", desc := "(I)I" } : Jvm.MethodName)) ∈ lw_all := lw_g (lw_at lw_m10 1 rfl) rfl
theorem q2284 : (Jvm.Cond.code ({ cls := "BakeryPlanModel", name := "setting", desc := "(I)I" } : Jvm.MethodName) prog_13_method_56_code (2 : Nat) (Option.some Jvm.ClassFile.FieldType.int)) ∈ lw_all := lw_g (lw_at lw_m10 2 rfl) rfl
theorem q2286 : (Jvm.Cond.instanceMethod ({ cls := "BakeryPlanModel", name := "policy", desc := "()I" } : Jvm.MethodName)) ∈ lw_all := lw_g (lw_at lw_m10 4 rfl) rfl
theorem q2287 : (Jvm.Cond.selects "BakeryPlanModel" ({ cls := "BakeryPlanModel", name := "policy", desc := "()I" } : Jvm.MethodName) ({ cls := "BakeryPlanModel", name := "policy", desc := "()I" } : Jvm.MethodName)) ∈ lw_all := lw_g (lw_at lw_m10 5 rfl) rfl
theorem q2288 : (Jvm.Cond.code ({ cls := "BakeryPlanModel", name := "policy", desc := "()I" } : Jvm.MethodName) prog_13_method_57_code (1 : Nat) (Option.some Jvm.ClassFile.FieldType.int)) ∈ lw_all := lw_g (lw_at lw_m10 6 rfl) rfl
theorem q2290 : (Jvm.Cond.instanceMethod ({ cls := "BakeryPlanModel", name := "state", desc := "(I)I" } : Jvm.MethodName)) ∈ lw_all := lw_g (lw_at lw_m10 8 rfl) rfl
theorem q2291 : (Jvm.Cond.selects "BakeryPlanModel" ({ cls := "BakeryPlanModel", name := "state", desc := "(I)I" } : Jvm.MethodName) ({ cls := "BakeryPlanModel", name := "state", desc := "(I)I" } : Jvm.MethodName)) ∈ lw_all := lw_g (lw_at lw_m10 9 rfl) rfl
theorem q2292 : (Jvm.Cond.code ({ cls := "BakeryPlanModel", name := "state", desc := "(I)I" } : Jvm.MethodName) prog_13_method_91_code (2 : Nat) (Option.some Jvm.ClassFile.FieldType.int)) ∈ lw_all := lw_g (lw_at lw_m10 10 rfl) rfl
theorem q2293 : (Jvm.Cond.methodLink "BakeryPlanModel" (405 : Nat) ({ cls := "BakeryPlanModel", name := "plays", desc := "()V" } : Jvm.MethodName)) ∈ lw_all := lw_g (lw_at lw_m10 11 rfl) rfl
theorem q2294 : (Jvm.Cond.privateMethod ({ cls := "BakeryPlanModel", name := "plays", desc := "()V" } : Jvm.MethodName)) ∈ lw_tbl := lw_at lw_m10 12 rfl
theorem q2295 : (Jvm.Cond.instanceMethod ({ cls := "BakeryPlanModel", name := "plays", desc := "()V" } : Jvm.MethodName)) ∈ lw_all := lw_g (lw_at lw_m10 13 rfl) rfl
theorem q2296 : (Jvm.Cond.code ({ cls := "BakeryPlanModel", name := "plays", desc := "()V" } : Jvm.MethodName) prog_13_method_86_code (2 : Nat) (Option.none : Option Jvm.ClassFile.FieldType)) ∈ lw_all := lw_g (lw_at lw_m10 14 rfl) rfl
theorem q2297 : (Jvm.Cond.methodLink "BakeryPlanModel" (390 : Nat) ({ cls := "BakeryPlanModel", name := "beginDay", desc := "()V" } : Jvm.MethodName)) ∈ lw_all := lw_g (lw_at lw_m10 15 rfl) rfl
theorem q2298 : (Jvm.Cond.privateMethod ({ cls := "BakeryPlanModel", name := "beginDay", desc := "()V" } : Jvm.MethodName)) ∈ lw_tbl := lw_at lw_m10 16 rfl
theorem q2299 : (Jvm.Cond.instanceMethod ({ cls := "BakeryPlanModel", name := "beginDay", desc := "()V" } : Jvm.MethodName)) ∈ lw_all := lw_g (lw_at lw_m10 17 rfl) rfl
theorem q2300 : (Jvm.Cond.code ({ cls := "BakeryPlanModel", name := "beginDay", desc := "()V" } : Jvm.MethodName) prog_13_method_65_code (2 : Nat) (Option.none : Option Jvm.ClassFile.FieldType)) ∈ lw_all := lw_g (lw_at lw_m10 18 rfl) rfl
theorem q2301 : (Jvm.Cond.methodLink "BakeryPlanModel" (393 : Nat) ({ cls := "BakeryPlanModel", name := "notesBegin", desc := "(I)V" } : Jvm.MethodName)) ∈ lw_all := lw_g (lw_at lw_m10 19 rfl) rfl
theorem q2302 : (Jvm.Cond.privateMethod ({ cls := "BakeryPlanModel", name := "notesBegin", desc := "(I)V" } : Jvm.MethodName)) ∈ lw_tbl := lw_at lw_m10 20 rfl
theorem q2303 : (Jvm.Cond.instanceMethod ({ cls := "BakeryPlanModel", name := "notesBegin", desc := "(I)V" } : Jvm.MethodName)) ∈ lw_all := lw_g (lw_at lw_m10 21 rfl) rfl
theorem q2304 : (Jvm.Cond.code ({ cls := "BakeryPlanModel", name := "notesBegin", desc := "(I)V" } : Jvm.MethodName) prog_13_method_83_code (3 : Nat) (Option.none : Option Jvm.ClassFile.FieldType)) ∈ lw_all := lw_g (lw_at lw_m10 22 rfl) rfl
theorem q2305 : (Jvm.Cond.methodLink "BakeryPlanModel" (396 : Nat) ({ cls := "BakeryPlanModel", name := "playsMinute", desc := "(I)V" } : Jvm.MethodName)) ∈ lw_all := lw_g (lw_at lw_m10 23 rfl) rfl
theorem q2306 : (Jvm.Cond.privateMethod ({ cls := "BakeryPlanModel", name := "playsMinute", desc := "(I)V" } : Jvm.MethodName)) ∈ lw_tbl := lw_at lw_m10 24 rfl
theorem q2307 : (Jvm.Cond.instanceMethod ({ cls := "BakeryPlanModel", name := "playsMinute", desc := "(I)V" } : Jvm.MethodName)) ∈ lw_all := lw_g (lw_at lw_m10 25 rfl) rfl
theorem q2308 : (Jvm.Cond.code ({ cls := "BakeryPlanModel", name := "playsMinute", desc := "(I)V" } : Jvm.MethodName) prog_13_method_85_code (2 : Nat) (Option.none : Option Jvm.ClassFile.FieldType)) ∈ lw_all := lw_g (lw_at lw_m10 26 rfl) rfl
theorem q2309 : (Jvm.Cond.methodLink "BakeryPlanModel" (366 : Nat) ({ cls := "BakeryPlanModel", name := "finishes", desc := "(I)V" } : Jvm.MethodName)) ∈ lw_all := lw_g (lw_at lw_m10 27 rfl) rfl
theorem q2310 : (Jvm.Cond.privateMethod ({ cls := "BakeryPlanModel", name := "finishes", desc := "(I)V" } : Jvm.MethodName)) ∈ lw_tbl := lw_at lw_m10 28 rfl
theorem q2311 : (Jvm.Cond.instanceMethod ({ cls := "BakeryPlanModel", name := "finishes", desc := "(I)V" } : Jvm.MethodName)) ∈ lw_all := lw_g (lw_at lw_m10 29 rfl) rfl
theorem q2312 : (Jvm.Cond.code ({ cls := "BakeryPlanModel", name := "finishes", desc := "(I)V" } : Jvm.MethodName) prog_13_method_66_code (4 : Nat) (Option.none : Option Jvm.ClassFile.FieldType)) ∈ lw_all := lw_g (lw_at lw_m10 30 rfl) rfl
theorem q2313 : (Jvm.Cond.methodLink "BakeryPlanModel" (369 : Nat) ({ cls := "BakeryPlanModel", name := "loses", desc := "(I)V" } : Jvm.MethodName)) ∈ lw_all := lw_g (lw_at lw_m10 31 rfl) rfl
theorem q2314 : (Jvm.Cond.privateMethod ({ cls := "BakeryPlanModel", name := "loses", desc := "(I)V" } : Jvm.MethodName)) ∈ lw_tbl := lw_at lw_m10 32 rfl
theorem q2315 : (Jvm.Cond.instanceMethod ({ cls := "BakeryPlanModel", name := "loses", desc := "(I)V" } : Jvm.MethodName)) ∈ lw_all := lw_g (lw_at lw_m10 33 rfl) rfl
theorem q2316 : (Jvm.Cond.code ({ cls := "BakeryPlanModel", name := "loses", desc := "(I)V" } : Jvm.MethodName) prog_13_method_68_code (3 : Nat) (Option.none : Option Jvm.ClassFile.FieldType)) ∈ lw_all := lw_g (lw_at lw_m10 34 rfl) rfl
theorem q2317 : (Jvm.Cond.methodLink "BakeryPlanModel" (324 : Nat) ({ cls := "BakeryPlanModel", name := "isProofing", desc := "(I)Z" } : Jvm.MethodName)) ∈ lw_all := lw_g (lw_at lw_m10 35 rfl) rfl
theorem q2318 : (Jvm.Cond.privateMethod ({ cls := "BakeryPlanModel", name := "isProofing", desc := "(I)Z" } : Jvm.MethodName)) ∈ lw_tbl := lw_at lw_m10 36 rfl
theorem q2319 : (Jvm.Cond.instanceMethod ({ cls := "BakeryPlanModel", name := "isProofing", desc := "(I)Z" } : Jvm.MethodName)) ∈ lw_all := lw_g (lw_at lw_m10 37 rfl) rfl
theorem q2320 : (Jvm.Cond.code ({ cls := "BakeryPlanModel", name := "isProofing", desc := "(I)Z" } : Jvm.MethodName) prog_13_method_59_code (2 : Nat) (Option.some Jvm.ClassFile.FieldType.boolean)) ∈ lw_all := lw_g (lw_at lw_m10 38 rfl) rfl
theorem q2321 : (Jvm.Cond.methodLink "BakeryPlanModel" (327 : Nat) ({ cls := "BakeryPlanModel", name := "oldParts", desc := "(I)I" } : Jvm.MethodName)) ∈ lw_all := lw_g (lw_at lw_m10 39 rfl) rfl
theorem q2322 : (Jvm.Cond.privateMethod ({ cls := "BakeryPlanModel", name := "oldParts", desc := "(I)I" } : Jvm.MethodName)) ∈ lw_tbl := lw_at lw_m10 40 rfl
theorem q2323 : (Jvm.Cond.instanceMethod ({ cls := "BakeryPlanModel", name := "oldParts", desc := "(I)I" } : Jvm.MethodName)) ∈ lw_all := lw_g (lw_at lw_m10 41 rfl) rfl
theorem q2324 : (Jvm.Cond.code ({ cls := "BakeryPlanModel", name := "oldParts", desc := "(I)I" } : Jvm.MethodName) prog_13_method_61_code (2 : Nat) (Option.some Jvm.ClassFile.FieldType.int)) ∈ lw_all := lw_g (lw_at lw_m10 42 rfl) rfl
theorem q2325 : (Jvm.Cond.methodLink "BakeryPlanModel" (312 : Nat) ({ cls := "BakeryPlanModel", name := "productOfBatch", desc := "(I)I" } : Jvm.MethodName)) ∈ lw_all := lw_g (lw_at lw_m10 43 rfl) rfl
theorem q2326 : (Jvm.Cond.privateMethod ({ cls := "BakeryPlanModel", name := "productOfBatch", desc := "(I)I" } : Jvm.MethodName)) ∈ lw_tbl := lw_at lw_m10 44 rfl
theorem q2327 : (Jvm.Cond.instanceMethod ({ cls := "BakeryPlanModel", name := "productOfBatch", desc := "(I)I" } : Jvm.MethodName)) ∈ lw_all := lw_g (lw_at lw_m10 45 rfl) rfl
theorem q2328 : (Jvm.Cond.code ({ cls := "BakeryPlanModel", name := "productOfBatch", desc := "(I)I" } : Jvm.MethodName) prog_13_method_58_code (2 : Nat) (Option.some Jvm.ClassFile.FieldType.int)) ∈ lw_all := lw_g (lw_at lw_m10 46 rfl) rfl
theorem q2329 : (Jvm.Cond.methodLink "BakeryPlanModel" (330 : Nat) ({ cls := "BakeryPlanModel", name := "unreserve", desc := "(I)V" } : Jvm.MethodName)) ∈ lw_all := lw_g (lw_at lw_m10 47 rfl) rfl
theorem q2330 : (Jvm.Cond.privateMethod ({ cls := "BakeryPlanModel", name := "unreserve", desc := "(I)V" } : Jvm.MethodName)) ∈ lw_tbl := lw_at lw_m10 48 rfl
theorem q2331 : (Jvm.Cond.instanceMethod ({ cls := "BakeryPlanModel", name := "unreserve", desc := "(I)V" } : Jvm.MethodName)) ∈ lw_all := lw_g (lw_at lw_m10 49 rfl) rfl
theorem q2332 : (Jvm.Cond.code ({ cls := "BakeryPlanModel", name := "unreserve", desc := "(I)V" } : Jvm.MethodName) prog_13_method_67_code (3 : Nat) (Option.none : Option Jvm.ClassFile.FieldType)) ∈ lw_all := lw_g (lw_at lw_m10 50 rfl) rfl
theorem q2333 : (Jvm.Cond.methodLink "BakeryPlanModel" (372 : Nat) ({ cls := "BakeryPlanModel", name := "reserves", desc := "()V" } : Jvm.MethodName)) ∈ lw_all := lw_g (lw_at lw_m10 51 rfl) rfl
theorem q2334 : (Jvm.Cond.privateMethod ({ cls := "BakeryPlanModel", name := "reserves", desc := "()V" } : Jvm.MethodName)) ∈ lw_tbl := lw_at lw_m10 52 rfl
theorem q2335 : (Jvm.Cond.instanceMethod ({ cls := "BakeryPlanModel", name := "reserves", desc := "()V" } : Jvm.MethodName)) ∈ lw_all := lw_g (lw_at lw_m10 53 rfl) rfl
theorem q2336 : (Jvm.Cond.code ({ cls := "BakeryPlanModel", name := "reserves", desc := "()V" } : Jvm.MethodName) prog_13_method_75_code (2 : Nat) (Option.none : Option Jvm.ClassFile.FieldType)) ∈ lw_all := lw_g (lw_at lw_m10 54 rfl) rfl
theorem q2337 : (Jvm.Cond.methodLink "BakeryPlanModel" (354 : Nat) ({ cls := "BakeryPlanModel", name := "isFreeDeck", desc := "(I)Z" } : Jvm.MethodName)) ∈ lw_all := lw_g (lw_at lw_m10 55 rfl) rfl
theorem q2338 : (Jvm.Cond.privateMethod ({ cls := "BakeryPlanModel", name := "isFreeDeck", desc := "(I)Z" } : Jvm.MethodName)) ∈ lw_tbl := lw_at lw_m10 56 rfl
theorem q2339 : (Jvm.Cond.instanceMethod ({ cls := "BakeryPlanModel", name := "isFreeDeck", desc := "(I)Z" } : Jvm.MethodName)) ∈ lw_all := lw_g (lw_at lw_m10 57 rfl) rfl
theorem q2340 : (Jvm.Cond.code ({ cls := "BakeryPlanModel", name := "isFreeDeck", desc := "(I)Z" } : Jvm.MethodName) prog_13_method_74_code (2 : Nat) (Option.some Jvm.ClassFile.FieldType.boolean)) ∈ lw_all := lw_g (lw_at lw_m10 58 rfl) rfl
theorem q2341 : (Jvm.Cond.methodLink "BakeryPlanModel" (357 : Nat) ({ cls := "BakeryPlanModel", name := "bestFor", desc := "(I)I" } : Jvm.MethodName)) ∈ lw_all := lw_g (lw_at lw_m10 59 rfl) rfl
theorem q2342 : (Jvm.Cond.privateMethod ({ cls := "BakeryPlanModel", name := "bestFor", desc := "(I)I" } : Jvm.MethodName)) ∈ lw_tbl := lw_at lw_m10 60 rfl
theorem q2343 : (Jvm.Cond.instanceMethod ({ cls := "BakeryPlanModel", name := "bestFor", desc := "(I)I" } : Jvm.MethodName)) ∈ lw_all := lw_g (lw_at lw_m10 61 rfl) rfl
theorem q2344 : (Jvm.Cond.code ({ cls := "BakeryPlanModel", name := "bestFor", desc := "(I)I" } : Jvm.MethodName) prog_13_method_73_code (4 : Nat) (Option.some Jvm.ClassFile.FieldType.int)) ∈ lw_all := lw_g (lw_at lw_m10 62 rfl) rfl
theorem q2345 : (Jvm.Cond.methodLink "BakeryPlanModel" (342 : Nat) ({ cls := "BakeryPlanModel", name := "isReserved", desc := "(I)Z" } : Jvm.MethodName)) ∈ lw_all := lw_g (lw_at lw_m10 63 rfl) rfl
theorem q2346 : (Jvm.Cond.privateMethod ({ cls := "BakeryPlanModel", name := "isReserved", desc := "(I)Z" } : Jvm.MethodName)) ∈ lw_tbl := lw_at lw_m10 64 rfl
theorem q2347 : (Jvm.Cond.instanceMethod ({ cls := "BakeryPlanModel", name := "isReserved", desc := "(I)Z" } : Jvm.MethodName)) ∈ lw_all := lw_g (lw_at lw_m10 65 rfl) rfl
theorem q2348 : (Jvm.Cond.code ({ cls := "BakeryPlanModel", name := "isReserved", desc := "(I)Z" } : Jvm.MethodName) prog_13_method_69_code (3 : Nat) (Option.some Jvm.ClassFile.FieldType.boolean)) ∈ lw_all := lw_g (lw_at lw_m10 66 rfl) rfl
theorem q2349 : (Jvm.Cond.methodLink "BakeryPlanModel" (345 : Nat) ({ cls := "BakeryPlanModel", name := "ripening", desc := "(I)I" } : Jvm.MethodName)) ∈ lw_all := lw_g (lw_at lw_m10 67 rfl) rfl
theorem q2350 : (Jvm.Cond.privateMethod ({ cls := "BakeryPlanModel", name := "ripening", desc := "(I)I" } : Jvm.MethodName)) ∈ lw_tbl := lw_at lw_m10 68 rfl
theorem q2351 : (Jvm.Cond.instanceMethod ({ cls := "BakeryPlanModel", name := "ripening", desc := "(I)I" } : Jvm.MethodName)) ∈ lw_all := lw_g (lw_at lw_m10 69 rfl) rfl
theorem q2352 : (Jvm.Cond.code ({ cls := "BakeryPlanModel", name := "ripening", desc := "(I)I" } : Jvm.MethodName) prog_13_method_70_code (2 : Nat) (Option.some Jvm.ClassFile.FieldType.int)) ∈ lw_all := lw_g (lw_at lw_m10 70 rfl) rfl
theorem q2353 : (Jvm.Cond.methodLink "BakeryPlanModel" (333 : Nat) ({ cls := "BakeryPlanModel", name := "isRipe", desc := "(I)Z" } : Jvm.MethodName)) ∈ lw_all := lw_g (lw_at lw_m10 71 rfl) rfl
theorem q2354 : (Jvm.Cond.privateMethod ({ cls := "BakeryPlanModel", name := "isRipe", desc := "(I)Z" } : Jvm.MethodName)) ∈ lw_tbl := lw_at lw_m10 72 rfl
theorem q2355 : (Jvm.Cond.instanceMethod ({ cls := "BakeryPlanModel", name := "isRipe", desc := "(I)Z" } : Jvm.MethodName)) ∈ lw_all := lw_g (lw_at lw_m10 73 rfl) rfl
theorem q2356 : (Jvm.Cond.code ({ cls := "BakeryPlanModel", name := "isRipe", desc := "(I)Z" } : Jvm.MethodName) prog_13_method_62_code (2 : Nat) (Option.some Jvm.ClassFile.FieldType.boolean)) ∈ lw_all := lw_g (lw_at lw_m10 74 rfl) rfl
theorem q2357 : (Jvm.Cond.methodLink "BakeryPlanModel" (315 : Nat) ({ cls := "BakeryPlanModel", name := "ripeParts", desc := "(I)I" } : Jvm.MethodName)) ∈ lw_all := lw_g (lw_at lw_m10 75 rfl) rfl
theorem q2358 : (Jvm.Cond.privateMethod ({ cls := "BakeryPlanModel", name := "ripeParts", desc := "(I)I" } : Jvm.MethodName)) ∈ lw_tbl := lw_at lw_m10 76 rfl
theorem q2359 : (Jvm.Cond.instanceMethod ({ cls := "BakeryPlanModel", name := "ripeParts", desc := "(I)I" } : Jvm.MethodName)) ∈ lw_all := lw_g (lw_at lw_m10 77 rfl) rfl
theorem q2360 : (Jvm.Cond.code ({ cls := "BakeryPlanModel", name := "ripeParts", desc := "(I)I" } : Jvm.MethodName) prog_13_method_60_code (2 : Nat) (Option.some Jvm.ClassFile.FieldType.int)) ∈ lw_all := lw_g (lw_at lw_m10 78 rfl) rfl
theorem q2361 : (Jvm.Cond.methodLink "BakeryPlanModel" (336 : Nat) ({ cls := "BakeryPlanModel", name := "quotientUp", desc := "(II)I" } : Jvm.MethodName)) ∈ lw_all := lw_g (lw_at lw_m10 79 rfl) rfl
theorem q2362 : (Jvm.Cond.static ({ cls := "BakeryPlanModel", name := "quotientUp", desc := "(II)I" } : Jvm.MethodName)) ∈ lw_all := lw_g (lw_at lw_m10 80 rfl) rfl
theorem q2363 : (Jvm.Cond.code ({ cls := "BakeryPlanModel", name := "quotientUp", desc := "(II)I" } : Jvm.MethodName) prog_13_method_63_code (2 : Nat) (Option.some Jvm.ClassFile.FieldType.int)) ∈ lw_all := lw_g (lw_at lw_m10 81 rfl) rfl
theorem q2364 : (Jvm.Cond.methodLink "BakeryPlanModel" (348 : Nat) ({ cls := "BakeryPlanModel", name := "heating", desc := "(II)I" } : Jvm.MethodName)) ∈ lw_all := lw_g (lw_at lw_m10 82 rfl) rfl
theorem q2365 : (Jvm.Cond.privateMethod ({ cls := "BakeryPlanModel", name := "heating", desc := "(II)I" } : Jvm.MethodName)) ∈ lw_tbl := lw_at lw_m10 83 rfl
theorem q2366 : (Jvm.Cond.instanceMethod ({ cls := "BakeryPlanModel", name := "heating", desc := "(II)I" } : Jvm.MethodName)) ∈ lw_all := lw_g (lw_at lw_m10 84 rfl) rfl
theorem q2367 : (Jvm.Cond.code ({ cls := "BakeryPlanModel", name := "heating", desc := "(II)I" } : Jvm.MethodName) prog_13_method_71_code (3 : Nat) (Option.some Jvm.ClassFile.FieldType.int)) ∈ lw_all := lw_g (lw_at lw_m10 85 rfl) rfl
theorem q2368 : (Jvm.Cond.methodLink "BakeryPlanModel" (339 : Nat) ({ cls := "BakeryPlanModel", name := "apart", desc := "(II)I" } : Jvm.MethodName)) ∈ lw_all := lw_g (lw_at lw_m10 86 rfl) rfl
theorem q2369 : (Jvm.Cond.static ({ cls := "BakeryPlanModel", name := "apart", desc := "(II)I" } : Jvm.MethodName)) ∈ lw_all := lw_g (lw_at lw_m10 87 rfl) rfl
theorem q2370 : (Jvm.Cond.code ({ cls := "BakeryPlanModel", name := "apart", desc := "(II)I" } : Jvm.MethodName) prog_13_method_64_code (2 : Nat) (Option.some Jvm.ClassFile.FieldType.int)) ∈ lw_all := lw_g (lw_at lw_m10 88 rfl) rfl
theorem q2371 : (Jvm.Cond.methodLink "BakeryPlanModel" (351 : Nat) ({ cls := "BakeryPlanModel", name := "rank", desc := "(I)I" } : Jvm.MethodName)) ∈ lw_all := lw_g (lw_at lw_m10 89 rfl) rfl
theorem q2372 : (Jvm.Cond.privateMethod ({ cls := "BakeryPlanModel", name := "rank", desc := "(I)I" } : Jvm.MethodName)) ∈ lw_tbl := lw_at lw_m10 90 rfl
theorem q2373 : (Jvm.Cond.instanceMethod ({ cls := "BakeryPlanModel", name := "rank", desc := "(I)I" } : Jvm.MethodName)) ∈ lw_all := lw_g (lw_at lw_m10 91 rfl) rfl
theorem q2374 : (Jvm.Cond.code ({ cls := "BakeryPlanModel", name := "rank", desc := "(I)I" } : Jvm.MethodName) prog_13_method_72_code (2 : Nat) (Option.some Jvm.ClassFile.FieldType.int)) ∈ lw_all := lw_g (lw_at lw_m10 92 rfl) rfl
theorem q2375 : (Jvm.Cond.methodLink "BakeryPlanModel" (375 : Nat) ({ cls := "BakeryPlanModel", name := "beginsBaking", desc := "(I)V" } : Jvm.MethodName)) ∈ lw_all := lw_g (lw_at lw_m10 93 rfl) rfl
theorem q2376 : (Jvm.Cond.privateMethod ({ cls := "BakeryPlanModel", name := "beginsBaking", desc := "(I)V" } : Jvm.MethodName)) ∈ lw_tbl := lw_at lw_m10 94 rfl
theorem q2377 : (Jvm.Cond.instanceMethod ({ cls := "BakeryPlanModel", name := "beginsBaking", desc := "(I)V" } : Jvm.MethodName)) ∈ lw_all := lw_g (lw_at lw_m10 95 rfl) rfl
theorem q2378 : (Jvm.Cond.code ({ cls := "BakeryPlanModel", name := "beginsBaking", desc := "(I)V" } : Jvm.MethodName) prog_13_method_76_code (4 : Nat) (Option.none : Option Jvm.ClassFile.FieldType)) ∈ lw_all := lw_g (lw_at lw_m10 96 rfl) rfl
theorem q2379 : (Jvm.Cond.methodLink "BakeryPlanModel" (378 : Nat) ({ cls := "BakeryPlanModel", name := "shelves", desc := "()V" } : Jvm.MethodName)) ∈ lw_all := lw_g (lw_at lw_m10 97 rfl) rfl
theorem q2380 : (Jvm.Cond.privateMethod ({ cls := "BakeryPlanModel", name := "shelves", desc := "()V" } : Jvm.MethodName)) ∈ lw_tbl := lw_at lw_m10 98 rfl
theorem q2381 : (Jvm.Cond.instanceMethod ({ cls := "BakeryPlanModel", name := "shelves", desc := "()V" } : Jvm.MethodName)) ∈ lw_all := lw_g (lw_at lw_m10 99 rfl) rfl
theorem q2382 : (Jvm.Cond.code ({ cls := "BakeryPlanModel", name := "shelves", desc := "()V" } : Jvm.MethodName) prog_13_method_78_code (3 : Nat) (Option.none : Option Jvm.ClassFile.FieldType)) ∈ lw_all := lw_g (lw_at lw_m10 100 rfl) rfl
theorem q2383 : (Jvm.Cond.methodLink "BakeryPlanModel" (360 : Nat) ({ cls := "BakeryPlanModel", name := "manyAt", desc := "(I)I" } : Jvm.MethodName)) ∈ lw_all := lw_g (lw_at lw_m10 101 rfl) rfl
theorem q2384 : (Jvm.Cond.privateMethod ({ cls := "BakeryPlanModel", name := "manyAt", desc := "(I)I" } : Jvm.MethodName)) ∈ lw_tbl := lw_at lw_m10 102 rfl
theorem q2385 : (Jvm.Cond.instanceMethod ({ cls := "BakeryPlanModel", name := "manyAt", desc := "(I)I" } : Jvm.MethodName)) ∈ lw_all := lw_g (lw_at lw_m10 103 rfl) rfl
theorem q2386 : (Jvm.Cond.code ({ cls := "BakeryPlanModel", name := "manyAt", desc := "(I)I" } : Jvm.MethodName) prog_13_method_77_code (4 : Nat) (Option.some Jvm.ClassFile.FieldType.int)) ∈ lw_all := lw_g (lw_at lw_m10 104 rfl) rfl
theorem q2387 : (Jvm.Cond.methodLink "BakeryPlanModel" (381 : Nat) ({ cls := "BakeryPlanModel", name := "beginsMixing", desc := "(I)V" } : Jvm.MethodName)) ∈ lw_all := lw_g (lw_at lw_m10 105 rfl) rfl
theorem q2388 : (Jvm.Cond.privateMethod ({ cls := "BakeryPlanModel", name := "beginsMixing", desc := "(I)V" } : Jvm.MethodName)) ∈ lw_tbl := lw_at lw_m10 106 rfl
theorem q2389 : (Jvm.Cond.instanceMethod ({ cls := "BakeryPlanModel", name := "beginsMixing", desc := "(I)V" } : Jvm.MethodName)) ∈ lw_all := lw_g (lw_at lw_m10 107 rfl) rfl
theorem q2390 : (Jvm.Cond.code ({ cls := "BakeryPlanModel", name := "beginsMixing", desc := "(I)V" } : Jvm.MethodName) prog_13_method_80_code (7 : Nat) (Option.none : Option Jvm.ClassFile.FieldType)) ∈ lw_all := lw_g (lw_at lw_m10 108 rfl) rfl
theorem q2391 : (Jvm.Cond.methodLink "BakeryPlanModel" (363 : Nat) ({ cls := "BakeryPlanModel", name := "nextInList", desc := "(I)I" } : Jvm.MethodName)) ∈ lw_all := lw_g (lw_at lw_m10 109 rfl) rfl
theorem q2392 : (Jvm.Cond.privateMethod ({ cls := "BakeryPlanModel", name := "nextInList", desc := "(I)I" } : Jvm.MethodName)) ∈ lw_tbl := lw_at lw_m10 110 rfl
theorem q2393 : (Jvm.Cond.instanceMethod ({ cls := "BakeryPlanModel", name := "nextInList", desc := "(I)I" } : Jvm.MethodName)) ∈ lw_all := lw_g (lw_at lw_m10 111 rfl) rfl
theorem q2394 : (Jvm.Cond.code ({ cls := "BakeryPlanModel", name := "nextInList", desc := "(I)I" } : Jvm.MethodName) prog_13_method_79_code (3 : Nat) (Option.some Jvm.ClassFile.FieldType.int)) ∈ lw_all := lw_g (lw_at lw_m10 112 rfl) rfl
theorem q2395 : (Jvm.Cond.methodLink "BakeryPlanModel" (384 : Nat) ({ cls := "BakeryPlanModel", name := "grows", desc := "()V" } : Jvm.MethodName)) ∈ lw_all := lw_g (lw_at lw_m10 113 rfl) rfl
theorem q2396 : (Jvm.Cond.privateMethod ({ cls := "BakeryPlanModel", name := "grows", desc := "()V" } : Jvm.MethodName)) ∈ lw_tbl := lw_at lw_m10 114 rfl
theorem q2397 : (Jvm.Cond.instanceMethod ({ cls := "BakeryPlanModel", name := "grows", desc := "()V" } : Jvm.MethodName)) ∈ lw_all := lw_g (lw_at lw_m10 115 rfl) rfl
theorem q2398 : (Jvm.Cond.code ({ cls := "BakeryPlanModel", name := "grows", desc := "()V" } : Jvm.MethodName) prog_13_method_81_code (2 : Nat) (Option.none : Option Jvm.ClassFile.FieldType)) ∈ lw_all := lw_g (lw_at lw_m10 116 rfl) rfl
theorem q2399 : (Jvm.Cond.methodLink "BakeryPlanModel" (387 : Nat) ({ cls := "BakeryPlanModel", name := "heats", desc := "()V" } : Jvm.MethodName)) ∈ lw_all := lw_g (lw_at lw_m10 117 rfl) rfl
theorem q2400 : (Jvm.Cond.privateMethod ({ cls := "BakeryPlanModel", name := "heats", desc := "()V" } : Jvm.MethodName)) ∈ lw_tbl := lw_at lw_m10 118 rfl
theorem q2401 : (Jvm.Cond.instanceMethod ({ cls := "BakeryPlanModel", name := "heats", desc := "()V" } : Jvm.MethodName)) ∈ lw_all := lw_g (lw_at lw_m10 119 rfl) rfl
theorem q2402 : (Jvm.Cond.code ({ cls := "BakeryPlanModel", name := "heats", desc := "()V" } : Jvm.MethodName) prog_13_method_82_code (4 : Nat) (Option.none : Option Jvm.ClassFile.FieldType)) ∈ lw_all := lw_g (lw_at lw_m10 120 rfl) rfl
theorem q2403 : (Jvm.Cond.methodLink "BakeryPlanModel" (399 : Nat) ({ cls := "BakeryPlanModel", name := "notesEnd", desc := "(I)V" } : Jvm.MethodName)) ∈ lw_all := lw_g (lw_at lw_m10 121 rfl) rfl
theorem q2404 : (Jvm.Cond.privateMethod ({ cls := "BakeryPlanModel", name := "notesEnd", desc := "(I)V" } : Jvm.MethodName)) ∈ lw_tbl := lw_at lw_m10 122 rfl
theorem q2405 : (Jvm.Cond.instanceMethod ({ cls := "BakeryPlanModel", name := "notesEnd", desc := "(I)V" } : Jvm.MethodName)) ∈ lw_all := lw_g (lw_at lw_m10 123 rfl) rfl
theorem q2406 : (Jvm.Cond.code ({ cls := "BakeryPlanModel", name := "notesEnd", desc := "(I)V" } : Jvm.MethodName) prog_13_method_84_code (3 : Nat) (Option.none : Option Jvm.ClassFile.FieldType)) ∈ lw_all := lw_g (lw_at lw_m10 124 rfl) rfl
theorem q2407 : (Jvm.Cond.methodLink "BakeryPlanModel" (402 : Nat) ({ cls := "BakeryPlanModel", name := "stateOf", desc := "(I)I" } : Jvm.MethodName)) ∈ lw_all := lw_g (lw_at lw_m10 125 rfl) rfl
theorem q2408 : (Jvm.Cond.privateMethod ({ cls := "BakeryPlanModel", name := "stateOf", desc := "(I)I" } : Jvm.MethodName)) ∈ lw_tbl := lw_at lw_m10 126 rfl
theorem q2409 : (Jvm.Cond.instanceMethod ({ cls := "BakeryPlanModel", name := "stateOf", desc := "(I)I" } : Jvm.MethodName)) ∈ lw_all := lw_g (lw_at lw_m10 127 rfl) rfl
theorem q2410 : (Jvm.Cond.code ({ cls := "BakeryPlanModel", name := "stateOf", desc := "(I)I" } : Jvm.MethodName) prog_13_method_88_code (2 : Nat) (Option.some Jvm.ClassFile.FieldType.int)) ∈ lw_all := lw_g (lw_at lw_m10 128 rfl) rfl
theorem q2412 : (Jvm.Cond.instanceMethod ({ cls := "BakeryPlanModel", name := "mixerOf", desc := "(I)I" } : Jvm.MethodName)) ∈ lw_all := lw_g (lw_at lw_m10 130 rfl) rfl
theorem q2413 : (Jvm.Cond.selects "BakeryPlanModel" ({ cls := "BakeryPlanModel", name := "mixerOf", desc := "(I)I" } : Jvm.MethodName) ({ cls := "BakeryPlanModel", name := "mixerOf", desc := "(I)I" } : Jvm.MethodName)) ∈ lw_all := lw_g (lw_at lw_m10 131 rfl) rfl
theorem q2414 : (Jvm.Cond.code ({ cls := "BakeryPlanModel", name := "mixerOf", desc := "(I)I" } : Jvm.MethodName) prog_13_method_93_code (2 : Nat) (Option.some Jvm.ClassFile.FieldType.int)) ∈ lw_all := lw_g (lw_at lw_m10 132 rfl) rfl
theorem q2415 : (Jvm.Cond.methodLink "BakeryPlanModel" (408 : Nat) ({ cls := "BakeryPlanModel", name := "ofDay", desc := "([II)I" } : Jvm.MethodName)) ∈ lw_all := lw_g (lw_at lw_m10 133 rfl) rfl
theorem q2416 : (Jvm.Cond.privateMethod ({ cls := "BakeryPlanModel", name := "ofDay", desc := "([II)I" } : Jvm.MethodName)) ∈ lw_tbl := lw_at lw_m10 134 rfl
theorem q2417 : (Jvm.Cond.instanceMethod ({ cls := "BakeryPlanModel", name := "ofDay", desc := "([II)I" } : Jvm.MethodName)) ∈ lw_all := lw_g (lw_at lw_m10 135 rfl) rfl
theorem q2418 : (Jvm.Cond.code ({ cls := "BakeryPlanModel", name := "ofDay", desc := "([II)I" } : Jvm.MethodName) prog_13_method_92_code (3 : Nat) (Option.some Jvm.ClassFile.FieldType.int)) ∈ lw_all := lw_g (lw_at lw_m10 136 rfl) rfl
theorem q2420 : (Jvm.Cond.instanceMethod ({ cls := "BakeryPlanModel", name := "mixStart", desc := "(I)I" } : Jvm.MethodName)) ∈ lw_all := lw_g (lw_at lw_m10 138 rfl) rfl
theorem q2421 : (Jvm.Cond.selects "BakeryPlanModel" ({ cls := "BakeryPlanModel", name := "mixStart", desc := "(I)I" } : Jvm.MethodName) ({ cls := "BakeryPlanModel", name := "mixStart", desc := "(I)I" } : Jvm.MethodName)) ∈ lw_all := lw_g (lw_at lw_m10 139 rfl) rfl
theorem q2422 : (Jvm.Cond.code ({ cls := "BakeryPlanModel", name := "mixStart", desc := "(I)I" } : Jvm.MethodName) prog_13_method_94_code (2 : Nat) (Option.some Jvm.ClassFile.FieldType.int)) ∈ lw_all := lw_g (lw_at lw_m10 140 rfl) rfl
theorem q2424 : (Jvm.Cond.instanceMethod ({ cls := "BakeryPlanModel", name := "proofStart", desc := "(I)I" } : Jvm.MethodName)) ∈ lw_all := lw_g (lw_at lw_m10 142 rfl) rfl
theorem q2425 : (Jvm.Cond.selects "BakeryPlanModel" ({ cls := "BakeryPlanModel", name := "proofStart", desc := "(I)I" } : Jvm.MethodName) ({ cls := "BakeryPlanModel", name := "proofStart", desc := "(I)I" } : Jvm.MethodName)) ∈ lw_all := lw_g (lw_at lw_m10 143 rfl) rfl
theorem q2426 : (Jvm.Cond.code ({ cls := "BakeryPlanModel", name := "proofStart", desc := "(I)I" } : Jvm.MethodName) prog_13_method_95_code (2 : Nat) (Option.some Jvm.ClassFile.FieldType.int)) ∈ lw_all := lw_g (lw_at lw_m10 144 rfl) rfl
theorem q2428 : (Jvm.Cond.instanceMethod ({ cls := "BakeryPlanModel", name := "deckOf", desc := "(I)I" } : Jvm.MethodName)) ∈ lw_all := lw_g (lw_at lw_m10 146 rfl) rfl
theorem q2429 : (Jvm.Cond.selects "BakeryPlanModel" ({ cls := "BakeryPlanModel", name := "deckOf", desc := "(I)I" } : Jvm.MethodName) ({ cls := "BakeryPlanModel", name := "deckOf", desc := "(I)I" } : Jvm.MethodName)) ∈ lw_all := lw_g (lw_at lw_m10 147 rfl) rfl
theorem q2430 : (Jvm.Cond.code ({ cls := "BakeryPlanModel", name := "deckOf", desc := "(I)I" } : Jvm.MethodName) prog_13_method_96_code (2 : Nat) (Option.some Jvm.ClassFile.FieldType.int)) ∈ lw_all := lw_g (lw_at lw_m10 148 rfl) rfl
theorem q2432 : (Jvm.Cond.instanceMethod ({ cls := "BakeryPlanModel", name := "bakeStart", desc := "(I)I" } : Jvm.MethodName)) ∈ lw_all := lw_g (lw_at lw_m10 150 rfl) rfl
theorem q2433 : (Jvm.Cond.selects "BakeryPlanModel" ({ cls := "BakeryPlanModel", name := "bakeStart", desc := "(I)I" } : Jvm.MethodName) ({ cls := "BakeryPlanModel", name := "bakeStart", desc := "(I)I" } : Jvm.MethodName)) ∈ lw_all := lw_g (lw_at lw_m10 151 rfl) rfl
theorem q2434 : (Jvm.Cond.code ({ cls := "BakeryPlanModel", name := "bakeStart", desc := "(I)I" } : Jvm.MethodName) prog_13_method_97_code (2 : Nat) (Option.some Jvm.ClassFile.FieldType.int)) ∈ lw_all := lw_g (lw_at lw_m10 152 rfl) rfl
theorem q2436 : (Jvm.Cond.instanceMethod ({ cls := "BakeryPlanModel", name := "bakeEnd", desc := "(I)I" } : Jvm.MethodName)) ∈ lw_all := lw_g (lw_at lw_m10 154 rfl) rfl
theorem q2437 : (Jvm.Cond.selects "BakeryPlanModel" ({ cls := "BakeryPlanModel", name := "bakeEnd", desc := "(I)I" } : Jvm.MethodName) ({ cls := "BakeryPlanModel", name := "bakeEnd", desc := "(I)I" } : Jvm.MethodName)) ∈ lw_all := lw_g (lw_at lw_m10 155 rfl) rfl
theorem q2438 : (Jvm.Cond.code ({ cls := "BakeryPlanModel", name := "bakeEnd", desc := "(I)I" } : Jvm.MethodName) prog_13_method_98_code (2 : Nat) (Option.some Jvm.ClassFile.FieldType.int)) ∈ lw_all := lw_g (lw_at lw_m10 156 rfl) rfl
theorem q2440 : (Jvm.Cond.instanceMethod ({ cls := "BakeryPlanModel", name := "lostAt", desc := "(I)I" } : Jvm.MethodName)) ∈ lw_all := lw_g (lw_at lw_m10 158 rfl) rfl
theorem q2441 : (Jvm.Cond.selects "BakeryPlanModel" ({ cls := "BakeryPlanModel", name := "lostAt", desc := "(I)I" } : Jvm.MethodName) ({ cls := "BakeryPlanModel", name := "lostAt", desc := "(I)I" } : Jvm.MethodName)) ∈ lw_all := lw_g (lw_at lw_m10 159 rfl) rfl
theorem q2442 : (Jvm.Cond.code ({ cls := "BakeryPlanModel", name := "lostAt", desc := "(I)I" } : Jvm.MethodName) prog_13_method_99_code (2 : Nat) (Option.some Jvm.ClassFile.FieldType.int)) ∈ lw_all := lw_g (lw_at lw_m10 160 rfl) rfl
theorem q2444 : (Jvm.Cond.instanceMethod ({ cls := "BakeryPlanModel", name := "shelfMinutes", desc := "(I)I" } : Jvm.MethodName)) ∈ lw_all := lw_g (lw_at lw_m10 162 rfl) rfl
theorem q2445 : (Jvm.Cond.selects "BakeryPlanModel" ({ cls := "BakeryPlanModel", name := "shelfMinutes", desc := "(I)I" } : Jvm.MethodName) ({ cls := "BakeryPlanModel", name := "shelfMinutes", desc := "(I)I" } : Jvm.MethodName)) ∈ lw_all := lw_g (lw_at lw_m10 163 rfl) rfl
theorem q2446 : (Jvm.Cond.code ({ cls := "BakeryPlanModel", name := "shelfMinutes", desc := "(I)I" } : Jvm.MethodName) prog_13_method_100_code (2 : Nat) (Option.some Jvm.ClassFile.FieldType.int)) ∈ lw_all := lw_g (lw_at lw_m10 164 rfl) rfl
theorem q2448 : (Jvm.Cond.instanceMethod ({ cls := "BakeryPlanModel", name := "age", desc := "(I)D" } : Jvm.MethodName)) ∈ lw_all := lw_g (lw_at lw_m10 166 rfl) rfl
theorem q2449 : (Jvm.Cond.selects "BakeryPlanModel" ({ cls := "BakeryPlanModel", name := "age", desc := "(I)D" } : Jvm.MethodName) ({ cls := "BakeryPlanModel", name := "age", desc := "(I)D" } : Jvm.MethodName)) ∈ lw_all := lw_g (lw_at lw_m10 167 rfl) rfl
theorem q2450 : (Jvm.Cond.code ({ cls := "BakeryPlanModel", name := "age", desc := "(I)D" } : Jvm.MethodName) prog_13_method_101_code (2 : Nat) (Option.some Jvm.ClassFile.FieldType.double)) ∈ lw_all := lw_g (lw_at lw_m10 168 rfl) rfl
theorem q2451 : (Jvm.Cond.constantDouble "BakeryPlanModel" (412 : Nat) (13830554455654793216 : UInt64)) ∈ lw_all := lw_g (lw_at lw_m10 169 rfl) rfl
theorem q2453 : (Jvm.Cond.instanceMethod ({ cls := "BakeryPlanModel", name := "count", desc := "(I)I" } : Jvm.MethodName)) ∈ lw_all := lw_g (lw_at lw_m10 171 rfl) rfl
theorem q2454 : (Jvm.Cond.selects "BakeryPlanModel" ({ cls := "BakeryPlanModel", name := "count", desc := "(I)I" } : Jvm.MethodName) ({ cls := "BakeryPlanModel", name := "count", desc := "(I)I" } : Jvm.MethodName)) ∈ lw_all := lw_g (lw_at lw_m10 172 rfl) rfl
theorem q2455 : (Jvm.Cond.code ({ cls := "BakeryPlanModel", name := "count", desc := "(I)I" } : Jvm.MethodName) prog_13_method_102_code (2 : Nat) (Option.some Jvm.ClassFile.FieldType.int)) ∈ lw_all := lw_g (lw_at lw_m10 173 rfl) rfl
theorem q2456 : (Jvm.Cond.methodLink "BakeryPlanModel" (414 : Nat) ({ cls := "BakeryPlanModel", name := "countOf", desc := "(I)I" } : Jvm.MethodName)) ∈ lw_all := lw_g (lw_at lw_m10 174 rfl) rfl
theorem q2457 : (Jvm.Cond.privateMethod ({ cls := "BakeryPlanModel", name := "countOf", desc := "(I)I" } : Jvm.MethodName)) ∈ lw_tbl := lw_at lw_m10 175 rfl
theorem q2458 : (Jvm.Cond.instanceMethod ({ cls := "BakeryPlanModel", name := "countOf", desc := "(I)I" } : Jvm.MethodName)) ∈ lw_all := lw_g (lw_at lw_m10 176 rfl) rfl
theorem q2459 : (Jvm.Cond.code ({ cls := "BakeryPlanModel", name := "countOf", desc := "(I)I" } : Jvm.MethodName) prog_13_method_89_code (4 : Nat) (Option.some Jvm.ClassFile.FieldType.int)) ∈ lw_all := lw_g (lw_at lw_m10 177 rfl) rfl
theorem q2461 : (Jvm.Cond.instanceMethod ({ cls := "BakeryPlanModel", name := "lastEnd", desc := "()I" } : Jvm.MethodName)) ∈ lw_all := lw_g (lw_at lw_m10 179 rfl) rfl
theorem q2462 : (Jvm.Cond.selects "BakeryPlanModel" ({ cls := "BakeryPlanModel", name := "lastEnd", desc := "()I" } : Jvm.MethodName) ({ cls := "BakeryPlanModel", name := "lastEnd", desc := "()I" } : Jvm.MethodName)) ∈ lw_all := lw_g (lw_at lw_m10 180 rfl) rfl
theorem q2463 : (Jvm.Cond.code ({ cls := "BakeryPlanModel", name := "lastEnd", desc := "()I" } : Jvm.MethodName) prog_13_method_103_code (1 : Nat) (Option.some Jvm.ClassFile.FieldType.int)) ∈ lw_all := lw_g (lw_at lw_m10 181 rfl) rfl
theorem q2464 : (Jvm.Cond.methodLink "BakeryPlanModel" (417 : Nat) ({ cls := "BakeryPlanModel", name := "lastOf", desc := "()I" } : Jvm.MethodName)) ∈ lw_all := lw_g (lw_at lw_m10 182 rfl) rfl
theorem q2465 : (Jvm.Cond.privateMethod ({ cls := "BakeryPlanModel", name := "lastOf", desc := "()I" } : Jvm.MethodName)) ∈ lw_tbl := lw_at lw_m10 183 rfl
theorem q2466 : (Jvm.Cond.instanceMethod ({ cls := "BakeryPlanModel", name := "lastOf", desc := "()I" } : Jvm.MethodName)) ∈ lw_all := lw_g (lw_at lw_m10 184 rfl) rfl
theorem q2467 : (Jvm.Cond.code ({ cls := "BakeryPlanModel", name := "lastOf", desc := "()I" } : Jvm.MethodName) prog_13_method_90_code (3 : Nat) (Option.some Jvm.ClassFile.FieldType.int)) ∈ lw_all := lw_g (lw_at lw_m10 185 rfl) rfl
theorem q2469 : (Jvm.Cond.instanceMethod ({ cls := "BakeryPlanModel", name := "cleanings", desc := "()I" } : Jvm.MethodName)) ∈ lw_all := lw_g (lw_at lw_m10 187 rfl) rfl
theorem q2470 : (Jvm.Cond.selects "BakeryPlanModel" ({ cls := "BakeryPlanModel", name := "cleanings", desc := "()I" } : Jvm.MethodName) ({ cls := "BakeryPlanModel", name := "cleanings", desc := "()I" } : Jvm.MethodName)) ∈ lw_all := lw_g (lw_at lw_m10 188 rfl) rfl
theorem q2471 : (Jvm.Cond.code ({ cls := "BakeryPlanModel", name := "cleanings", desc := "()I" } : Jvm.MethodName) prog_13_method_104_code (1 : Nat) (Option.some Jvm.ClassFile.FieldType.int)) ∈ lw_all := lw_g (lw_at lw_m10 189 rfl) rfl
theorem q2473 : (Jvm.Cond.instanceMethod ({ cls := "BakeryPlanModel", name := "degrees", desc := "()I" } : Jvm.MethodName)) ∈ lw_all := lw_g (lw_at lw_m10 191 rfl) rfl
theorem q2474 : (Jvm.Cond.selects "BakeryPlanModel" ({ cls := "BakeryPlanModel", name := "degrees", desc := "()I" } : Jvm.MethodName) ({ cls := "BakeryPlanModel", name := "degrees", desc := "()I" } : Jvm.MethodName)) ∈ lw_all := lw_g (lw_at lw_m10 192 rfl) rfl
theorem q2475 : (Jvm.Cond.code ({ cls := "BakeryPlanModel", name := "degrees", desc := "()I" } : Jvm.MethodName) prog_13_method_105_code (1 : Nat) (Option.some Jvm.ClassFile.FieldType.int)) ∈ lw_all := lw_g (lw_at lw_m10 193 rfl) rfl
theorem q2477 : (Jvm.Cond.instanceMethod ({ cls := "BakeryPlanModel", name := "utilization", desc := "(I)D" } : Jvm.MethodName)) ∈ lw_all := lw_g (lw_at lw_m10 195 rfl) rfl
theorem q2478 : (Jvm.Cond.selects "BakeryPlanModel" ({ cls := "BakeryPlanModel", name := "utilization", desc := "(I)D" } : Jvm.MethodName) ({ cls := "BakeryPlanModel", name := "utilization", desc := "(I)D" } : Jvm.MethodName)) ∈ lw_all := lw_g (lw_at lw_m10 196 rfl) rfl
theorem q2479 : (Jvm.Cond.code ({ cls := "BakeryPlanModel", name := "utilization", desc := "(I)D" } : Jvm.MethodName) prog_13_method_106_code (2 : Nat) (Option.some Jvm.ClassFile.FieldType.double)) ∈ lw_all := lw_g (lw_at lw_m10 197 rfl) rfl
theorem q2480 : (Jvm.Cond.methodLink "BakeryPlanModel" (420 : Nat) ({ cls := "BakeryPlanModel", name := "isDeck", desc := "(I)Z" } : Jvm.MethodName)) ∈ lw_all := lw_g (lw_at lw_m10 198 rfl) rfl
theorem q2481 : (Jvm.Cond.privateMethod ({ cls := "BakeryPlanModel", name := "isDeck", desc := "(I)Z" } : Jvm.MethodName)) ∈ lw_tbl := lw_at lw_m10 199 rfl
theorem q2482 : (Jvm.Cond.instanceMethod ({ cls := "BakeryPlanModel", name := "isDeck", desc := "(I)Z" } : Jvm.MethodName)) ∈ lw_all := lw_g (lw_at lw_m10 200 rfl) rfl
theorem q2483 : (Jvm.Cond.code ({ cls := "BakeryPlanModel", name := "isDeck", desc := "(I)Z" } : Jvm.MethodName) prog_13_method_13_code (2 : Nat) (Option.some Jvm.ClassFile.FieldType.boolean)) ∈ lw_all := lw_g (lw_at lw_m10 201 rfl) rfl
theorem q2484 : (Jvm.Cond.constantDouble "BakeryPlanModel" (423 : Nat) (4654048002422341632 : UInt64)) ∈ lw_all := lw_g (lw_at lw_m10 202 rfl) rfl
theorem q2486 : (Jvm.Cond.instanceMethod ({ cls := "BakeryPlanModel", name := "begunBy", desc := "(I)I" } : Jvm.MethodName)) ∈ lw_all := lw_g (lw_at lw_m10 204 rfl) rfl
theorem q2487 : (Jvm.Cond.selects "BakeryPlanModel" ({ cls := "BakeryPlanModel", name := "begunBy", desc := "(I)I" } : Jvm.MethodName) ({ cls := "BakeryPlanModel", name := "begunBy", desc := "(I)I" } : Jvm.MethodName)) ∈ lw_all := lw_g (lw_at lw_m10 205 rfl) rfl
theorem q2488 : (Jvm.Cond.code ({ cls := "BakeryPlanModel", name := "begunBy", desc := "(I)I" } : Jvm.MethodName) prog_13_method_107_code (2 : Nat) (Option.some Jvm.ClassFile.FieldType.int)) ∈ lw_all := lw_g (lw_at lw_m10 206 rfl) rfl
theorem q2490 : (Jvm.Cond.instanceMethod ({ cls := "BakeryPlanModel", name := "temperature", desc := "(II)I" } : Jvm.MethodName)) ∈ lw_all := lw_g (lw_at lw_m10 208 rfl) rfl
theorem q2491 : (Jvm.Cond.selects "BakeryPlanModel" ({ cls := "BakeryPlanModel", name := "temperature", desc := "(II)I" } : Jvm.MethodName) ({ cls := "BakeryPlanModel", name := "temperature", desc := "(II)I" } : Jvm.MethodName)) ∈ lw_all := lw_g (lw_at lw_m10 209 rfl) rfl
theorem q2492 : (Jvm.Cond.code ({ cls := "BakeryPlanModel", name := "temperature", desc := "(II)I" } : Jvm.MethodName) prog_13_method_108_code (3 : Nat) (Option.some Jvm.ClassFile.FieldType.int)) ∈ lw_all := lw_g (lw_at lw_m10 210 rfl) rfl
theorem q2493 : (Jvm.Cond.methodLink "BakeryPlanModel" (425 : Nat) ({ cls := "BakeryPlanModel", name := "isMinute", desc := "(I)Z" } : Jvm.MethodName)) ∈ lw_all := lw_g (lw_at lw_m10 211 rfl) rfl
theorem q2494 : (Jvm.Cond.static ({ cls := "BakeryPlanModel", name := "isMinute", desc := "(I)Z" } : Jvm.MethodName)) ∈ lw_all := lw_g (lw_at lw_m10 212 rfl) rfl
theorem q2495 : (Jvm.Cond.code ({ cls := "BakeryPlanModel", name := "isMinute", desc := "(I)Z" } : Jvm.MethodName) prog_13_method_14_code (1 : Nat) (Option.some Jvm.ClassFile.FieldType.boolean)) ∈ lw_all := lw_g (lw_at lw_m10 213 rfl) rfl
theorem q2497 : (Jvm.Cond.instanceMethod ({ cls := "BakeryPlanModel", name := "baking", desc := "(II)I" } : Jvm.MethodName)) ∈ lw_all := lw_g (lw_at lw_m10 215 rfl) rfl
theorem q2498 : (Jvm.Cond.selects "BakeryPlanModel" ({ cls := "BakeryPlanModel", name := "baking", desc := "(II)I" } : Jvm.MethodName) ({ cls := "BakeryPlanModel", name := "baking", desc := "(II)I" } : Jvm.MethodName)) ∈ lw_all := lw_g (lw_at lw_m10 216 rfl) rfl
theorem q2499 : (Jvm.Cond.code ({ cls := "BakeryPlanModel", name := "baking", desc := "(II)I" } : Jvm.MethodName) prog_13_method_109_code (3 : Nat) (Option.some Jvm.ClassFile.FieldType.int)) ∈ lw_all := lw_g (lw_at lw_m10 217 rfl) rfl
theorem q2501 : (Jvm.Cond.instanceMethod ({ cls := "BakeryPlanModel", name := "inRoom", desc := "(I)I" } : Jvm.MethodName)) ∈ lw_all := lw_g (lw_at lw_m10 219 rfl) rfl
theorem q2502 : (Jvm.Cond.selects "BakeryPlanModel" ({ cls := "BakeryPlanModel", name := "inRoom", desc := "(I)I" } : Jvm.MethodName) ({ cls := "BakeryPlanModel", name := "inRoom", desc := "(I)I" } : Jvm.MethodName)) ∈ lw_all := lw_g (lw_at lw_m10 220 rfl) rfl
theorem q2503 : (Jvm.Cond.code ({ cls := "BakeryPlanModel", name := "inRoom", desc := "(I)I" } : Jvm.MethodName) prog_13_method_110_code (2 : Nat) (Option.some Jvm.ClassFile.FieldType.int)) ∈ lw_all := lw_g (lw_at lw_m10 221 rfl) rfl
theorem q2505 : (Jvm.Cond.instanceMethod ({ cls := "BakeryPlanModel", name := "onShelves", desc := "(I)I" } : Jvm.MethodName)) ∈ lw_all := lw_g (lw_at lw_m10 223 rfl) rfl
theorem q2506 : (Jvm.Cond.selects "BakeryPlanModel" ({ cls := "BakeryPlanModel", name := "onShelves", desc := "(I)I" } : Jvm.MethodName) ({ cls := "BakeryPlanModel", name := "onShelves", desc := "(I)I" } : Jvm.MethodName)) ∈ lw_all := lw_g (lw_at lw_m10 224 rfl) rfl
theorem q2507 : (Jvm.Cond.code ({ cls := "BakeryPlanModel", name := "onShelves", desc := "(I)I" } : Jvm.MethodName) prog_13_method_111_code (2 : Nat) (Option.some Jvm.ClassFile.FieldType.int)) ∈ lw_all := lw_g (lw_at lw_m10 225 rfl) rfl
theorem q2509 : (Jvm.Cond.instanceMethod ({ cls := "BakeryPlanModel", name := "bestSwap", desc := "()I" } : Jvm.MethodName)) ∈ lw_all := lw_g (lw_at lw_m10 227 rfl) rfl
theorem q2510 : (Jvm.Cond.selects "BakeryPlanModel" ({ cls := "BakeryPlanModel", name := "bestSwap", desc := "()I" } : Jvm.MethodName) ({ cls := "BakeryPlanModel", name := "bestSwap", desc := "()I" } : Jvm.MethodName)) ∈ lw_all := lw_g (lw_at lw_m10 228 rfl) rfl
theorem q2511 : (Jvm.Cond.code ({ cls := "BakeryPlanModel", name := "bestSwap", desc := "()I" } : Jvm.MethodName) prog_13_method_119_code (3 : Nat) (Option.some Jvm.ClassFile.FieldType.int)) ∈ lw_all := lw_g (lw_at lw_m10 229 rfl) rfl
theorem q2512 : (Jvm.Cond.methodLink "BakeryPlanModel" (441 : Nat) ({ cls := "BakeryPlanModel", name := "measures", desc := "()V" } : Jvm.MethodName)) ∈ lw_all := lw_g (lw_at lw_m10 230 rfl) rfl
theorem q2513 : (Jvm.Cond.privateMethod ({ cls := "BakeryPlanModel", name := "measures", desc := "()V" } : Jvm.MethodName)) ∈ lw_tbl := lw_at lw_m10 231 rfl
theorem q2514 : (Jvm.Cond.instanceMethod ({ cls := "BakeryPlanModel", name := "measures", desc := "()V" } : Jvm.MethodName)) ∈ lw_all := lw_g (lw_at lw_m10 232 rfl) rfl
theorem q2515 : (Jvm.Cond.code ({ cls := "BakeryPlanModel", name := "measures", desc := "()V" } : Jvm.MethodName) prog_13_method_112_code (1 : Nat) (Option.none : Option Jvm.ClassFile.FieldType)) ∈ lw_all := lw_g (lw_at lw_m10 233 rfl) rfl
theorem q2516 : (Jvm.Cond.methodLink "BakeryPlanModel" (444 : Nat) ({ cls := "BakeryPlanModel", name := "beginTrial", desc := "()V" } : Jvm.MethodName)) ∈ lw_all := lw_g (lw_at lw_m10 234 rfl) rfl
theorem q2517 : (Jvm.Cond.privateMethod ({ cls := "BakeryPlanModel", name := "beginTrial", desc := "()V" } : Jvm.MethodName)) ∈ lw_tbl := lw_at lw_m10 235 rfl
theorem q2518 : (Jvm.Cond.instanceMethod ({ cls := "BakeryPlanModel", name := "beginTrial", desc := "()V" } : Jvm.MethodName)) ∈ lw_all := lw_g (lw_at lw_m10 236 rfl) rfl
theorem q2519 : (Jvm.Cond.code ({ cls := "BakeryPlanModel", name := "beginTrial", desc := "()V" } : Jvm.MethodName) prog_13_method_116_code (1 : Nat) (Option.none : Option Jvm.ClassFile.FieldType)) ∈ lw_all := lw_g (lw_at lw_m10 237 rfl) rfl
theorem q2520 : (Jvm.Cond.methodLink "BakeryPlanModel" (447 : Nat) ({ cls := "BakeryPlanModel", name := "exchange", desc := "(II)V" } : Jvm.MethodName)) ∈ lw_all := lw_g (lw_at lw_m10 238 rfl) rfl
theorem q2521 : (Jvm.Cond.privateMethod ({ cls := "BakeryPlanModel", name := "exchange", desc := "(II)V" } : Jvm.MethodName)) ∈ lw_tbl := lw_at lw_m10 239 rfl
theorem q2522 : (Jvm.Cond.instanceMethod ({ cls := "BakeryPlanModel", name := "exchange", desc := "(II)V" } : Jvm.MethodName)) ∈ lw_all := lw_g (lw_at lw_m11 0 rfl) rfl
theorem q2523 : (Jvm.Cond.code ({ cls := "BakeryPlanModel", name := "exchange", desc := "(II)V" } : Jvm.MethodName) prog_13_method_118_code (5 : Nat) (Option.none : Option Jvm.ClassFile.FieldType)) ∈ lw_all := lw_g (lw_at lw_m11 1 rfl) rfl
theorem q2524 : (Jvm.Cond.methodLink "BakeryPlanModel" (437 : Nat) ({ cls := "BakeryPlanModel", name := "setBatch", desc := "(III)V" } : Jvm.MethodName)) ∈ lw_all := lw_g (lw_at lw_m11 2 rfl) rfl
theorem q2525 : (Jvm.Cond.privateMethod ({ cls := "BakeryPlanModel", name := "setBatch", desc := "(III)V" } : Jvm.MethodName)) ∈ lw_tbl := lw_at lw_m11 3 rfl
theorem q2526 : (Jvm.Cond.instanceMethod ({ cls := "BakeryPlanModel", name := "setBatch", desc := "(III)V" } : Jvm.MethodName)) ∈ lw_all := lw_g (lw_at lw_m11 4 rfl) rfl
theorem q2527 : (Jvm.Cond.code ({ cls := "BakeryPlanModel", name := "setBatch", desc := "(III)V" } : Jvm.MethodName) prog_13_method_8_code (4 : Nat) (Option.none : Option Jvm.ClassFile.FieldType)) ∈ lw_all := lw_g (lw_at lw_m11 5 rfl) rfl
theorem q2528 : (Jvm.Cond.methodLink "BakeryPlanModel" (450 : Nat) ({ cls := "BakeryPlanModel", name := "isBetter", desc := "()Z" } : Jvm.MethodName)) ∈ lw_all := lw_g (lw_at lw_m11 6 rfl) rfl
theorem q2529 : (Jvm.Cond.privateMethod ({ cls := "BakeryPlanModel", name := "isBetter", desc := "()Z" } : Jvm.MethodName)) ∈ lw_tbl := lw_at lw_m11 7 rfl
theorem q2530 : (Jvm.Cond.instanceMethod ({ cls := "BakeryPlanModel", name := "isBetter", desc := "()Z" } : Jvm.MethodName)) ∈ lw_all := lw_g (lw_at lw_m11 8 rfl) rfl
theorem q2531 : (Jvm.Cond.code ({ cls := "BakeryPlanModel", name := "isBetter", desc := "()Z" } : Jvm.MethodName) prog_13_method_113_code (3 : Nat) (Option.some Jvm.ClassFile.FieldType.boolean)) ∈ lw_all := lw_g (lw_at lw_m11 9 rfl) rfl
theorem q2532 : (Jvm.Cond.methodLink "BakeryPlanModel" (453 : Nat) ({ cls := "BakeryPlanModel", name := "keepsBest", desc := "()V" } : Jvm.MethodName)) ∈ lw_all := lw_g (lw_at lw_m11 10 rfl) rfl
theorem q2533 : (Jvm.Cond.privateMethod ({ cls := "BakeryPlanModel", name := "keepsBest", desc := "()V" } : Jvm.MethodName)) ∈ lw_tbl := lw_at lw_m11 11 rfl
theorem q2534 : (Jvm.Cond.instanceMethod ({ cls := "BakeryPlanModel", name := "keepsBest", desc := "()V" } : Jvm.MethodName)) ∈ lw_all := lw_g (lw_at lw_m11 12 rfl) rfl
theorem q2535 : (Jvm.Cond.code ({ cls := "BakeryPlanModel", name := "keepsBest", desc := "()V" } : Jvm.MethodName) prog_13_method_114_code (1 : Nat) (Option.none : Option Jvm.ClassFile.FieldType)) ∈ lw_all := lw_g (lw_at lw_m11 13 rfl) rfl
theorem q2536 : (Jvm.Cond.methodLink "BakeryPlanModel" (456 : Nat) ({ cls := "BakeryPlanModel", name := "endTrial", desc := "()V" } : Jvm.MethodName)) ∈ lw_all := lw_g (lw_at lw_m11 14 rfl) rfl
theorem q2537 : (Jvm.Cond.privateMethod ({ cls := "BakeryPlanModel", name := "endTrial", desc := "()V" } : Jvm.MethodName)) ∈ lw_tbl := lw_at lw_m11 15 rfl
theorem q2538 : (Jvm.Cond.instanceMethod ({ cls := "BakeryPlanModel", name := "endTrial", desc := "()V" } : Jvm.MethodName)) ∈ lw_all := lw_g (lw_at lw_m11 16 rfl) rfl
theorem q2539 : (Jvm.Cond.code ({ cls := "BakeryPlanModel", name := "endTrial", desc := "()V" } : Jvm.MethodName) prog_13_method_117_code (1 : Nat) (Option.none : Option Jvm.ClassFile.FieldType)) ∈ lw_all := lw_g (lw_at lw_m11 17 rfl) rfl
theorem q2541 : (Jvm.Cond.instanceMethod ({ cls := "BakeryPlanModel", name := "needed", desc := "(I)I" } : Jvm.MethodName)) ∈ lw_all := lw_g (lw_at lw_m11 19 rfl) rfl
theorem q2542 : (Jvm.Cond.selects "BakeryPlanModel" ({ cls := "BakeryPlanModel", name := "needed", desc := "(I)I" } : Jvm.MethodName) ({ cls := "BakeryPlanModel", name := "needed", desc := "(I)I" } : Jvm.MethodName)) ∈ lw_all := lw_g (lw_at lw_m11 20 rfl) rfl
theorem q2543 : (Jvm.Cond.code ({ cls := "BakeryPlanModel", name := "needed", desc := "(I)I" } : Jvm.MethodName) prog_13_method_121_code (3 : Nat) (Option.some Jvm.ClassFile.FieldType.int)) ∈ lw_all := lw_g (lw_at lw_m11 21 rfl) rfl
theorem q2544 : (Jvm.Cond.methodLink "BakeryPlanModel" (462 : Nat) ({ cls := "BakeryPlanModel", name := "losesWith", desc := "(II)Z" } : Jvm.MethodName)) ∈ lw_all := lw_g (lw_at lw_m11 22 rfl) rfl
theorem q2545 : (Jvm.Cond.privateMethod ({ cls := "BakeryPlanModel", name := "losesWith", desc := "(II)Z" } : Jvm.MethodName)) ∈ lw_tbl := lw_at lw_m11 23 rfl
theorem q2546 : (Jvm.Cond.instanceMethod ({ cls := "BakeryPlanModel", name := "losesWith", desc := "(II)Z" } : Jvm.MethodName)) ∈ lw_all := lw_g (lw_at lw_m11 24 rfl) rfl
theorem q2547 : (Jvm.Cond.code ({ cls := "BakeryPlanModel", name := "losesWith", desc := "(II)Z" } : Jvm.MethodName) prog_13_method_120_code (4 : Nat) (Option.some Jvm.ClassFile.FieldType.boolean)) ∈ lw_all := lw_g (lw_at lw_m11 25 rfl) rfl
theorem q2548 : (Jvm.Cond.methodLink "BakeryPlanModel" (459 : Nat) ({ cls := "BakeryPlanModel", name := "set", desc := "(II)V" } : Jvm.MethodName)) ∈ lw_all := lw_g (lw_at lw_m11 26 rfl) rfl
theorem q2549 : (Jvm.Cond.privateMethod ({ cls := "BakeryPlanModel", name := "set", desc := "(II)V" } : Jvm.MethodName)) ∈ lw_tbl := lw_at lw_m11 27 rfl
theorem q2550 : (Jvm.Cond.instanceMethod ({ cls := "BakeryPlanModel", name := "set", desc := "(II)V" } : Jvm.MethodName)) ∈ lw_all := lw_g (lw_at lw_m11 28 rfl) rfl
theorem q2551 : (Jvm.Cond.code ({ cls := "BakeryPlanModel", name := "set", desc := "(II)V" } : Jvm.MethodName) prog_13_method_6_code (3 : Nat) (Option.none : Option Jvm.ClassFile.FieldType)) ∈ lw_all := lw_g (lw_at lw_m11 29 rfl) rfl
theorem q2553 : (Jvm.Cond.instanceMethod ({ cls := "BakeryPlanModel", name := "slack", desc := "(II)I" } : Jvm.MethodName)) ∈ lw_all := lw_g (lw_at lw_m11 31 rfl) rfl
theorem q2554 : (Jvm.Cond.selects "BakeryPlanModel" ({ cls := "BakeryPlanModel", name := "slack", desc := "(II)I" } : Jvm.MethodName) ({ cls := "BakeryPlanModel", name := "slack", desc := "(II)I" } : Jvm.MethodName)) ∈ lw_all := lw_g (lw_at lw_m11 32 rfl) rfl
theorem q2555 : (Jvm.Cond.code ({ cls := "BakeryPlanModel", name := "slack", desc := "(II)I" } : Jvm.MethodName) prog_13_method_123_code (5 : Nat) (Option.some Jvm.ClassFile.FieldType.int)) ∈ lw_all := lw_g (lw_at lw_m11 33 rfl) rfl
theorem q2556 : (Jvm.Cond.methodLink "BakeryPlanModel" (469 : Nat) ({ cls := "BakeryPlanModel", name := "isDoneLater", desc := "(II)Z" } : Jvm.MethodName)) ∈ lw_all := lw_g (lw_at lw_m11 34 rfl) rfl
theorem q2557 : (Jvm.Cond.privateMethod ({ cls := "BakeryPlanModel", name := "isDoneLater", desc := "(II)Z" } : Jvm.MethodName)) ∈ lw_tbl := lw_at lw_m11 35 rfl
theorem q2558 : (Jvm.Cond.instanceMethod ({ cls := "BakeryPlanModel", name := "isDoneLater", desc := "(II)Z" } : Jvm.MethodName)) ∈ lw_all := lw_g (lw_at lw_m11 36 rfl) rfl
theorem q2559 : (Jvm.Cond.code ({ cls := "BakeryPlanModel", name := "isDoneLater", desc := "(II)Z" } : Jvm.MethodName) prog_13_method_122_code (4 : Nat) (Option.some Jvm.ClassFile.FieldType.boolean)) ∈ lw_all := lw_g (lw_at lw_m11 37 rfl) rfl
theorem q2560 : (Jvm.Cond.methodLink "BakeryPlanModel" (466 : Nat) ({ cls := "BakeryPlanModel", name := "playsUntil", desc := "(I)V" } : Jvm.MethodName)) ∈ lw_all := lw_g (lw_at lw_m11 38 rfl) rfl
theorem q2561 : (Jvm.Cond.privateMethod ({ cls := "BakeryPlanModel", name := "playsUntil", desc := "(I)V" } : Jvm.MethodName)) ∈ lw_tbl := lw_at lw_m11 39 rfl
theorem q2562 : (Jvm.Cond.instanceMethod ({ cls := "BakeryPlanModel", name := "playsUntil", desc := "(I)V" } : Jvm.MethodName)) ∈ lw_all := lw_g (lw_at lw_m11 40 rfl) rfl
theorem q2563 : (Jvm.Cond.code ({ cls := "BakeryPlanModel", name := "playsUntil", desc := "(I)V" } : Jvm.MethodName) prog_13_method_87_code (3 : Nat) (Option.none : Option Jvm.ClassFile.FieldType)) ∈ lw_all := lw_g (lw_at lw_m11 41 rfl) rfl
theorem q2565 : (Jvm.Cond.instanceMethod ({ cls := "BakeryPlanModel", name := "bestPolicy", desc := "()I" } : Jvm.MethodName)) ∈ lw_all := lw_g (lw_at lw_m11 43 rfl) rfl
theorem q2566 : (Jvm.Cond.selects "BakeryPlanModel" ({ cls := "BakeryPlanModel", name := "bestPolicy", desc := "()I" } : Jvm.MethodName) ({ cls := "BakeryPlanModel", name := "bestPolicy", desc := "()I" } : Jvm.MethodName)) ∈ lw_all := lw_g (lw_at lw_m11 44 rfl) rfl
theorem q2567 : (Jvm.Cond.code ({ cls := "BakeryPlanModel", name := "bestPolicy", desc := "()I" } : Jvm.MethodName) prog_13_method_124_code (3 : Nat) (Option.some Jvm.ClassFile.FieldType.int)) ∈ lw_all := lw_g (lw_at lw_m11 45 rfl) rfl
theorem q2569 : (Jvm.Cond.instanceMethod ({ cls := "BakeryPlanModel", name := "undo", desc := "()I" } : Jvm.MethodName)) ∈ lw_all := lw_g (lw_at lw_m11 47 rfl) rfl
theorem q2570 : (Jvm.Cond.selects "BakeryPlanModel" ({ cls := "BakeryPlanModel", name := "undo", desc := "()I" } : Jvm.MethodName) ({ cls := "BakeryPlanModel", name := "undo", desc := "()I" } : Jvm.MethodName)) ∈ lw_all := lw_g (lw_at lw_m11 48 rfl) rfl
theorem q2571 : (Jvm.Cond.code ({ cls := "BakeryPlanModel", name := "undo", desc := "()I" } : Jvm.MethodName) prog_13_method_127_code (1 : Nat) (Option.some Jvm.ClassFile.FieldType.int)) ∈ lw_all := lw_g (lw_at lw_m11 49 rfl) rfl
theorem q2572 : (Jvm.Cond.methodLink "BakeryPlanModel" (472 : Nat) ({ cls := "BakeryPlanModel", name := "slot", desc := "(I)I" } : Jvm.MethodName)) ∈ lw_all := lw_g (lw_at lw_m11 50 rfl) rfl
theorem q2573 : (Jvm.Cond.privateMethod ({ cls := "BakeryPlanModel", name := "slot", desc := "(I)I" } : Jvm.MethodName)) ∈ lw_tbl := lw_at lw_m11 51 rfl
theorem q2574 : (Jvm.Cond.instanceMethod ({ cls := "BakeryPlanModel", name := "slot", desc := "(I)I" } : Jvm.MethodName)) ∈ lw_all := lw_g (lw_at lw_m11 52 rfl) rfl
theorem q2575 : (Jvm.Cond.code ({ cls := "BakeryPlanModel", name := "slot", desc := "(I)I" } : Jvm.MethodName) prog_13_method_125_code (2 : Nat) (Option.some Jvm.ClassFile.FieldType.int)) ∈ lw_all := lw_g (lw_at lw_m11 53 rfl) rfl
theorem q2577 : (Jvm.Cond.instanceMethod ({ cls := "BakeryPlanModel", name := "addBatch", desc := "(III)I" } : Jvm.MethodName)) ∈ lw_all := lw_g (lw_at lw_m11 55 rfl) rfl
theorem q2578 : (Jvm.Cond.selects "BakeryPlanModel" ({ cls := "BakeryPlanModel", name := "addBatch", desc := "(III)I" } : Jvm.MethodName) ({ cls := "BakeryPlanModel", name := "addBatch", desc := "(III)I" } : Jvm.MethodName)) ∈ lw_all := lw_g (lw_at lw_m11 56 rfl) rfl
theorem q2579 : (Jvm.Cond.code ({ cls := "BakeryPlanModel", name := "addBatch", desc := "(III)I" } : Jvm.MethodName) prog_13_method_128_code (5 : Nat) (Option.some Jvm.ClassFile.FieldType.int)) ∈ lw_all := lw_g (lw_at lw_m11 57 rfl) rfl
theorem q2580 : (Jvm.Cond.methodLink "BakeryPlanModel" (475 : Nat) ({ cls := "BakeryPlanModel", name := "isProduct", desc := "(I)Z" } : Jvm.MethodName)) ∈ lw_all := lw_g (lw_at lw_m11 58 rfl) rfl
theorem q2581 : (Jvm.Cond.privateMethod ({ cls := "BakeryPlanModel", name := "isProduct", desc := "(I)Z" } : Jvm.MethodName)) ∈ lw_tbl := lw_at lw_m11 59 rfl
theorem q2582 : (Jvm.Cond.instanceMethod ({ cls := "BakeryPlanModel", name := "isProduct", desc := "(I)Z" } : Jvm.MethodName)) ∈ lw_all := lw_g (lw_at lw_m11 60 rfl) rfl
theorem q2583 : (Jvm.Cond.code ({ cls := "BakeryPlanModel", name := "isProduct", desc := "(I)Z" } : Jvm.MethodName) prog_13_method_11_code (2 : Nat) (Option.some Jvm.ClassFile.FieldType.boolean)) ∈ lw_all := lw_g (lw_at lw_m11 61 rfl) rfl
theorem q2584 : (Jvm.Cond.methodLink "BakeryPlanModel" (478 : Nat) ({ cls := "BakeryPlanModel", name := "keep", desc := "()V" } : Jvm.MethodName)) ∈ lw_all := lw_g (lw_at lw_m11 62 rfl) rfl
theorem q2585 : (Jvm.Cond.privateMethod ({ cls := "BakeryPlanModel", name := "keep", desc := "()V" } : Jvm.MethodName)) ∈ lw_tbl := lw_at lw_m11 63 rfl
theorem q2586 : (Jvm.Cond.instanceMethod ({ cls := "BakeryPlanModel", name := "keep", desc := "()V" } : Jvm.MethodName)) ∈ lw_all := lw_g (lw_at lw_m11 64 rfl) rfl
theorem q2587 : (Jvm.Cond.code ({ cls := "BakeryPlanModel", name := "keep", desc := "()V" } : Jvm.MethodName) prog_13_method_126_code (1 : Nat) (Option.none : Option Jvm.ClassFile.FieldType)) ∈ lw_all := lw_g (lw_at lw_m11 65 rfl) rfl
theorem q2589 : (Jvm.Cond.instanceMethod ({ cls := "BakeryPlanModel", name := "removeBatch", desc := "(I)I" } : Jvm.MethodName)) ∈ lw_all := lw_g (lw_at lw_m11 67 rfl) rfl
theorem q2590 : (Jvm.Cond.selects "BakeryPlanModel" ({ cls := "BakeryPlanModel", name := "removeBatch", desc := "(I)I" } : Jvm.MethodName) ({ cls := "BakeryPlanModel", name := "removeBatch", desc := "(I)I" } : Jvm.MethodName)) ∈ lw_all := lw_g (lw_at lw_m11 68 rfl) rfl
theorem q2591 : (Jvm.Cond.code ({ cls := "BakeryPlanModel", name := "removeBatch", desc := "(I)I" } : Jvm.MethodName) prog_13_method_129_code (3 : Nat) (Option.some Jvm.ClassFile.FieldType.int)) ∈ lw_all := lw_g (lw_at lw_m11 69 rfl) rfl
theorem q2593 : (Jvm.Cond.instanceMethod ({ cls := "BakeryPlanModel", name := "moveBatch", desc := "(II)I" } : Jvm.MethodName)) ∈ lw_all := lw_g (lw_at lw_m11 71 rfl) rfl
theorem q2594 : (Jvm.Cond.selects "BakeryPlanModel" ({ cls := "BakeryPlanModel", name := "moveBatch", desc := "(II)I" } : Jvm.MethodName) ({ cls := "BakeryPlanModel", name := "moveBatch", desc := "(II)I" } : Jvm.MethodName)) ∈ lw_all := lw_g (lw_at lw_m11 72 rfl) rfl
theorem q2595 : (Jvm.Cond.code ({ cls := "BakeryPlanModel", name := "moveBatch", desc := "(II)I" } : Jvm.MethodName) prog_13_method_130_code (4 : Nat) (Option.some Jvm.ClassFile.FieldType.int)) ∈ lw_all := lw_g (lw_at lw_m11 73 rfl) rfl
theorem q2597 : (Jvm.Cond.instanceMethod ({ cls := "BakeryPlanModel", name := "setStart", desc := "(II)I" } : Jvm.MethodName)) ∈ lw_all := lw_g (lw_at lw_m11 75 rfl) rfl
theorem q2598 : (Jvm.Cond.selects "BakeryPlanModel" ({ cls := "BakeryPlanModel", name := "setStart", desc := "(II)I" } : Jvm.MethodName) ({ cls := "BakeryPlanModel", name := "setStart", desc := "(II)I" } : Jvm.MethodName)) ∈ lw_all := lw_g (lw_at lw_m11 76 rfl) rfl
theorem q2599 : (Jvm.Cond.code ({ cls := "BakeryPlanModel", name := "setStart", desc := "(II)I" } : Jvm.MethodName) prog_13_method_131_code (4 : Nat) (Option.some Jvm.ClassFile.FieldType.int)) ∈ lw_all := lw_g (lw_at lw_m11 77 rfl) rfl
theorem q2601 : (Jvm.Cond.instanceMethod ({ cls := "BakeryPlanModel", name := "setWave", desc := "(II)I" } : Jvm.MethodName)) ∈ lw_all := lw_g (lw_at lw_m11 79 rfl) rfl
theorem q2602 : (Jvm.Cond.selects "BakeryPlanModel" ({ cls := "BakeryPlanModel", name := "setWave", desc := "(II)I" } : Jvm.MethodName) ({ cls := "BakeryPlanModel", name := "setWave", desc := "(II)I" } : Jvm.MethodName)) ∈ lw_all := lw_g (lw_at lw_m11 80 rfl) rfl
theorem q2603 : (Jvm.Cond.code ({ cls := "BakeryPlanModel", name := "setWave", desc := "(II)I" } : Jvm.MethodName) prog_13_method_132_code (4 : Nat) (Option.some Jvm.ClassFile.FieldType.int)) ∈ lw_all := lw_g (lw_at lw_m11 81 rfl) rfl
theorem q2605 : (Jvm.Cond.instanceMethod ({ cls := "BakeryPlanModel", name := "setSetting", desc := "(II)I" } : Jvm.MethodName)) ∈ lw_all := lw_g (lw_at lw_m11 83 rfl) rfl
theorem q2606 : (Jvm.Cond.selects "BakeryPlanModel" ({ cls := "BakeryPlanModel", name := "setSetting", desc := "(II)I" } : Jvm.MethodName) ({ cls := "BakeryPlanModel", name := "setSetting", desc := "(II)I" } : Jvm.MethodName)) ∈ lw_all := lw_g (lw_at lw_m11 84 rfl) rfl
theorem q2607 : (Jvm.Cond.code ({ cls := "BakeryPlanModel", name := "setSetting", desc := "(II)I" } : Jvm.MethodName) prog_13_method_134_code (3 : Nat) (Option.some Jvm.ClassFile.FieldType.int)) ∈ lw_all := lw_g (lw_at lw_m11 85 rfl) rfl
theorem q2608 : (Jvm.Cond.methodLink "BakeryPlanModel" (481 : Nat) ({ cls := "BakeryPlanModel", name := "change", desc := "(II)I" } : Jvm.MethodName)) ∈ lw_all := lw_g (lw_at lw_m11 86 rfl) rfl
theorem q2609 : (Jvm.Cond.privateMethod ({ cls := "BakeryPlanModel", name := "change", desc := "(II)I" } : Jvm.MethodName)) ∈ lw_tbl := lw_at lw_m11 87 rfl
theorem q2610 : (Jvm.Cond.instanceMethod ({ cls := "BakeryPlanModel", name := "change", desc := "(II)I" } : Jvm.MethodName)) ∈ lw_all := lw_g (lw_at lw_m11 88 rfl) rfl
theorem q2611 : (Jvm.Cond.code ({ cls := "BakeryPlanModel", name := "change", desc := "(II)I" } : Jvm.MethodName) prog_13_method_133_code (4 : Nat) (Option.some Jvm.ClassFile.FieldType.int)) ∈ lw_all := lw_g (lw_at lw_m11 89 rfl) rfl
theorem q2613 : (Jvm.Cond.instanceMethod ({ cls := "BakeryPlanModel", name := "setPolicy", desc := "(I)I" } : Jvm.MethodName)) ∈ lw_all := lw_g (lw_at lw_m11 91 rfl) rfl
theorem q2614 : (Jvm.Cond.selects "BakeryPlanModel" ({ cls := "BakeryPlanModel", name := "setPolicy", desc := "(I)I" } : Jvm.MethodName) ({ cls := "BakeryPlanModel", name := "setPolicy", desc := "(I)I" } : Jvm.MethodName)) ∈ lw_all := lw_g (lw_at lw_m11 92 rfl) rfl
theorem q2615 : (Jvm.Cond.code ({ cls := "BakeryPlanModel", name := "setPolicy", desc := "(I)I" } : Jvm.MethodName) prog_13_method_135_code (2 : Nat) (Option.some Jvm.ClassFile.FieldType.int)) ∈ lw_all := lw_g (lw_at lw_m11 93 rfl) rfl
theorem q2617 : (Jvm.Cond.instanceMethod ({ cls := "BakeryPlanModel", name := "format", desc := "(I)I" } : Jvm.MethodName)) ∈ lw_all := lw_g (lw_at lw_m11 95 rfl) rfl
theorem q2618 : (Jvm.Cond.selects "BakeryPlanModel" ({ cls := "BakeryPlanModel", name := "format", desc := "(I)I" } : Jvm.MethodName) ({ cls := "BakeryPlanModel", name := "format", desc := "(I)I" } : Jvm.MethodName)) ∈ lw_all := lw_g (lw_at lw_m11 96 rfl) rfl
theorem q2619 : (Jvm.Cond.code ({ cls := "BakeryPlanModel", name := "format", desc := "(I)I" } : Jvm.MethodName) prog_13_method_142_code (2 : Nat) (Option.some Jvm.ClassFile.FieldType.int)) ∈ lw_all := lw_g (lw_at lw_m11 97 rfl) rfl
theorem q2620 : (Jvm.Cond.methodLink "BakeryPlanModel" (513 : Nat) ({ cls := "BakeryPlanModel", name := "sayName", desc := "(J)V" } : Jvm.MethodName)) ∈ lw_all := lw_g (lw_at lw_m11 98 rfl) rfl
theorem q2621 : (Jvm.Cond.privateMethod ({ cls := "BakeryPlanModel", name := "sayName", desc := "(J)V" } : Jvm.MethodName)) ∈ lw_tbl := lw_at lw_m11 99 rfl
theorem q2622 : (Jvm.Cond.instanceMethod ({ cls := "BakeryPlanModel", name := "sayName", desc := "(J)V" } : Jvm.MethodName)) ∈ lw_all := lw_g (lw_at lw_m11 100 rfl) rfl
theorem q2623 : (Jvm.Cond.code ({ cls := "BakeryPlanModel", name := "sayName", desc := "(J)V" } : Jvm.MethodName) prog_13_method_139_code (4 : Nat) (Option.none : Option Jvm.ClassFile.FieldType)) ∈ lw_all := lw_g (lw_at lw_m11 101 rfl) rfl
theorem q2624 : (Jvm.Cond.constantLong "BakeryPlanModel" (500 : Nat) (31 : Int64)) ∈ lw_all := lw_g (lw_at lw_m11 102 rfl) rfl
theorem q2625 : (Jvm.Cond.methodLink "BakeryPlanModel" (496 : Nat) ({ cls := "BakeryPlanModel", name := "say", desc := "(C)V" } : Jvm.MethodName)) ∈ lw_all := lw_g (lw_at lw_m11 103 rfl) rfl
theorem q2626 : (Jvm.Cond.privateMethod ({ cls := "BakeryPlanModel", name := "say", desc := "(C)V" } : Jvm.MethodName)) ∈ lw_tbl := lw_at lw_m11 104 rfl
theorem q2627 : (Jvm.Cond.instanceMethod ({ cls := "BakeryPlanModel", name := "say", desc := "(C)V" } : Jvm.MethodName)) ∈ lw_all := lw_g (lw_at lw_m11 105 rfl) rfl
theorem q2628 : (Jvm.Cond.code ({ cls := "BakeryPlanModel", name := "say", desc := "(C)V" } : Jvm.MethodName) prog_13_method_136_code (2 : Nat) (Option.none : Option Jvm.ClassFile.FieldType)) ∈ lw_all := lw_g (lw_at lw_m11 106 rfl) rfl
theorem q2629 : (Jvm.Cond.methodLink "BakeryPlanModel" (517 : Nat) ({ cls := "BakeryPlanModel", name := "sayPlace", desc := "(CII)V" } : Jvm.MethodName)) ∈ lw_all := lw_g (lw_at lw_m11 107 rfl) rfl
theorem q2630 : (Jvm.Cond.privateMethod ({ cls := "BakeryPlanModel", name := "sayPlace", desc := "(CII)V" } : Jvm.MethodName)) ∈ lw_tbl := lw_at lw_m11 108 rfl
theorem q2631 : (Jvm.Cond.instanceMethod ({ cls := "BakeryPlanModel", name := "sayPlace", desc := "(CII)V" } : Jvm.MethodName)) ∈ lw_all := lw_g (lw_at lw_m11 109 rfl) rfl
theorem q2632 : (Jvm.Cond.code ({ cls := "BakeryPlanModel", name := "sayPlace", desc := "(CII)V" } : Jvm.MethodName) prog_13_method_140_code (4 : Nat) (Option.none : Option Jvm.ClassFile.FieldType)) ∈ lw_all := lw_g (lw_at lw_m11 110 rfl) rfl
theorem q2633 : (Jvm.Cond.methodLink "BakeryPlanModel" (502 : Nat) ({ cls := "BakeryPlanModel", name := "sayNumber", desc := "(I)V" } : Jvm.MethodName)) ∈ lw_all := lw_g (lw_at lw_m11 111 rfl) rfl
theorem q2634 : (Jvm.Cond.privateMethod ({ cls := "BakeryPlanModel", name := "sayNumber", desc := "(I)V" } : Jvm.MethodName)) ∈ lw_tbl := lw_at lw_m11 112 rfl
theorem q2635 : (Jvm.Cond.instanceMethod ({ cls := "BakeryPlanModel", name := "sayNumber", desc := "(I)V" } : Jvm.MethodName)) ∈ lw_all := lw_g (lw_at lw_m11 113 rfl) rfl
theorem q2636 : (Jvm.Cond.code ({ cls := "BakeryPlanModel", name := "sayNumber", desc := "(I)V" } : Jvm.MethodName) prog_13_method_138_code (3 : Nat) (Option.none : Option Jvm.ClassFile.FieldType)) ∈ lw_all := lw_g (lw_at lw_m11 114 rfl) rfl
theorem q2637 : (Jvm.Cond.methodLink "BakeryPlanModel" (521 : Nat) ({ cls := "BakeryPlanModel", name := "nameOfState", desc := "(I)Ljava/lang/String;" } : Jvm.MethodName)) ∈ lw_all := lw_g (lw_at lw_m11 115 rfl) rfl
theorem q2638 : (Jvm.Cond.static ({ cls := "BakeryPlanModel", name := "nameOfState", desc := "(I)Ljava/lang/String;" } : Jvm.MethodName)) ∈ lw_all := lw_g (lw_at lw_m11 116 rfl) rfl
theorem q2639 : (Jvm.Cond.code ({ cls := "BakeryPlanModel", name := "nameOfState", desc := "(I)Ljava/lang/String;" } : Jvm.MethodName) prog_13_method_141_code (1 : Nat) (Option.some (Jvm.ClassFile.FieldType.object "java/lang/String"))) ∈ lw_all := lw_g (lw_at lw_m11 117 rfl) rfl
theorem q2640 : (Jvm.Cond.stringRef "BakeryPlanModel" (505 : Nat) " open") ∈ lw_tbl := lw_at lw_m11 118 rfl
theorem q2641 : (Jvm.Cond.stringRef "BakeryPlanModel" (507 : Nat) " done") ∈ lw_tbl := lw_at lw_m11 119 rfl
theorem q2642 : (Jvm.Cond.stringRef "BakeryPlanModel" (509 : Nat) " late") ∈ lw_tbl := lw_at lw_m11 120 rfl
theorem q2643 : (Jvm.Cond.stringRef "BakeryPlanModel" (511 : Nat) " lost") ∈ lw_tbl := lw_at lw_m11 121 rfl
theorem q2644 : (Jvm.Cond.methodLink "BakeryPlanModel" (525 : Nat) ({ cls := "BakeryPlanModel", name := "sayText", desc := "(Ljava/lang/String;)V" } : Jvm.MethodName)) ∈ lw_all := lw_g (lw_at lw_m11 122 rfl) rfl
theorem q2645 : (Jvm.Cond.privateMethod ({ cls := "BakeryPlanModel", name := "sayText", desc := "(Ljava/lang/String;)V" } : Jvm.MethodName)) ∈ lw_tbl := lw_at lw_m11 123 rfl
theorem q2646 : (Jvm.Cond.instanceMethod ({ cls := "BakeryPlanModel", name := "sayText", desc := "(Ljava/lang/String;)V" } : Jvm.MethodName)) ∈ lw_all := lw_g (lw_at lw_m11 124 rfl) rfl
theorem q2647 : (Jvm.Cond.code ({ cls := "BakeryPlanModel", name := "sayText", desc := "(Ljava/lang/String;)V" } : Jvm.MethodName) prog_13_method_137_code (3 : Nat) (Option.none : Option Jvm.ClassFile.FieldType)) ∈ lw_all := lw_g (lw_at lw_m11 125 rfl) rfl
theorem q2648 : (Jvm.Cond.methodLink "BakeryPlanModel" (487 : Nat) ({ cls := "java/lang/String", name := "length", desc := "()I" } : Jvm.MethodName)) ∈ lw_all := lw_g (lw_at lw_m11 126 rfl) rfl
theorem q2649 : (Jvm.Cond.methodLink "BakeryPlanModel" (492 : Nat) ({ cls := "java/lang/String", name := "charAt", desc := "(I)C" } : Jvm.MethodName)) ∈ lw_all := lw_g (lw_at lw_m11 127 rfl) rfl
theorem q2651 : (Jvm.Cond.instanceMethod ({ cls := "BakeryPlanModel", name := "formattedCharacter", desc := "(I)C" } : Jvm.MethodName)) ∈ lw_all := lw_g (lw_at lw_m11 129 rfl) rfl
theorem q2652 : (Jvm.Cond.selects "BakeryPlanModel" ({ cls := "BakeryPlanModel", name := "formattedCharacter", desc := "(I)C" } : Jvm.MethodName) ({ cls := "BakeryPlanModel", name := "formattedCharacter", desc := "(I)C" } : Jvm.MethodName)) ∈ lw_all := lw_g (lw_at lw_m11 130 rfl) rfl
theorem q2653 : (Jvm.Cond.code ({ cls := "BakeryPlanModel", name := "formattedCharacter", desc := "(I)C" } : Jvm.MethodName) prog_13_method_143_code (2 : Nat) (Option.some Jvm.ClassFile.FieldType.char)) ∈ lw_all := lw_g (lw_at lw_m11 131 rfl) rfl
theorem q2679 : (Jvm.Cond.castable "BakeryPlanModel" "java/lang/Object") ∈ lw_tbl := lw_at lw_m11 157 rfl
theorem in_X8 : ∀ w ∈ wsX80, w ∈ lw_all := lw_in wsX80 [1970, 1972, 1974, 1976, 1978, 1980, 1982, 1984, 1986, 1988, 1990, 1992, 1994, 1996, 1998, 2000, 2002, 2004, 2006, 2008, 2010, 2012, 2014, 2016, 2018, 2020, 2022, 2024, 2026, 2028, 2030, 2032, 2034, 2036, 2038, 2040, 2042, 2044, 2046, 2048, 2050, 2052, 2054, 2056, 2058, 2060, 2062, 2064, 2066, 2068, 2070, 2072, 2074, 2076, 2078, 2080, 2082, 2084, 2086, 2088, 2090] (by decide +kernel) (by decide +kernel)
