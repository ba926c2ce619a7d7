/-! SeenByOneModel -/
set_option maxRecDepth 100000
def RX4 : String := "SeenByOneModel"
def TX4 : u_T := fun k => match k with
  | 0 => ("SeenByOneModel", "things", "I", false)
  | 1 => ("SeenByOneModel", "summer", "I", false)
  | 2 => ("SeenByOneModel", "farthest", "I", false)
  | 3 => ("SeenByOneModel", "fines", "I", false)
  | 4 => ("SeenByOneModel", "seed", "I", false)
  | 5 => ("SeenByOneModel", "fault", "I", false)
  | 6 => ("SeenByOneModel", "refused", "[I", true)
  | 7 => ("SeenByOneModel", "kind", "[I", true)
  | 8 => ("SeenByOneModel", "xs", "[I", true)
  | 9 => ("SeenByOneModel", "ys", "[I", true)
  | 10 => ("SeenByOneModel", "high", "[I", true)
  | 11 => ("SeenByOneModel", "part", "[I", true)
  | 12 => ("SeenByOneModel", "drawn", "[I", true)
  | 13 => ("SeenByOneModel", "shut", "[I", true)
  | 14 => ("SeenByOneModel", "held", "[I", true)
  | 15 => ("SeenByOneModel", "sort", "[I", true)
  | 16 => ("SeenByOneModel", "size", "[I", true)
  | 17 => ("SeenByOneModel", "shown", "[I", true)
  | 18 => ("SeenByOneModel", "cells", "[J", true)
  | 19 => ("SeenByOneModel", "carried", "[J", true)
  | 20 => ("SeenByOneModel", "words", "[I", true)
  | 21 => ("SeenByOneModel", "tell", "[I", true)
  | 22 => ("SeenByOneModel", "base", "I", false)
  | 23 => ("SeenByOneModel", "place", "I", false)
  | 24 => ("SeenByOneModel", "end", "I", false)
  | 25 => ("SeenByOneModel", "told", "I", false)
  | 26 => ("SeenByOneModel", "wrongAt", "I", false)
  | 27 => ("SeenByOneModel", "was", "[I", true)
  | 28 => ("SeenByOneModel", "kept", "[I", true)
  | 29 => ("SeenByOneModel", "cheapCost", "I", false)
  | 30 => ("SeenByOneModel", "cheapNever", "I", false)
  | 31 => ("SeenByOneModel", "cheapMany", "I", false)
  | 32 => ("SeenByOneModel", "seen", "[I", true)
  | 33 => ("SeenByOneModel", "toldAt", "I", false)
  | 34 => ("SeenByOneModel", "toldOff", "I", false)
  | 35 => ("SeenByOneModel", "trace", "[I", true)
  | 36 => ("SeenByOneModel", "ran", "I", false)
  | _ => ("SeenByOneModel", "isKept", "Z", false)
def tyX4 : Nat → FieldType := fun k => match k with
  | 0 => .int
  | 1 => .int
  | 2 => .int
  | 3 => .int
  | 4 => .int
  | 5 => .int
  | 6 => .array .int
  | 7 => .array .int
  | 8 => .array .int
  | 9 => .array .int
  | 10 => .array .int
  | 11 => .array .int
  | 12 => .array .int
  | 13 => .array .int
  | 14 => .array .int
  | 15 => .array .int
  | 16 => .array .int
  | 17 => .array .int
  | 18 => .array .long
  | 19 => .array .long
  | 20 => .array .int
  | 21 => .array .int
  | 22 => .int
  | 23 => .int
  | 24 => .int
  | 25 => .int
  | 26 => .int
  | 27 => .array .int
  | 28 => .array .int
  | 29 => .int
  | 30 => .int
  | 31 => .int
  | 32 => .array .int
  | 33 => .int
  | 34 => .int
  | 35 => .array .int
  | 36 => .int
  | _ => .boolean
abbrev wsX40 : List Cond := u_ws RX4 TX4 38
set_option maxRecDepth 100000 in
theorem nmX4 : ∀ a, a < 38 → ∀ b, b < 38 → a ≠ b → (TX4 a).2.1 ≠ (TX4 b).2.1 := by decide +kernel
set_option maxRecDepth 100000 in
theorem tyX4_ok : ∀ k, k < 38 → parseFieldDescriptor (TX4 k).2.2.1 = some (tyX4 k) := by decide +kernel
abbrev cX4_init : ByteArray := prog_21_method_1_code
def yX4_init : MethodName := ⟨RX4, "<init>", "()V"⟩
def dkwX4_init_15 : List UInt8 := [181, 0, 78, 42, 16, 20, 188, 10, 181, 0, 81, 177]
abbrev dktX4_init_15 : List UInt8 := dkwX4_init_15 ++ []
def dkwX4_init_14 : List UInt8 := [181, 0, 69, 42, 16, 70, 188, 10, 181, 0, 72, 42, 16, 70, 188, 10, 181, 0, 75, 42, 16, 8, 188, 10]
abbrev dktX4_init_14 : List UInt8 := dkwX4_init_14 ++ dktX4_init_15
def dkwX4_init_13 : List UInt8 := [16, 29, 16, 119, 79, 89, 16, 30, 16, 32, 79, 89, 16, 31, 3, 79, 181, 0, 66, 42, 8, 188, 10]
abbrev dktX4_init_13 : List UInt8 := dkwX4_init_13 ++ dktX4_init_14
def dkwX4_init_12 : List UInt8 := [16, 25, 3, 79, 89, 16, 26, 16, 100, 79, 89, 16, 27, 16, 114, 79, 89, 16, 28, 16, 97, 79, 89]
abbrev dktX4_init_12 : List UInt8 := dkwX4_init_12 ++ dktX4_init_13
def dkwX4_init_11 : List UInt8 := [16, 21, 16, 104, 79, 89, 16, 22, 16, 117, 79, 89, 16, 23, 16, 116, 79, 89, 16, 24, 16, 32, 79, 89]
abbrev dktX4_init_11 : List UInt8 := dkwX4_init_11 ++ dktX4_init_12
def dkwX4_init_10 : List UInt8 := [89, 16, 17, 16, 114, 79, 89, 16, 18, 16, 32, 79, 89, 16, 19, 3, 79, 89, 16, 20, 16, 115, 79, 89]
abbrev dktX4_init_10 : List UInt8 := dkwX4_init_10 ++ dktX4_init_11
def dkwX4_init_9 : List UInt8 := [79, 89, 16, 13, 16, 32, 79, 89, 16, 14, 3, 79, 89, 16, 15, 16, 102, 79, 89, 16, 16, 16, 97, 79]
abbrev dktX4_init_9 : List UInt8 := dkwX4_init_9 ++ dktX4_init_10
def dkwX4_init_8 : List UInt8 := [79, 89, 16, 9, 16, 109, 79, 89, 16, 10, 16, 109, 79, 89, 16, 11, 16, 101, 79, 89, 16, 12, 16, 114]
abbrev dktX4_init_8 : List UInt8 := dkwX4_init_8 ++ dktX4_init_9
def dkwX4_init_7 : List UInt8 := [16, 103, 79, 89, 8, 16, 32, 79, 89, 16, 6, 3, 79, 89, 16, 7, 16, 115, 79, 89, 16, 8, 16, 117]
abbrev dktX4_init_7 : List UInt8 := dkwX4_init_7 ++ dktX4_init_8
def dkwX4_init_6 : List UInt8 := [188, 10, 89, 3, 16, 116, 79, 89, 4, 16, 104, 79, 89, 5, 16, 105, 79, 89, 6, 16, 110, 79, 89, 7]
abbrev dktX4_init_6 : List UInt8 := dkwX4_init_6 ++ dktX4_init_7
def dkwX4_init_5 : List UInt8 := [181, 0, 56, 42, 17, 5, 0, 188, 11, 181, 0, 59, 42, 17, 0, 160, 188, 11, 181, 0, 63, 42, 16, 32]
abbrev dktX4_init_5 : List UInt8 := dkwX4_init_5 ++ dktX4_init_6
def dkwX4_init_4 : List UInt8 := [181, 0, 47, 42, 16, 8, 188, 10, 181, 0, 50, 42, 16, 8, 188, 10, 181, 0, 53, 42, 16, 8, 188, 10]
abbrev dktX4_init_4 : List UInt8 := dkwX4_init_4 ++ dktX4_init_5
def dkwX4_init_3 : List UInt8 := [181, 0, 38, 42, 16, 8, 188, 10, 181, 0, 41, 42, 16, 8, 188, 10, 181, 0, 44, 42, 16, 8, 188, 10]
abbrev dktX4_init_3 : List UInt8 := dkwX4_init_3 ++ dktX4_init_4
def dkwX4_init_2 : List UInt8 := [181, 0, 29, 42, 16, 8, 188, 10, 181, 0, 32, 42, 16, 8, 188, 10, 181, 0, 35, 42, 16, 8, 188, 10]
abbrev dktX4_init_2 : List UInt8 := dkwX4_init_2 ++ dktX4_init_3
def dkwX4_init_1 : List UInt8 := [181, 0, 19, 42, 16, 8, 188, 10, 181, 0, 22, 42, 16, 8, 188, 10, 181, 0, 26, 42, 16, 8, 188, 10]
abbrev dktX4_init_1 : List UInt8 := dkwX4_init_1 ++ dktX4_init_2
def dkwX4_init_0 : List UInt8 := [42, 183, 0, 1, 42, 4, 181, 0, 7, 42, 16, 9, 181, 0, 13, 42, 4, 181, 0, 16, 42, 2]
abbrev dktX4_init_0 : List UInt8 := dkwX4_init_0 ++ dktX4_init_1
theorem dksX4_init_0 : cX4_init.data.toList.drop 0 = dktX4_init_0 := by decide +kernel
theorem dksX4_init_1 : cX4_init.data.toList.drop 22 = dktX4_init_1 := dk_seg dksX4_init_0 22 rfl rfl
theorem dksX4_init_2 : cX4_init.data.toList.drop 46 = dktX4_init_2 := dk_seg dksX4_init_1 24 rfl rfl
theorem dksX4_init_3 : cX4_init.data.toList.drop 70 = dktX4_init_3 := dk_seg dksX4_init_2 24 rfl rfl
theorem dksX4_init_4 : cX4_init.data.toList.drop 94 = dktX4_init_4 := dk_seg dksX4_init_3 24 rfl rfl
theorem dksX4_init_5 : cX4_init.data.toList.drop 118 = dktX4_init_5 := dk_seg dksX4_init_4 24 rfl rfl
theorem dksX4_init_6 : cX4_init.data.toList.drop 142 = dktX4_init_6 := dk_seg dksX4_init_5 24 rfl rfl
theorem dksX4_init_7 : cX4_init.data.toList.drop 166 = dktX4_init_7 := dk_seg dksX4_init_6 24 rfl rfl
theorem dksX4_init_8 : cX4_init.data.toList.drop 190 = dktX4_init_8 := dk_seg dksX4_init_7 24 rfl rfl
theorem dksX4_init_9 : cX4_init.data.toList.drop 214 = dktX4_init_9 := dk_seg dksX4_init_8 24 rfl rfl
theorem dksX4_init_10 : cX4_init.data.toList.drop 238 = dktX4_init_10 := dk_seg dksX4_init_9 24 rfl rfl
theorem dksX4_init_11 : cX4_init.data.toList.drop 262 = dktX4_init_11 := dk_seg dksX4_init_10 24 rfl rfl
theorem dksX4_init_12 : cX4_init.data.toList.drop 286 = dktX4_init_12 := dk_seg dksX4_init_11 24 rfl rfl
theorem dksX4_init_13 : cX4_init.data.toList.drop 309 = dktX4_init_13 := dk_seg dksX4_init_12 23 rfl rfl
theorem dksX4_init_14 : cX4_init.data.toList.drop 332 = dktX4_init_14 := dk_seg dksX4_init_13 23 rfl rfl
theorem dksX4_init_15 : cX4_init.data.toList.drop 356 = dktX4_init_15 := dk_seg dksX4_init_14 24 rfl rfl
theorem dX4_init_0 : decode cX4_init 0 = .ok (.aload_n 0, 1) := dk_42 (dk_at dksX4_init_0 0 rfl rfl)
theorem dX4_init_1 : decode cX4_init 1 = .ok (.invokespecial 1, 3) := dk_183 0 1 (dk_at dksX4_init_0 1 rfl rfl)
theorem dX4_init_4 : decode cX4_init 4 = .ok (.aload_n 0, 1) := dk_42 (dk_at dksX4_init_0 4 rfl rfl)
theorem dX4_init_5 : decode cX4_init 5 = .ok (.iconst 1, 1) := dk_4 (dk_at dksX4_init_0 5 rfl rfl)
theorem dX4_init_6 : decode cX4_init 6 = .ok (.putfield 7, 3) := dk_181 0 7 (dk_at dksX4_init_0 6 rfl rfl)
theorem dX4_init_9 : decode cX4_init 9 = .ok (.aload_n 0, 1) := dk_42 (dk_at dksX4_init_0 9 rfl rfl)
theorem dX4_init_10 : decode cX4_init 10 = .ok (.bipush 9, 2) := dk_16 9 (dk_at dksX4_init_0 10 rfl rfl)
theorem dX4_init_12 : decode cX4_init 12 = .ok (.putfield 13, 3) := dk_181 0 13 (dk_at dksX4_init_0 12 rfl rfl)
theorem dX4_init_15 : decode cX4_init 15 = .ok (.aload_n 0, 1) := dk_42 (dk_at dksX4_init_0 15 rfl rfl)
theorem dX4_init_16 : decode cX4_init 16 = .ok (.iconst 1, 1) := dk_4 (dk_at dksX4_init_0 16 rfl rfl)
theorem dX4_init_17 : decode cX4_init 17 = .ok (.putfield 16, 3) := dk_181 0 16 (dk_at dksX4_init_0 17 rfl rfl)
theorem dX4_init_20 : decode cX4_init 20 = .ok (.aload_n 0, 1) := dk_42 (dk_at dksX4_init_0 20 rfl rfl)
theorem dX4_init_21 : decode cX4_init 21 = .ok (.iconst (-1), 1) := dk_2 (dk_at dksX4_init_0 21 rfl rfl)
theorem dX4_init_22 : decode cX4_init 22 = .ok (.putfield 19, 3) := dk_181 0 19 (dk_at dksX4_init_1 0 rfl rfl)
theorem dX4_init_25 : decode cX4_init 25 = .ok (.aload_n 0, 1) := dk_42 (dk_at dksX4_init_1 3 rfl rfl)
theorem dX4_init_26 : decode cX4_init 26 = .ok (.bipush 8, 2) := dk_16 8 (dk_at dksX4_init_1 4 rfl rfl)
theorem dX4_init_28 : decode cX4_init 28 = .ok (.newarray .int, 2) := dk_188_10 (dk_at dksX4_init_1 6 rfl rfl)
theorem dX4_init_30 : decode cX4_init 30 = .ok (.putfield 22, 3) := dk_181 0 22 (dk_at dksX4_init_1 8 rfl rfl)
theorem dX4_init_33 : decode cX4_init 33 = .ok (.aload_n 0, 1) := dk_42 (dk_at dksX4_init_1 11 rfl rfl)
theorem dX4_init_34 : decode cX4_init 34 = .ok (.bipush 8, 2) := dk_16 8 (dk_at dksX4_init_1 12 rfl rfl)
theorem dX4_init_36 : decode cX4_init 36 = .ok (.newarray .int, 2) := dk_188_10 (dk_at dksX4_init_1 14 rfl rfl)
theorem dX4_init_38 : decode cX4_init 38 = .ok (.putfield 26, 3) := dk_181 0 26 (dk_at dksX4_init_1 16 rfl rfl)
theorem dX4_init_41 : decode cX4_init 41 = .ok (.aload_n 0, 1) := dk_42 (dk_at dksX4_init_1 19 rfl rfl)
theorem dX4_init_42 : decode cX4_init 42 = .ok (.bipush 8, 2) := dk_16 8 (dk_at dksX4_init_1 20 rfl rfl)
theorem dX4_init_44 : decode cX4_init 44 = .ok (.newarray .int, 2) := dk_188_10 (dk_at dksX4_init_1 22 rfl rfl)
theorem dX4_init_46 : decode cX4_init 46 = .ok (.putfield 29, 3) := dk_181 0 29 (dk_at dksX4_init_2 0 rfl rfl)
theorem dX4_init_49 : decode cX4_init 49 = .ok (.aload_n 0, 1) := dk_42 (dk_at dksX4_init_2 3 rfl rfl)
theorem dX4_init_50 : decode cX4_init 50 = .ok (.bipush 8, 2) := dk_16 8 (dk_at dksX4_init_2 4 rfl rfl)
theorem dX4_init_52 : decode cX4_init 52 = .ok (.newarray .int, 2) := dk_188_10 (dk_at dksX4_init_2 6 rfl rfl)
theorem dX4_init_54 : decode cX4_init 54 = .ok (.putfield 32, 3) := dk_181 0 32 (dk_at dksX4_init_2 8 rfl rfl)
theorem dX4_init_57 : decode cX4_init 57 = .ok (.aload_n 0, 1) := dk_42 (dk_at dksX4_init_2 11 rfl rfl)
theorem dX4_init_58 : decode cX4_init 58 = .ok (.bipush 8, 2) := dk_16 8 (dk_at dksX4_init_2 12 rfl rfl)
theorem dX4_init_60 : decode cX4_init 60 = .ok (.newarray .int, 2) := dk_188_10 (dk_at dksX4_init_2 14 rfl rfl)
theorem dX4_init_62 : decode cX4_init 62 = .ok (.putfield 35, 3) := dk_181 0 35 (dk_at dksX4_init_2 16 rfl rfl)
theorem dX4_init_65 : decode cX4_init 65 = .ok (.aload_n 0, 1) := dk_42 (dk_at dksX4_init_2 19 rfl rfl)
theorem dX4_init_66 : decode cX4_init 66 = .ok (.bipush 8, 2) := dk_16 8 (dk_at dksX4_init_2 20 rfl rfl)
theorem dX4_init_68 : decode cX4_init 68 = .ok (.newarray .int, 2) := dk_188_10 (dk_at dksX4_init_2 22 rfl rfl)
theorem dX4_init_70 : decode cX4_init 70 = .ok (.putfield 38, 3) := dk_181 0 38 (dk_at dksX4_init_3 0 rfl rfl)
theorem dX4_init_73 : decode cX4_init 73 = .ok (.aload_n 0, 1) := dk_42 (dk_at dksX4_init_3 3 rfl rfl)
theorem dX4_init_74 : decode cX4_init 74 = .ok (.bipush 8, 2) := dk_16 8 (dk_at dksX4_init_3 4 rfl rfl)
theorem dX4_init_76 : decode cX4_init 76 = .ok (.newarray .int, 2) := dk_188_10 (dk_at dksX4_init_3 6 rfl rfl)
theorem dX4_init_78 : decode cX4_init 78 = .ok (.putfield 41, 3) := dk_181 0 41 (dk_at dksX4_init_3 8 rfl rfl)
theorem dX4_init_81 : decode cX4_init 81 = .ok (.aload_n 0, 1) := dk_42 (dk_at dksX4_init_3 11 rfl rfl)
theorem dX4_init_82 : decode cX4_init 82 = .ok (.bipush 8, 2) := dk_16 8 (dk_at dksX4_init_3 12 rfl rfl)
theorem dX4_init_84 : decode cX4_init 84 = .ok (.newarray .int, 2) := dk_188_10 (dk_at dksX4_init_3 14 rfl rfl)
theorem dX4_init_86 : decode cX4_init 86 = .ok (.putfield 44, 3) := dk_181 0 44 (dk_at dksX4_init_3 16 rfl rfl)
theorem dX4_init_89 : decode cX4_init 89 = .ok (.aload_n 0, 1) := dk_42 (dk_at dksX4_init_3 19 rfl rfl)
theorem dX4_init_90 : decode cX4_init 90 = .ok (.bipush 8, 2) := dk_16 8 (dk_at dksX4_init_3 20 rfl rfl)
theorem dX4_init_92 : decode cX4_init 92 = .ok (.newarray .int, 2) := dk_188_10 (dk_at dksX4_init_3 22 rfl rfl)
theorem dX4_init_94 : decode cX4_init 94 = .ok (.putfield 47, 3) := dk_181 0 47 (dk_at dksX4_init_4 0 rfl rfl)
theorem dX4_init_97 : decode cX4_init 97 = .ok (.aload_n 0, 1) := dk_42 (dk_at dksX4_init_4 3 rfl rfl)
theorem dX4_init_98 : decode cX4_init 98 = .ok (.bipush 8, 2) := dk_16 8 (dk_at dksX4_init_4 4 rfl rfl)
theorem dX4_init_100 : decode cX4_init 100 = .ok (.newarray .int, 2) := dk_188_10 (dk_at dksX4_init_4 6 rfl rfl)
theorem dX4_init_102 : decode cX4_init 102 = .ok (.putfield 50, 3) := dk_181 0 50 (dk_at dksX4_init_4 8 rfl rfl)
theorem dX4_init_105 : decode cX4_init 105 = .ok (.aload_n 0, 1) := dk_42 (dk_at dksX4_init_4 11 rfl rfl)
theorem dX4_init_106 : decode cX4_init 106 = .ok (.bipush 8, 2) := dk_16 8 (dk_at dksX4_init_4 12 rfl rfl)
theorem dX4_init_108 : decode cX4_init 108 = .ok (.newarray .int, 2) := dk_188_10 (dk_at dksX4_init_4 14 rfl rfl)
theorem dX4_init_110 : decode cX4_init 110 = .ok (.putfield 53, 3) := dk_181 0 53 (dk_at dksX4_init_4 16 rfl rfl)
theorem dX4_init_113 : decode cX4_init 113 = .ok (.aload_n 0, 1) := dk_42 (dk_at dksX4_init_4 19 rfl rfl)
theorem dX4_init_114 : decode cX4_init 114 = .ok (.bipush 8, 2) := dk_16 8 (dk_at dksX4_init_4 20 rfl rfl)
theorem dX4_init_116 : decode cX4_init 116 = .ok (.newarray .int, 2) := dk_188_10 (dk_at dksX4_init_4 22 rfl rfl)
theorem dX4_init_118 : decode cX4_init 118 = .ok (.putfield 56, 3) := dk_181 0 56 (dk_at dksX4_init_5 0 rfl rfl)
theorem dX4_init_121 : decode cX4_init 121 = .ok (.aload_n 0, 1) := dk_42 (dk_at dksX4_init_5 3 rfl rfl)
theorem dX4_init_122 : decode cX4_init 122 = .ok (.sipush 1280, 3) := dk_17 5 0 (dk_at dksX4_init_5 4 rfl rfl)
theorem dX4_init_125 : decode cX4_init 125 = .ok (.newarray .long, 2) := dk_188_11 (dk_at dksX4_init_5 7 rfl rfl)
theorem dX4_init_127 : decode cX4_init 127 = .ok (.putfield 59, 3) := dk_181 0 59 (dk_at dksX4_init_5 9 rfl rfl)
theorem dX4_init_130 : decode cX4_init 130 = .ok (.aload_n 0, 1) := dk_42 (dk_at dksX4_init_5 12 rfl rfl)
theorem dX4_init_131 : decode cX4_init 131 = .ok (.sipush 160, 3) := dk_17 0 160 (dk_at dksX4_init_5 13 rfl rfl)
theorem dX4_init_134 : decode cX4_init 134 = .ok (.newarray .long, 2) := dk_188_11 (dk_at dksX4_init_5 16 rfl rfl)
theorem dX4_init_136 : decode cX4_init 136 = .ok (.putfield 63, 3) := dk_181 0 63 (dk_at dksX4_init_5 18 rfl rfl)
theorem dX4_init_139 : decode cX4_init 139 = .ok (.aload_n 0, 1) := dk_42 (dk_at dksX4_init_5 21 rfl rfl)
theorem dX4_init_140 : decode cX4_init 140 = .ok (.bipush 32, 2) := dk_16 32 (dk_at dksX4_init_5 22 rfl rfl)
theorem dX4_init_142 : decode cX4_init 142 = .ok (.newarray .int, 2) := dk_188_10 (dk_at dksX4_init_6 0 rfl rfl)
theorem dX4_init_144 : decode cX4_init 144 = .ok (.dup, 1) := dk_89 (dk_at dksX4_init_6 2 rfl rfl)
theorem dX4_init_145 : decode cX4_init 145 = .ok (.iconst 0, 1) := dk_3 (dk_at dksX4_init_6 3 rfl rfl)
theorem dX4_init_146 : decode cX4_init 146 = .ok (.bipush 116, 2) := dk_16 116 (dk_at dksX4_init_6 4 rfl rfl)
theorem dX4_init_148 : decode cX4_init 148 = .ok (.iastore, 1) := dk_79 (dk_at dksX4_init_6 6 rfl rfl)
theorem dX4_init_149 : decode cX4_init 149 = .ok (.dup, 1) := dk_89 (dk_at dksX4_init_6 7 rfl rfl)
theorem dX4_init_150 : decode cX4_init 150 = .ok (.iconst 1, 1) := dk_4 (dk_at dksX4_init_6 8 rfl rfl)
theorem dX4_init_151 : decode cX4_init 151 = .ok (.bipush 104, 2) := dk_16 104 (dk_at dksX4_init_6 9 rfl rfl)
theorem dX4_init_153 : decode cX4_init 153 = .ok (.iastore, 1) := dk_79 (dk_at dksX4_init_6 11 rfl rfl)
theorem dX4_init_154 : decode cX4_init 154 = .ok (.dup, 1) := dk_89 (dk_at dksX4_init_6 12 rfl rfl)
theorem dX4_init_155 : decode cX4_init 155 = .ok (.iconst 2, 1) := dk_5 (dk_at dksX4_init_6 13 rfl rfl)
theorem dX4_init_156 : decode cX4_init 156 = .ok (.bipush 105, 2) := dk_16 105 (dk_at dksX4_init_6 14 rfl rfl)
theorem dX4_init_158 : decode cX4_init 158 = .ok (.iastore, 1) := dk_79 (dk_at dksX4_init_6 16 rfl rfl)
theorem dX4_init_159 : decode cX4_init 159 = .ok (.dup, 1) := dk_89 (dk_at dksX4_init_6 17 rfl rfl)
theorem dX4_init_160 : decode cX4_init 160 = .ok (.iconst 3, 1) := dk_6 (dk_at dksX4_init_6 18 rfl rfl)
theorem dX4_init_161 : decode cX4_init 161 = .ok (.bipush 110, 2) := dk_16 110 (dk_at dksX4_init_6 19 rfl rfl)
theorem dX4_init_163 : decode cX4_init 163 = .ok (.iastore, 1) := dk_79 (dk_at dksX4_init_6 21 rfl rfl)
theorem dX4_init_164 : decode cX4_init 164 = .ok (.dup, 1) := dk_89 (dk_at dksX4_init_6 22 rfl rfl)
theorem dX4_init_165 : decode cX4_init 165 = .ok (.iconst 4, 1) := dk_7 (dk_at dksX4_init_6 23 rfl rfl)
theorem dX4_init_166 : decode cX4_init 166 = .ok (.bipush 103, 2) := dk_16 103 (dk_at dksX4_init_7 0 rfl rfl)
theorem dX4_init_168 : decode cX4_init 168 = .ok (.iastore, 1) := dk_79 (dk_at dksX4_init_7 2 rfl rfl)
theorem dX4_init_169 : decode cX4_init 169 = .ok (.dup, 1) := dk_89 (dk_at dksX4_init_7 3 rfl rfl)
theorem dX4_init_170 : decode cX4_init 170 = .ok (.iconst 5, 1) := dk_8 (dk_at dksX4_init_7 4 rfl rfl)
theorem dX4_init_171 : decode cX4_init 171 = .ok (.bipush 32, 2) := dk_16 32 (dk_at dksX4_init_7 5 rfl rfl)
theorem dX4_init_173 : decode cX4_init 173 = .ok (.iastore, 1) := dk_79 (dk_at dksX4_init_7 7 rfl rfl)
theorem dX4_init_174 : decode cX4_init 174 = .ok (.dup, 1) := dk_89 (dk_at dksX4_init_7 8 rfl rfl)
theorem dX4_init_175 : decode cX4_init 175 = .ok (.bipush 6, 2) := dk_16 6 (dk_at dksX4_init_7 9 rfl rfl)
theorem dX4_init_177 : decode cX4_init 177 = .ok (.iconst 0, 1) := dk_3 (dk_at dksX4_init_7 11 rfl rfl)
theorem dX4_init_178 : decode cX4_init 178 = .ok (.iastore, 1) := dk_79 (dk_at dksX4_init_7 12 rfl rfl)
theorem dX4_init_179 : decode cX4_init 179 = .ok (.dup, 1) := dk_89 (dk_at dksX4_init_7 13 rfl rfl)
theorem dX4_init_180 : decode cX4_init 180 = .ok (.bipush 7, 2) := dk_16 7 (dk_at dksX4_init_7 14 rfl rfl)
theorem dX4_init_182 : decode cX4_init 182 = .ok (.bipush 115, 2) := dk_16 115 (dk_at dksX4_init_7 16 rfl rfl)
theorem dX4_init_184 : decode cX4_init 184 = .ok (.iastore, 1) := dk_79 (dk_at dksX4_init_7 18 rfl rfl)
theorem dX4_init_185 : decode cX4_init 185 = .ok (.dup, 1) := dk_89 (dk_at dksX4_init_7 19 rfl rfl)
theorem dX4_init_186 : decode cX4_init 186 = .ok (.bipush 8, 2) := dk_16 8 (dk_at dksX4_init_7 20 rfl rfl)
theorem dX4_init_188 : decode cX4_init 188 = .ok (.bipush 117, 2) := dk_16 117 (dk_at dksX4_init_7 22 rfl rfl)
theorem dX4_init_190 : decode cX4_init 190 = .ok (.iastore, 1) := dk_79 (dk_at dksX4_init_8 0 rfl rfl)
theorem dX4_init_191 : decode cX4_init 191 = .ok (.dup, 1) := dk_89 (dk_at dksX4_init_8 1 rfl rfl)
theorem dX4_init_192 : decode cX4_init 192 = .ok (.bipush 9, 2) := dk_16 9 (dk_at dksX4_init_8 2 rfl rfl)
theorem dX4_init_194 : decode cX4_init 194 = .ok (.bipush 109, 2) := dk_16 109 (dk_at dksX4_init_8 4 rfl rfl)
theorem dX4_init_196 : decode cX4_init 196 = .ok (.iastore, 1) := dk_79 (dk_at dksX4_init_8 6 rfl rfl)
theorem dX4_init_197 : decode cX4_init 197 = .ok (.dup, 1) := dk_89 (dk_at dksX4_init_8 7 rfl rfl)
theorem dX4_init_198 : decode cX4_init 198 = .ok (.bipush 10, 2) := dk_16 10 (dk_at dksX4_init_8 8 rfl rfl)
theorem dX4_init_200 : decode cX4_init 200 = .ok (.bipush 109, 2) := dk_16 109 (dk_at dksX4_init_8 10 rfl rfl)
theorem dX4_init_202 : decode cX4_init 202 = .ok (.iastore, 1) := dk_79 (dk_at dksX4_init_8 12 rfl rfl)
theorem dX4_init_203 : decode cX4_init 203 = .ok (.dup, 1) := dk_89 (dk_at dksX4_init_8 13 rfl rfl)
theorem dX4_init_204 : decode cX4_init 204 = .ok (.bipush 11, 2) := dk_16 11 (dk_at dksX4_init_8 14 rfl rfl)
theorem dX4_init_206 : decode cX4_init 206 = .ok (.bipush 101, 2) := dk_16 101 (dk_at dksX4_init_8 16 rfl rfl)
theorem dX4_init_208 : decode cX4_init 208 = .ok (.iastore, 1) := dk_79 (dk_at dksX4_init_8 18 rfl rfl)
theorem dX4_init_209 : decode cX4_init 209 = .ok (.dup, 1) := dk_89 (dk_at dksX4_init_8 19 rfl rfl)
theorem dX4_init_210 : decode cX4_init 210 = .ok (.bipush 12, 2) := dk_16 12 (dk_at dksX4_init_8 20 rfl rfl)
theorem dX4_init_212 : decode cX4_init 212 = .ok (.bipush 114, 2) := dk_16 114 (dk_at dksX4_init_8 22 rfl rfl)
theorem dX4_init_214 : decode cX4_init 214 = .ok (.iastore, 1) := dk_79 (dk_at dksX4_init_9 0 rfl rfl)
theorem dX4_init_215 : decode cX4_init 215 = .ok (.dup, 1) := dk_89 (dk_at dksX4_init_9 1 rfl rfl)
theorem dX4_init_216 : decode cX4_init 216 = .ok (.bipush 13, 2) := dk_16 13 (dk_at dksX4_init_9 2 rfl rfl)
theorem dX4_init_218 : decode cX4_init 218 = .ok (.bipush 32, 2) := dk_16 32 (dk_at dksX4_init_9 4 rfl rfl)
theorem dX4_init_220 : decode cX4_init 220 = .ok (.iastore, 1) := dk_79 (dk_at dksX4_init_9 6 rfl rfl)
theorem dX4_init_221 : decode cX4_init 221 = .ok (.dup, 1) := dk_89 (dk_at dksX4_init_9 7 rfl rfl)
theorem dX4_init_222 : decode cX4_init 222 = .ok (.bipush 14, 2) := dk_16 14 (dk_at dksX4_init_9 8 rfl rfl)
theorem dX4_init_224 : decode cX4_init 224 = .ok (.iconst 0, 1) := dk_3 (dk_at dksX4_init_9 10 rfl rfl)
theorem dX4_init_225 : decode cX4_init 225 = .ok (.iastore, 1) := dk_79 (dk_at dksX4_init_9 11 rfl rfl)
theorem dX4_init_226 : decode cX4_init 226 = .ok (.dup, 1) := dk_89 (dk_at dksX4_init_9 12 rfl rfl)
theorem dX4_init_227 : decode cX4_init 227 = .ok (.bipush 15, 2) := dk_16 15 (dk_at dksX4_init_9 13 rfl rfl)
theorem dX4_init_229 : decode cX4_init 229 = .ok (.bipush 102, 2) := dk_16 102 (dk_at dksX4_init_9 15 rfl rfl)
theorem dX4_init_231 : decode cX4_init 231 = .ok (.iastore, 1) := dk_79 (dk_at dksX4_init_9 17 rfl rfl)
theorem dX4_init_232 : decode cX4_init 232 = .ok (.dup, 1) := dk_89 (dk_at dksX4_init_9 18 rfl rfl)
theorem dX4_init_233 : decode cX4_init 233 = .ok (.bipush 16, 2) := dk_16 16 (dk_at dksX4_init_9 19 rfl rfl)
theorem dX4_init_235 : decode cX4_init 235 = .ok (.bipush 97, 2) := dk_16 97 (dk_at dksX4_init_9 21 rfl rfl)
theorem dX4_init_237 : decode cX4_init 237 = .ok (.iastore, 1) := dk_79 (dk_at dksX4_init_9 23 rfl rfl)
theorem dX4_init_238 : decode cX4_init 238 = .ok (.dup, 1) := dk_89 (dk_at dksX4_init_10 0 rfl rfl)
theorem dX4_init_239 : decode cX4_init 239 = .ok (.bipush 17, 2) := dk_16 17 (dk_at dksX4_init_10 1 rfl rfl)
theorem dX4_init_241 : decode cX4_init 241 = .ok (.bipush 114, 2) := dk_16 114 (dk_at dksX4_init_10 3 rfl rfl)
theorem dX4_init_243 : decode cX4_init 243 = .ok (.iastore, 1) := dk_79 (dk_at dksX4_init_10 5 rfl rfl)
theorem dX4_init_244 : decode cX4_init 244 = .ok (.dup, 1) := dk_89 (dk_at dksX4_init_10 6 rfl rfl)
theorem dX4_init_245 : decode cX4_init 245 = .ok (.bipush 18, 2) := dk_16 18 (dk_at dksX4_init_10 7 rfl rfl)
theorem dX4_init_247 : decode cX4_init 247 = .ok (.bipush 32, 2) := dk_16 32 (dk_at dksX4_init_10 9 rfl rfl)
theorem dX4_init_249 : decode cX4_init 249 = .ok (.iastore, 1) := dk_79 (dk_at dksX4_init_10 11 rfl rfl)
theorem dX4_init_250 : decode cX4_init 250 = .ok (.dup, 1) := dk_89 (dk_at dksX4_init_10 12 rfl rfl)
theorem dX4_init_251 : decode cX4_init 251 = .ok (.bipush 19, 2) := dk_16 19 (dk_at dksX4_init_10 13 rfl rfl)
theorem dX4_init_253 : decode cX4_init 253 = .ok (.iconst 0, 1) := dk_3 (dk_at dksX4_init_10 15 rfl rfl)
theorem dX4_init_254 : decode cX4_init 254 = .ok (.iastore, 1) := dk_79 (dk_at dksX4_init_10 16 rfl rfl)
theorem dX4_init_255 : decode cX4_init 255 = .ok (.dup, 1) := dk_89 (dk_at dksX4_init_10 17 rfl rfl)
theorem dX4_init_256 : decode cX4_init 256 = .ok (.bipush 20, 2) := dk_16 20 (dk_at dksX4_init_10 18 rfl rfl)
theorem dX4_init_258 : decode cX4_init 258 = .ok (.bipush 115, 2) := dk_16 115 (dk_at dksX4_init_10 20 rfl rfl)
theorem dX4_init_260 : decode cX4_init 260 = .ok (.iastore, 1) := dk_79 (dk_at dksX4_init_10 22 rfl rfl)
theorem dX4_init_261 : decode cX4_init 261 = .ok (.dup, 1) := dk_89 (dk_at dksX4_init_10 23 rfl rfl)
theorem dX4_init_262 : decode cX4_init 262 = .ok (.bipush 21, 2) := dk_16 21 (dk_at dksX4_init_11 0 rfl rfl)
theorem dX4_init_264 : decode cX4_init 264 = .ok (.bipush 104, 2) := dk_16 104 (dk_at dksX4_init_11 2 rfl rfl)
theorem dX4_init_266 : decode cX4_init 266 = .ok (.iastore, 1) := dk_79 (dk_at dksX4_init_11 4 rfl rfl)
theorem dX4_init_267 : decode cX4_init 267 = .ok (.dup, 1) := dk_89 (dk_at dksX4_init_11 5 rfl rfl)
theorem dX4_init_268 : decode cX4_init 268 = .ok (.bipush 22, 2) := dk_16 22 (dk_at dksX4_init_11 6 rfl rfl)
theorem dX4_init_270 : decode cX4_init 270 = .ok (.bipush 117, 2) := dk_16 117 (dk_at dksX4_init_11 8 rfl rfl)
theorem dX4_init_272 : decode cX4_init 272 = .ok (.iastore, 1) := dk_79 (dk_at dksX4_init_11 10 rfl rfl)
theorem dX4_init_273 : decode cX4_init 273 = .ok (.dup, 1) := dk_89 (dk_at dksX4_init_11 11 rfl rfl)
theorem dX4_init_274 : decode cX4_init 274 = .ok (.bipush 23, 2) := dk_16 23 (dk_at dksX4_init_11 12 rfl rfl)
theorem dX4_init_276 : decode cX4_init 276 = .ok (.bipush 116, 2) := dk_16 116 (dk_at dksX4_init_11 14 rfl rfl)
theorem dX4_init_278 : decode cX4_init 278 = .ok (.iastore, 1) := dk_79 (dk_at dksX4_init_11 16 rfl rfl)
theorem dX4_init_279 : decode cX4_init 279 = .ok (.dup, 1) := dk_89 (dk_at dksX4_init_11 17 rfl rfl)
theorem dX4_init_280 : decode cX4_init 280 = .ok (.bipush 24, 2) := dk_16 24 (dk_at dksX4_init_11 18 rfl rfl)
theorem dX4_init_282 : decode cX4_init 282 = .ok (.bipush 32, 2) := dk_16 32 (dk_at dksX4_init_11 20 rfl rfl)
theorem dX4_init_284 : decode cX4_init 284 = .ok (.iastore, 1) := dk_79 (dk_at dksX4_init_11 22 rfl rfl)
theorem dX4_init_285 : decode cX4_init 285 = .ok (.dup, 1) := dk_89 (dk_at dksX4_init_11 23 rfl rfl)
theorem dX4_init_286 : decode cX4_init 286 = .ok (.bipush 25, 2) := dk_16 25 (dk_at dksX4_init_12 0 rfl rfl)
theorem dX4_init_288 : decode cX4_init 288 = .ok (.iconst 0, 1) := dk_3 (dk_at dksX4_init_12 2 rfl rfl)
theorem dX4_init_289 : decode cX4_init 289 = .ok (.iastore, 1) := dk_79 (dk_at dksX4_init_12 3 rfl rfl)
theorem dX4_init_290 : decode cX4_init 290 = .ok (.dup, 1) := dk_89 (dk_at dksX4_init_12 4 rfl rfl)
theorem dX4_init_291 : decode cX4_init 291 = .ok (.bipush 26, 2) := dk_16 26 (dk_at dksX4_init_12 5 rfl rfl)
theorem dX4_init_293 : decode cX4_init 293 = .ok (.bipush 100, 2) := dk_16 100 (dk_at dksX4_init_12 7 rfl rfl)
theorem dX4_init_295 : decode cX4_init 295 = .ok (.iastore, 1) := dk_79 (dk_at dksX4_init_12 9 rfl rfl)
theorem dX4_init_296 : decode cX4_init 296 = .ok (.dup, 1) := dk_89 (dk_at dksX4_init_12 10 rfl rfl)
theorem dX4_init_297 : decode cX4_init 297 = .ok (.bipush 27, 2) := dk_16 27 (dk_at dksX4_init_12 11 rfl rfl)
theorem dX4_init_299 : decode cX4_init 299 = .ok (.bipush 114, 2) := dk_16 114 (dk_at dksX4_init_12 13 rfl rfl)
theorem dX4_init_301 : decode cX4_init 301 = .ok (.iastore, 1) := dk_79 (dk_at dksX4_init_12 15 rfl rfl)
theorem dX4_init_302 : decode cX4_init 302 = .ok (.dup, 1) := dk_89 (dk_at dksX4_init_12 16 rfl rfl)
theorem dX4_init_303 : decode cX4_init 303 = .ok (.bipush 28, 2) := dk_16 28 (dk_at dksX4_init_12 17 rfl rfl)
theorem dX4_init_305 : decode cX4_init 305 = .ok (.bipush 97, 2) := dk_16 97 (dk_at dksX4_init_12 19 rfl rfl)
theorem dX4_init_307 : decode cX4_init 307 = .ok (.iastore, 1) := dk_79 (dk_at dksX4_init_12 21 rfl rfl)
theorem dX4_init_308 : decode cX4_init 308 = .ok (.dup, 1) := dk_89 (dk_at dksX4_init_12 22 rfl rfl)
theorem dX4_init_309 : decode cX4_init 309 = .ok (.bipush 29, 2) := dk_16 29 (dk_at dksX4_init_13 0 rfl rfl)
theorem dX4_init_311 : decode cX4_init 311 = .ok (.bipush 119, 2) := dk_16 119 (dk_at dksX4_init_13 2 rfl rfl)
theorem dX4_init_313 : decode cX4_init 313 = .ok (.iastore, 1) := dk_79 (dk_at dksX4_init_13 4 rfl rfl)
theorem dX4_init_314 : decode cX4_init 314 = .ok (.dup, 1) := dk_89 (dk_at dksX4_init_13 5 rfl rfl)
theorem dX4_init_315 : decode cX4_init 315 = .ok (.bipush 30, 2) := dk_16 30 (dk_at dksX4_init_13 6 rfl rfl)
theorem dX4_init_317 : decode cX4_init 317 = .ok (.bipush 32, 2) := dk_16 32 (dk_at dksX4_init_13 8 rfl rfl)
theorem dX4_init_319 : decode cX4_init 319 = .ok (.iastore, 1) := dk_79 (dk_at dksX4_init_13 10 rfl rfl)
theorem dX4_init_320 : decode cX4_init 320 = .ok (.dup, 1) := dk_89 (dk_at dksX4_init_13 11 rfl rfl)
theorem dX4_init_321 : decode cX4_init 321 = .ok (.bipush 31, 2) := dk_16 31 (dk_at dksX4_init_13 12 rfl rfl)
theorem dX4_init_323 : decode cX4_init 323 = .ok (.iconst 0, 1) := dk_3 (dk_at dksX4_init_13 14 rfl rfl)
theorem dX4_init_324 : decode cX4_init 324 = .ok (.iastore, 1) := dk_79 (dk_at dksX4_init_13 15 rfl rfl)
theorem dX4_init_325 : decode cX4_init 325 = .ok (.putfield 66, 3) := dk_181 0 66 (dk_at dksX4_init_13 16 rfl rfl)
theorem dX4_init_328 : decode cX4_init 328 = .ok (.aload_n 0, 1) := dk_42 (dk_at dksX4_init_13 19 rfl rfl)
theorem dX4_init_329 : decode cX4_init 329 = .ok (.iconst 5, 1) := dk_8 (dk_at dksX4_init_13 20 rfl rfl)
theorem dX4_init_330 : decode cX4_init 330 = .ok (.newarray .int, 2) := dk_188_10 (dk_at dksX4_init_13 21 rfl rfl)
theorem dX4_init_332 : decode cX4_init 332 = .ok (.putfield 69, 3) := dk_181 0 69 (dk_at dksX4_init_14 0 rfl rfl)
theorem dX4_init_335 : decode cX4_init 335 = .ok (.aload_n 0, 1) := dk_42 (dk_at dksX4_init_14 3 rfl rfl)
theorem dX4_init_336 : decode cX4_init 336 = .ok (.bipush 70, 2) := dk_16 70 (dk_at dksX4_init_14 4 rfl rfl)
theorem dX4_init_338 : decode cX4_init 338 = .ok (.newarray .int, 2) := dk_188_10 (dk_at dksX4_init_14 6 rfl rfl)
theorem dX4_init_340 : decode cX4_init 340 = .ok (.putfield 72, 3) := dk_181 0 72 (dk_at dksX4_init_14 8 rfl rfl)
theorem dX4_init_343 : decode cX4_init 343 = .ok (.aload_n 0, 1) := dk_42 (dk_at dksX4_init_14 11 rfl rfl)
theorem dX4_init_344 : decode cX4_init 344 = .ok (.bipush 70, 2) := dk_16 70 (dk_at dksX4_init_14 12 rfl rfl)
theorem dX4_init_346 : decode cX4_init 346 = .ok (.newarray .int, 2) := dk_188_10 (dk_at dksX4_init_14 14 rfl rfl)
theorem dX4_init_348 : decode cX4_init 348 = .ok (.putfield 75, 3) := dk_181 0 75 (dk_at dksX4_init_14 16 rfl rfl)
theorem dX4_init_351 : decode cX4_init 351 = .ok (.aload_n 0, 1) := dk_42 (dk_at dksX4_init_14 19 rfl rfl)
theorem dX4_init_352 : decode cX4_init 352 = .ok (.bipush 8, 2) := dk_16 8 (dk_at dksX4_init_14 20 rfl rfl)
theorem dX4_init_354 : decode cX4_init 354 = .ok (.newarray .int, 2) := dk_188_10 (dk_at dksX4_init_14 22 rfl rfl)
theorem dX4_init_356 : decode cX4_init 356 = .ok (.putfield 78, 3) := dk_181 0 78 (dk_at dksX4_init_15 0 rfl rfl)
theorem dX4_init_359 : decode cX4_init 359 = .ok (.aload_n 0, 1) := dk_42 (dk_at dksX4_init_15 3 rfl rfl)
theorem dX4_init_360 : decode cX4_init 360 = .ok (.bipush 20, 2) := dk_16 20 (dk_at dksX4_init_15 4 rfl rfl)
theorem dX4_init_362 : decode cX4_init 362 = .ok (.newarray .int, 2) := dk_188_10 (dk_at dksX4_init_15 6 rfl rfl)
theorem dX4_init_364 : decode cX4_init 364 = .ok (.putfield 81, 3) := dk_181 0 81 (dk_at dksX4_init_15 8 rfl rfl)
theorem dX4_init_367 : decode cX4_init 367 = .ok (.return_, 1) := dk_177 (dk_at dksX4_init_15 11 rfl rfl)
abbrev cX4_row : ByteArray := prog_21_method_10_code
def yX4_row : MethodName := ⟨RX4, "row", "(III)I"⟩
def dkwX4_row_4 : List UInt8 := [27, 104, 21, 4, 96, 9, 80, 132, 4, 1, 167, 255, 231, 4, 172]
abbrev dktX4_row_4 : List UInt8 := dkwX4_row_4 ++ []
def dkwX4_row_3 : List UInt8 := [180, 0, 53, 27, 29, 79, 3, 54, 4, 21, 4, 17, 0, 160, 162, 0, 23, 42, 180, 0, 59, 17, 0, 160]
abbrev dktX4_row_3 : List UInt8 := dkwX4_row_3 ++ dktX4_row_4
def dkwX4_row_2 : List UInt8 := [42, 16, 249, 182, 0, 97, 172, 42, 180, 0, 47, 27, 4, 79, 42, 180, 0, 50, 27, 28, 79, 42]
abbrev dktX4_row_2 : List UInt8 := dkwX4_row_2 ++ dktX4_row_3
def dkwX4_row_1 : List UInt8 := [172, 28, 155, 0, 8, 28, 6, 164, 0, 10, 42, 16, 250, 182, 0, 97, 172, 29, 17, 0, 160, 164, 0, 10]
abbrev dktX4_row_1 : List UInt8 := dkwX4_row_1 ++ dktX4_row_2
def dkwX4_row_0 : List UInt8 := [42, 27, 182, 0, 94, 154, 0, 9, 42, 2, 182, 0, 97, 172, 29, 156, 0, 10, 42, 16, 252, 182, 0, 97]
abbrev dktX4_row_0 : List UInt8 := dkwX4_row_0 ++ dktX4_row_1
theorem dksX4_row_0 : cX4_row.data.toList.drop 0 = dktX4_row_0 := by decide +kernel
theorem dksX4_row_1 : cX4_row.data.toList.drop 24 = dktX4_row_1 := dk_seg dksX4_row_0 24 rfl rfl
theorem dksX4_row_2 : cX4_row.data.toList.drop 48 = dktX4_row_2 := dk_seg dksX4_row_1 24 rfl rfl
theorem dksX4_row_3 : cX4_row.data.toList.drop 70 = dktX4_row_3 := dk_seg dksX4_row_2 22 rfl rfl
theorem dksX4_row_4 : cX4_row.data.toList.drop 94 = dktX4_row_4 := dk_seg dksX4_row_3 24 rfl rfl
theorem dX4_row_0 : decode cX4_row 0 = .ok (.aload_n 0, 1) := dk_42 (dk_at dksX4_row_0 0 rfl rfl)
theorem dX4_row_1 : decode cX4_row 1 = .ok (.iload_n 1, 1) := dk_27 (dk_at dksX4_row_0 1 rfl rfl)
theorem dX4_row_2 : decode cX4_row 2 = .ok (.invokevirtual 94, 3) := dk_182 0 94 (dk_at dksX4_row_0 2 rfl rfl)
theorem dX4_row_5 : decode cX4_row 5 = .ok (.ifCond .ne 9, 3) := dk_154 0 9 (dk_at dksX4_row_0 5 rfl rfl)
theorem dX4_row_8 : decode cX4_row 8 = .ok (.aload_n 0, 1) := dk_42 (dk_at dksX4_row_0 8 rfl rfl)
theorem dX4_row_9 : decode cX4_row 9 = .ok (.iconst (-1), 1) := dk_2 (dk_at dksX4_row_0 9 rfl rfl)
theorem dX4_row_10 : decode cX4_row 10 = .ok (.invokevirtual 97, 3) := dk_182 0 97 (dk_at dksX4_row_0 10 rfl rfl)
theorem dX4_row_13 : decode cX4_row 13 = .ok (.ireturn, 1) := dk_172 (dk_at dksX4_row_0 13 rfl rfl)
theorem dX4_row_14 : decode cX4_row 14 = .ok (.iload_n 3, 1) := dk_29 (dk_at dksX4_row_0 14 rfl rfl)
theorem dX4_row_15 : decode cX4_row 15 = .ok (.ifCond .ge 10, 3) := dk_156 0 10 (dk_at dksX4_row_0 15 rfl rfl)
theorem dX4_row_18 : decode cX4_row 18 = .ok (.aload_n 0, 1) := dk_42 (dk_at dksX4_row_0 18 rfl rfl)
theorem dX4_row_19 : decode cX4_row 19 = .ok (.bipush (-4), 2) := dk_16 252 (dk_at dksX4_row_0 19 rfl rfl)
theorem dX4_row_21 : decode cX4_row 21 = .ok (.invokevirtual 97, 3) := dk_182 0 97 (dk_at dksX4_row_0 21 rfl rfl)
theorem dX4_row_24 : decode cX4_row 24 = .ok (.ireturn, 1) := dk_172 (dk_at dksX4_row_1 0 rfl rfl)
theorem dX4_row_25 : decode cX4_row 25 = .ok (.iload_n 2, 1) := dk_28 (dk_at dksX4_row_1 1 rfl rfl)
theorem dX4_row_26 : decode cX4_row 26 = .ok (.ifCond .lt 8, 3) := dk_155 0 8 (dk_at dksX4_row_1 2 rfl rfl)
theorem dX4_row_29 : decode cX4_row 29 = .ok (.iload_n 2, 1) := dk_28 (dk_at dksX4_row_1 5 rfl rfl)
theorem dX4_row_30 : decode cX4_row 30 = .ok (.iconst 3, 1) := dk_6 (dk_at dksX4_row_1 6 rfl rfl)
theorem dX4_row_31 : decode cX4_row 31 = .ok (.if_icmp .le 10, 3) := dk_164 0 10 (dk_at dksX4_row_1 7 rfl rfl)
theorem dX4_row_34 : decode cX4_row 34 = .ok (.aload_n 0, 1) := dk_42 (dk_at dksX4_row_1 10 rfl rfl)
theorem dX4_row_35 : decode cX4_row 35 = .ok (.bipush (-6), 2) := dk_16 250 (dk_at dksX4_row_1 11 rfl rfl)
theorem dX4_row_37 : decode cX4_row 37 = .ok (.invokevirtual 97, 3) := dk_182 0 97 (dk_at dksX4_row_1 13 rfl rfl)
theorem dX4_row_40 : decode cX4_row 40 = .ok (.ireturn, 1) := dk_172 (dk_at dksX4_row_1 16 rfl rfl)
theorem dX4_row_41 : decode cX4_row 41 = .ok (.iload_n 3, 1) := dk_29 (dk_at dksX4_row_1 17 rfl rfl)
theorem dX4_row_42 : decode cX4_row 42 = .ok (.sipush 160, 3) := dk_17 0 160 (dk_at dksX4_row_1 18 rfl rfl)
theorem dX4_row_45 : decode cX4_row 45 = .ok (.if_icmp .le 10, 3) := dk_164 0 10 (dk_at dksX4_row_1 21 rfl rfl)
theorem dX4_row_48 : decode cX4_row 48 = .ok (.aload_n 0, 1) := dk_42 (dk_at dksX4_row_2 0 rfl rfl)
theorem dX4_row_49 : decode cX4_row 49 = .ok (.bipush (-7), 2) := dk_16 249 (dk_at dksX4_row_2 1 rfl rfl)
theorem dX4_row_51 : decode cX4_row 51 = .ok (.invokevirtual 97, 3) := dk_182 0 97 (dk_at dksX4_row_2 3 rfl rfl)
theorem dX4_row_54 : decode cX4_row 54 = .ok (.ireturn, 1) := dk_172 (dk_at dksX4_row_2 6 rfl rfl)
theorem dX4_row_55 : decode cX4_row 55 = .ok (.aload_n 0, 1) := dk_42 (dk_at dksX4_row_2 7 rfl rfl)
theorem dX4_row_56 : decode cX4_row 56 = .ok (.getfield 47, 3) := dk_180 0 47 (dk_at dksX4_row_2 8 rfl rfl)
theorem dX4_row_59 : decode cX4_row 59 = .ok (.iload_n 1, 1) := dk_27 (dk_at dksX4_row_2 11 rfl rfl)
theorem dX4_row_60 : decode cX4_row 60 = .ok (.iconst 1, 1) := dk_4 (dk_at dksX4_row_2 12 rfl rfl)
theorem dX4_row_61 : decode cX4_row 61 = .ok (.iastore, 1) := dk_79 (dk_at dksX4_row_2 13 rfl rfl)
theorem dX4_row_62 : decode cX4_row 62 = .ok (.aload_n 0, 1) := dk_42 (dk_at dksX4_row_2 14 rfl rfl)
theorem dX4_row_63 : decode cX4_row 63 = .ok (.getfield 50, 3) := dk_180 0 50 (dk_at dksX4_row_2 15 rfl rfl)
theorem dX4_row_66 : decode cX4_row 66 = .ok (.iload_n 1, 1) := dk_27 (dk_at dksX4_row_2 18 rfl rfl)
theorem dX4_row_67 : decode cX4_row 67 = .ok (.iload_n 2, 1) := dk_28 (dk_at dksX4_row_2 19 rfl rfl)
theorem dX4_row_68 : decode cX4_row 68 = .ok (.iastore, 1) := dk_79 (dk_at dksX4_row_2 20 rfl rfl)
theorem dX4_row_69 : decode cX4_row 69 = .ok (.aload_n 0, 1) := dk_42 (dk_at dksX4_row_2 21 rfl rfl)
theorem dX4_row_70 : decode cX4_row 70 = .ok (.getfield 53, 3) := dk_180 0 53 (dk_at dksX4_row_3 0 rfl rfl)
theorem dX4_row_73 : decode cX4_row 73 = .ok (.iload_n 1, 1) := dk_27 (dk_at dksX4_row_3 3 rfl rfl)
theorem dX4_row_74 : decode cX4_row 74 = .ok (.iload_n 3, 1) := dk_29 (dk_at dksX4_row_3 4 rfl rfl)
theorem dX4_row_75 : decode cX4_row 75 = .ok (.iastore, 1) := dk_79 (dk_at dksX4_row_3 5 rfl rfl)
theorem dX4_row_76 : decode cX4_row 76 = .ok (.iconst 0, 1) := dk_3 (dk_at dksX4_row_3 6 rfl rfl)
theorem dX4_row_77 : decode cX4_row 77 = .ok (.istore 4, 2) := dk_54 4 (dk_at dksX4_row_3 7 rfl rfl)
theorem dX4_row_79 : decode cX4_row 79 = .ok (.iload 4, 2) := dk_21 4 (dk_at dksX4_row_3 9 rfl rfl)
theorem dX4_row_81 : decode cX4_row 81 = .ok (.sipush 160, 3) := dk_17 0 160 (dk_at dksX4_row_3 11 rfl rfl)
theorem dX4_row_84 : decode cX4_row 84 = .ok (.if_icmp .ge 23, 3) := dk_162 0 23 (dk_at dksX4_row_3 14 rfl rfl)
theorem dX4_row_87 : decode cX4_row 87 = .ok (.aload_n 0, 1) := dk_42 (dk_at dksX4_row_3 17 rfl rfl)
theorem dX4_row_88 : decode cX4_row 88 = .ok (.getfield 59, 3) := dk_180 0 59 (dk_at dksX4_row_3 18 rfl rfl)
theorem dX4_row_91 : decode cX4_row 91 = .ok (.sipush 160, 3) := dk_17 0 160 (dk_at dksX4_row_3 21 rfl rfl)
theorem dX4_row_94 : decode cX4_row 94 = .ok (.iload_n 1, 1) := dk_27 (dk_at dksX4_row_4 0 rfl rfl)
theorem dX4_row_95 : decode cX4_row 95 = .ok (.imul, 1) := dk_104 (dk_at dksX4_row_4 1 rfl rfl)
theorem dX4_row_96 : decode cX4_row 96 = .ok (.iload 4, 2) := dk_21 4 (dk_at dksX4_row_4 2 rfl rfl)
theorem dX4_row_98 : decode cX4_row 98 = .ok (.iadd, 1) := dk_96 (dk_at dksX4_row_4 4 rfl rfl)
theorem dX4_row_99 : decode cX4_row 99 = .ok (.lconst 0, 1) := dk_9 (dk_at dksX4_row_4 5 rfl rfl)
theorem dX4_row_100 : decode cX4_row 100 = .ok (.lastore, 1) := dk_80 (dk_at dksX4_row_4 6 rfl rfl)
theorem dX4_row_101 : decode cX4_row 101 = .ok (.iinc 4 1, 3) := dk_132 4 1 (dk_at dksX4_row_4 7 rfl rfl)
theorem dX4_row_104 : decode cX4_row 104 = .ok (.goto (-25), 3) := dk_167 255 231 (dk_at dksX4_row_4 10 rfl rfl)
theorem dX4_row_107 : decode cX4_row 107 = .ok (.iconst 1, 1) := dk_4 (dk_at dksX4_row_4 13 rfl rfl)
theorem dX4_row_108 : decode cX4_row 108 = .ok (.ireturn, 1) := dk_172 (dk_at dksX4_row_4 14 rfl rfl)
abbrev cX4_isShelf : ByteArray := prog_21_method_5_code
def yX4_isShelf : MethodName := ⟨RX4, "isShelf", "(I)Z"⟩
def dkwX4_isShelf_0 : List UInt8 := [27, 155, 0, 13, 27, 16, 8, 162, 0, 7, 4, 167, 0, 4, 3, 172]
abbrev dktX4_isShelf_0 : List UInt8 := dkwX4_isShelf_0 ++ []
theorem dksX4_isShelf_0 : cX4_isShelf.data.toList.drop 0 = dktX4_isShelf_0 := by decide +kernel
theorem dX4_isShelf_0 : decode cX4_isShelf 0 = .ok (.iload_n 1, 1) := dk_27 (dk_at dksX4_isShelf_0 0 rfl rfl)
theorem dX4_isShelf_1 : decode cX4_isShelf 1 = .ok (.ifCond .lt 13, 3) := dk_155 0 13 (dk_at dksX4_isShelf_0 1 rfl rfl)
theorem dX4_isShelf_4 : decode cX4_isShelf 4 = .ok (.iload_n 1, 1) := dk_27 (dk_at dksX4_isShelf_0 4 rfl rfl)
theorem dX4_isShelf_5 : decode cX4_isShelf 5 = .ok (.bipush 8, 2) := dk_16 8 (dk_at dksX4_isShelf_0 5 rfl rfl)
theorem dX4_isShelf_7 : decode cX4_isShelf 7 = .ok (.if_icmp .ge 7, 3) := dk_162 0 7 (dk_at dksX4_isShelf_0 7 rfl rfl)
theorem dX4_isShelf_10 : decode cX4_isShelf 10 = .ok (.iconst 1, 1) := dk_4 (dk_at dksX4_isShelf_0 10 rfl rfl)
theorem dX4_isShelf_11 : decode cX4_isShelf 11 = .ok (.goto 4, 3) := dk_167 0 4 (dk_at dksX4_isShelf_0 11 rfl rfl)
theorem dX4_isShelf_14 : decode cX4_isShelf 14 = .ok (.iconst 0, 1) := dk_3 (dk_at dksX4_isShelf_0 14 rfl rfl)
theorem dX4_isShelf_15 : decode cX4_isShelf 15 = .ok (.ireturn, 1) := dk_172 (dk_at dksX4_isShelf_0 15 rfl rfl)
abbrev cX4_no : ByteArray := prog_21_method_2_code
def yX4_no : MethodName := ⟨RX4, "no", "(I)I"⟩
def dkwX4_no_0 : List UInt8 := [42, 180, 0, 22, 27, 116, 92, 46, 4, 96, 79, 27, 172]
abbrev dktX4_no_0 : List UInt8 := dkwX4_no_0 ++ []
theorem dksX4_no_0 : cX4_no.data.toList.drop 0 = dktX4_no_0 := by decide +kernel
theorem dX4_no_0 : decode cX4_no 0 = .ok (.aload_n 0, 1) := dk_42 (dk_at dksX4_no_0 0 rfl rfl)
theorem dX4_no_1 : decode cX4_no 1 = .ok (.getfield 22, 3) := dk_180 0 22 (dk_at dksX4_no_0 1 rfl rfl)
theorem dX4_no_4 : decode cX4_no 4 = .ok (.iload_n 1, 1) := dk_27 (dk_at dksX4_no_0 4 rfl rfl)
theorem dX4_no_5 : decode cX4_no 5 = .ok (.ineg, 1) := dk_116 (dk_at dksX4_no_0 5 rfl rfl)
theorem dX4_no_6 : decode cX4_no 6 = .ok (.dup2, 1) := dk_92 (dk_at dksX4_no_0 6 rfl rfl)
theorem dX4_no_7 : decode cX4_no 7 = .ok (.iaload, 1) := dk_46 (dk_at dksX4_no_0 7 rfl rfl)
theorem dX4_no_8 : decode cX4_no 8 = .ok (.iconst 1, 1) := dk_4 (dk_at dksX4_no_0 8 rfl rfl)
theorem dX4_no_9 : decode cX4_no 9 = .ok (.iadd, 1) := dk_96 (dk_at dksX4_no_0 9 rfl rfl)
theorem dX4_no_10 : decode cX4_no 10 = .ok (.iastore, 1) := dk_79 (dk_at dksX4_no_0 10 rfl rfl)
theorem dX4_no_11 : decode cX4_no 11 = .ok (.iload_n 1, 1) := dk_27 (dk_at dksX4_no_0 11 rfl rfl)
theorem dX4_no_12 : decode cX4_no 12 = .ok (.ireturn, 1) := dk_172 (dk_at dksX4_no_0 12 rfl rfl)
abbrev cX4_set : ByteArray := prog_21_method_11_code
def yX4_set : MethodName := ⟨RX4, "set", "(IIJ)I"⟩
def dkwX4_set_5 : List UInt8 := [160, 0, 9, 33, 136, 133, 167, 0, 4, 33, 80, 4, 172]
abbrev dktX4_set_5 : List UInt8 := dkwX4_set_5 ++ []
def dkwX4_set_4 : List UInt8 := [180, 0, 50, 27, 46, 4, 160, 0, 10, 33, 136, 147, 133, 167, 0, 20, 42, 180, 0, 50, 27, 46, 5]
abbrev dktX4_set_4 : List UInt8 := dkwX4_set_4 ++ dktX4_set_5
def dkwX4_set_3 : List UInt8 := [17, 0, 160, 27, 104, 28, 96, 42, 180, 0, 50, 27, 46, 154, 0, 10, 33, 136, 145, 133, 167, 0, 37, 42]
abbrev dktX4_set_3 : List UInt8 := dkwX4_set_3 ++ dktX4_set_4
def dkwX4_set_2 : List UInt8 := [155, 0, 13, 28, 42, 180, 0, 53, 27, 46, 161, 0, 10, 42, 16, 251, 182, 0, 97, 172, 42, 180, 0, 59]
abbrev dktX4_set_2 : List UInt8 := dkwX4_set_2 ++ dktX4_set_3
def dkwX4_set_1 : List UInt8 := [42, 16, 254, 182, 0, 97, 172, 42, 180, 0, 47, 27, 46, 154, 0, 10, 42, 16, 253, 182, 0, 97, 172, 28]
abbrev dktX4_set_1 : List UInt8 := dkwX4_set_1 ++ dktX4_set_2
def dkwX4_set_0 : List UInt8 := [42, 27, 182, 0, 94, 154, 0, 9, 42, 2, 182, 0, 97, 172, 42, 180, 0, 47, 27, 46, 5, 160, 0, 10]
abbrev dktX4_set_0 : List UInt8 := dkwX4_set_0 ++ dktX4_set_1
theorem dksX4_set_0 : cX4_set.data.toList.drop 0 = dktX4_set_0 := by decide +kernel
theorem dksX4_set_1 : cX4_set.data.toList.drop 24 = dktX4_set_1 := dk_seg dksX4_set_0 24 rfl rfl
theorem dksX4_set_2 : cX4_set.data.toList.drop 48 = dktX4_set_2 := dk_seg dksX4_set_1 24 rfl rfl
theorem dksX4_set_3 : cX4_set.data.toList.drop 72 = dktX4_set_3 := dk_seg dksX4_set_2 24 rfl rfl
theorem dksX4_set_4 : cX4_set.data.toList.drop 96 = dktX4_set_4 := dk_seg dksX4_set_3 24 rfl rfl
theorem dksX4_set_5 : cX4_set.data.toList.drop 119 = dktX4_set_5 := dk_seg dksX4_set_4 23 rfl rfl
theorem dX4_set_0 : decode cX4_set 0 = .ok (.aload_n 0, 1) := dk_42 (dk_at dksX4_set_0 0 rfl rfl)
theorem dX4_set_1 : decode cX4_set 1 = .ok (.iload_n 1, 1) := dk_27 (dk_at dksX4_set_0 1 rfl rfl)
theorem dX4_set_2 : decode cX4_set 2 = .ok (.invokevirtual 94, 3) := dk_182 0 94 (dk_at dksX4_set_0 2 rfl rfl)
theorem dX4_set_5 : decode cX4_set 5 = .ok (.ifCond .ne 9, 3) := dk_154 0 9 (dk_at dksX4_set_0 5 rfl rfl)
theorem dX4_set_8 : decode cX4_set 8 = .ok (.aload_n 0, 1) := dk_42 (dk_at dksX4_set_0 8 rfl rfl)
theorem dX4_set_9 : decode cX4_set 9 = .ok (.iconst (-1), 1) := dk_2 (dk_at dksX4_set_0 9 rfl rfl)
theorem dX4_set_10 : decode cX4_set 10 = .ok (.invokevirtual 97, 3) := dk_182 0 97 (dk_at dksX4_set_0 10 rfl rfl)
theorem dX4_set_13 : decode cX4_set 13 = .ok (.ireturn, 1) := dk_172 (dk_at dksX4_set_0 13 rfl rfl)
theorem dX4_set_14 : decode cX4_set 14 = .ok (.aload_n 0, 1) := dk_42 (dk_at dksX4_set_0 14 rfl rfl)
theorem dX4_set_15 : decode cX4_set 15 = .ok (.getfield 47, 3) := dk_180 0 47 (dk_at dksX4_set_0 15 rfl rfl)
theorem dX4_set_18 : decode cX4_set 18 = .ok (.iload_n 1, 1) := dk_27 (dk_at dksX4_set_0 18 rfl rfl)
theorem dX4_set_19 : decode cX4_set 19 = .ok (.iaload, 1) := dk_46 (dk_at dksX4_set_0 19 rfl rfl)
theorem dX4_set_20 : decode cX4_set 20 = .ok (.iconst 2, 1) := dk_5 (dk_at dksX4_set_0 20 rfl rfl)
theorem dX4_set_21 : decode cX4_set 21 = .ok (.if_icmp .ne 10, 3) := dk_160 0 10 (dk_at dksX4_set_0 21 rfl rfl)
theorem dX4_set_24 : decode cX4_set 24 = .ok (.aload_n 0, 1) := dk_42 (dk_at dksX4_set_1 0 rfl rfl)
theorem dX4_set_25 : decode cX4_set 25 = .ok (.bipush (-2), 2) := dk_16 254 (dk_at dksX4_set_1 1 rfl rfl)
theorem dX4_set_27 : decode cX4_set 27 = .ok (.invokevirtual 97, 3) := dk_182 0 97 (dk_at dksX4_set_1 3 rfl rfl)
theorem dX4_set_30 : decode cX4_set 30 = .ok (.ireturn, 1) := dk_172 (dk_at dksX4_set_1 6 rfl rfl)
theorem dX4_set_31 : decode cX4_set 31 = .ok (.aload_n 0, 1) := dk_42 (dk_at dksX4_set_1 7 rfl rfl)
theorem dX4_set_32 : decode cX4_set 32 = .ok (.getfield 47, 3) := dk_180 0 47 (dk_at dksX4_set_1 8 rfl rfl)
theorem dX4_set_35 : decode cX4_set 35 = .ok (.iload_n 1, 1) := dk_27 (dk_at dksX4_set_1 11 rfl rfl)
theorem dX4_set_36 : decode cX4_set 36 = .ok (.iaload, 1) := dk_46 (dk_at dksX4_set_1 12 rfl rfl)
theorem dX4_set_37 : decode cX4_set 37 = .ok (.ifCond .ne 10, 3) := dk_154 0 10 (dk_at dksX4_set_1 13 rfl rfl)
theorem dX4_set_40 : decode cX4_set 40 = .ok (.aload_n 0, 1) := dk_42 (dk_at dksX4_set_1 16 rfl rfl)
theorem dX4_set_41 : decode cX4_set 41 = .ok (.bipush (-3), 2) := dk_16 253 (dk_at dksX4_set_1 17 rfl rfl)
theorem dX4_set_43 : decode cX4_set 43 = .ok (.invokevirtual 97, 3) := dk_182 0 97 (dk_at dksX4_set_1 19 rfl rfl)
theorem dX4_set_46 : decode cX4_set 46 = .ok (.ireturn, 1) := dk_172 (dk_at dksX4_set_1 22 rfl rfl)
theorem dX4_set_47 : decode cX4_set 47 = .ok (.iload_n 2, 1) := dk_28 (dk_at dksX4_set_1 23 rfl rfl)
theorem dX4_set_48 : decode cX4_set 48 = .ok (.ifCond .lt 13, 3) := dk_155 0 13 (dk_at dksX4_set_2 0 rfl rfl)
theorem dX4_set_51 : decode cX4_set 51 = .ok (.iload_n 2, 1) := dk_28 (dk_at dksX4_set_2 3 rfl rfl)
theorem dX4_set_52 : decode cX4_set 52 = .ok (.aload_n 0, 1) := dk_42 (dk_at dksX4_set_2 4 rfl rfl)
theorem dX4_set_53 : decode cX4_set 53 = .ok (.getfield 53, 3) := dk_180 0 53 (dk_at dksX4_set_2 5 rfl rfl)
theorem dX4_set_56 : decode cX4_set 56 = .ok (.iload_n 1, 1) := dk_27 (dk_at dksX4_set_2 8 rfl rfl)
theorem dX4_set_57 : decode cX4_set 57 = .ok (.iaload, 1) := dk_46 (dk_at dksX4_set_2 9 rfl rfl)
theorem dX4_set_58 : decode cX4_set 58 = .ok (.if_icmp .lt 10, 3) := dk_161 0 10 (dk_at dksX4_set_2 10 rfl rfl)
theorem dX4_set_61 : decode cX4_set 61 = .ok (.aload_n 0, 1) := dk_42 (dk_at dksX4_set_2 13 rfl rfl)
theorem dX4_set_62 : decode cX4_set 62 = .ok (.bipush (-5), 2) := dk_16 251 (dk_at dksX4_set_2 14 rfl rfl)
theorem dX4_set_64 : decode cX4_set 64 = .ok (.invokevirtual 97, 3) := dk_182 0 97 (dk_at dksX4_set_2 16 rfl rfl)
theorem dX4_set_67 : decode cX4_set 67 = .ok (.ireturn, 1) := dk_172 (dk_at dksX4_set_2 19 rfl rfl)
theorem dX4_set_68 : decode cX4_set 68 = .ok (.aload_n 0, 1) := dk_42 (dk_at dksX4_set_2 20 rfl rfl)
theorem dX4_set_69 : decode cX4_set 69 = .ok (.getfield 59, 3) := dk_180 0 59 (dk_at dksX4_set_2 21 rfl rfl)
theorem dX4_set_72 : decode cX4_set 72 = .ok (.sipush 160, 3) := dk_17 0 160 (dk_at dksX4_set_3 0 rfl rfl)
theorem dX4_set_75 : decode cX4_set 75 = .ok (.iload_n 1, 1) := dk_27 (dk_at dksX4_set_3 3 rfl rfl)
theorem dX4_set_76 : decode cX4_set 76 = .ok (.imul, 1) := dk_104 (dk_at dksX4_set_3 4 rfl rfl)
theorem dX4_set_77 : decode cX4_set 77 = .ok (.iload_n 2, 1) := dk_28 (dk_at dksX4_set_3 5 rfl rfl)
theorem dX4_set_78 : decode cX4_set 78 = .ok (.iadd, 1) := dk_96 (dk_at dksX4_set_3 6 rfl rfl)
theorem dX4_set_79 : decode cX4_set 79 = .ok (.aload_n 0, 1) := dk_42 (dk_at dksX4_set_3 7 rfl rfl)
theorem dX4_set_80 : decode cX4_set 80 = .ok (.getfield 50, 3) := dk_180 0 50 (dk_at dksX4_set_3 8 rfl rfl)
theorem dX4_set_83 : decode cX4_set 83 = .ok (.iload_n 1, 1) := dk_27 (dk_at dksX4_set_3 11 rfl rfl)
theorem dX4_set_84 : decode cX4_set 84 = .ok (.iaload, 1) := dk_46 (dk_at dksX4_set_3 12 rfl rfl)
theorem dX4_set_85 : decode cX4_set 85 = .ok (.ifCond .ne 10, 3) := dk_154 0 10 (dk_at dksX4_set_3 13 rfl rfl)
theorem dX4_set_88 : decode cX4_set 88 = .ok (.lload_n 3, 1) := dk_33 (dk_at dksX4_set_3 16 rfl rfl)
theorem dX4_set_89 : decode cX4_set 89 = .ok (.l2i, 1) := dk_136 (dk_at dksX4_set_3 17 rfl rfl)
theorem dX4_set_90 : decode cX4_set 90 = .ok (.i2b, 1) := dk_145 (dk_at dksX4_set_3 18 rfl rfl)
theorem dX4_set_91 : decode cX4_set 91 = .ok (.i2l, 1) := dk_133 (dk_at dksX4_set_3 19 rfl rfl)
theorem dX4_set_92 : decode cX4_set 92 = .ok (.goto 37, 3) := dk_167 0 37 (dk_at dksX4_set_3 20 rfl rfl)
theorem dX4_set_95 : decode cX4_set 95 = .ok (.aload_n 0, 1) := dk_42 (dk_at dksX4_set_3 23 rfl rfl)
theorem dX4_set_96 : decode cX4_set 96 = .ok (.getfield 50, 3) := dk_180 0 50 (dk_at dksX4_set_4 0 rfl rfl)
theorem dX4_set_99 : decode cX4_set 99 = .ok (.iload_n 1, 1) := dk_27 (dk_at dksX4_set_4 3 rfl rfl)
theorem dX4_set_100 : decode cX4_set 100 = .ok (.iaload, 1) := dk_46 (dk_at dksX4_set_4 4 rfl rfl)
theorem dX4_set_101 : decode cX4_set 101 = .ok (.iconst 1, 1) := dk_4 (dk_at dksX4_set_4 5 rfl rfl)
theorem dX4_set_102 : decode cX4_set 102 = .ok (.if_icmp .ne 10, 3) := dk_160 0 10 (dk_at dksX4_set_4 6 rfl rfl)
theorem dX4_set_105 : decode cX4_set 105 = .ok (.lload_n 3, 1) := dk_33 (dk_at dksX4_set_4 9 rfl rfl)
theorem dX4_set_106 : decode cX4_set 106 = .ok (.l2i, 1) := dk_136 (dk_at dksX4_set_4 10 rfl rfl)
theorem dX4_set_107 : decode cX4_set 107 = .ok (.i2s, 1) := dk_147 (dk_at dksX4_set_4 11 rfl rfl)
theorem dX4_set_108 : decode cX4_set 108 = .ok (.i2l, 1) := dk_133 (dk_at dksX4_set_4 12 rfl rfl)
theorem dX4_set_109 : decode cX4_set 109 = .ok (.goto 20, 3) := dk_167 0 20 (dk_at dksX4_set_4 13 rfl rfl)
theorem dX4_set_112 : decode cX4_set 112 = .ok (.aload_n 0, 1) := dk_42 (dk_at dksX4_set_4 16 rfl rfl)
theorem dX4_set_113 : decode cX4_set 113 = .ok (.getfield 50, 3) := dk_180 0 50 (dk_at dksX4_set_4 17 rfl rfl)
theorem dX4_set_116 : decode cX4_set 116 = .ok (.iload_n 1, 1) := dk_27 (dk_at dksX4_set_4 20 rfl rfl)
theorem dX4_set_117 : decode cX4_set 117 = .ok (.iaload, 1) := dk_46 (dk_at dksX4_set_4 21 rfl rfl)
theorem dX4_set_118 : decode cX4_set 118 = .ok (.iconst 2, 1) := dk_5 (dk_at dksX4_set_4 22 rfl rfl)
theorem dX4_set_119 : decode cX4_set 119 = .ok (.if_icmp .ne 9, 3) := dk_160 0 9 (dk_at dksX4_set_5 0 rfl rfl)
theorem dX4_set_122 : decode cX4_set 122 = .ok (.lload_n 3, 1) := dk_33 (dk_at dksX4_set_5 3 rfl rfl)
theorem dX4_set_123 : decode cX4_set 123 = .ok (.l2i, 1) := dk_136 (dk_at dksX4_set_5 4 rfl rfl)
theorem dX4_set_124 : decode cX4_set 124 = .ok (.i2l, 1) := dk_133 (dk_at dksX4_set_5 5 rfl rfl)
theorem dX4_set_125 : decode cX4_set 125 = .ok (.goto 4, 3) := dk_167 0 4 (dk_at dksX4_set_5 6 rfl rfl)
theorem dX4_set_128 : decode cX4_set 128 = .ok (.lload_n 3, 1) := dk_33 (dk_at dksX4_set_5 9 rfl rfl)
theorem dX4_set_129 : decode cX4_set 129 = .ok (.lastore, 1) := dk_80 (dk_at dksX4_set_5 10 rfl rfl)
theorem dX4_set_130 : decode cX4_set 130 = .ok (.iconst 1, 1) := dk_4 (dk_at dksX4_set_5 11 rfl rfl)
theorem dX4_set_131 : decode cX4_set 131 = .ok (.ireturn, 1) := dk_172 (dk_at dksX4_set_5 12 rfl rfl)
abbrev cX4_copy : ByteArray := prog_21_method_12_code
def yX4_copy : MethodName := ⟨RX4, "copy", "(IIIII)I"⟩
def dkwX4_copy_10 : List UInt8 := [132, 6, 1, 167, 255, 223, 4, 172]
abbrev dktX4_copy_10 : List UInt8 := dkwX4_copy_10 ++ []
def dkwX4_copy_9 : List UInt8 := [42, 180, 0, 59, 17, 0, 160, 28, 104, 21, 4, 96, 21, 6, 96, 42, 180, 0, 63, 21, 6, 47, 80]
abbrev dktX4_copy_9 : List UInt8 := dkwX4_copy_9 ++ dktX4_copy_10
def dkwX4_copy_8 : List UInt8 := [104, 29, 96, 21, 6, 96, 47, 80, 132, 6, 1, 167, 255, 224, 3, 54, 6, 21, 6, 21, 5, 162, 0, 32]
abbrev dktX4_copy_8 : List UInt8 := dkwX4_copy_8 ++ dktX4_copy_9
def dkwX4_copy_7 : List UInt8 := [3, 54, 6, 21, 6, 21, 5, 162, 0, 31, 42, 180, 0, 63, 21, 6, 42, 180, 0, 59, 17, 0, 160, 27]
abbrev dktX4_copy_7 : List UInt8 := dkwX4_copy_7 ++ dktX4_copy_8
def dkwX4_copy_6 : List UInt8 := [163, 0, 17, 21, 4, 42, 180, 0, 53, 28, 46, 21, 5, 100, 164, 0, 10, 42, 16, 251, 182, 0, 97, 172]
abbrev dktX4_copy_6 : List UInt8 := dkwX4_copy_6 ++ dktX4_copy_7
def dkwX4_copy_5 : List UInt8 := [182, 0, 97, 172, 29, 155, 0, 35, 21, 4, 155, 0, 30, 29, 42, 180, 0, 53, 27, 46, 21, 5, 100]
abbrev dktX4_copy_5 : List UInt8 := dkwX4_copy_5 ++ dktX4_copy_6
def dkwX4_copy_4 : List UInt8 := [42, 180, 0, 47, 28, 46, 154, 0, 10, 42, 16, 253, 182, 0, 97, 172, 21, 5, 156, 0, 10, 42, 16, 252]
abbrev dktX4_copy_4 : List UInt8 := dkwX4_copy_4 ++ dktX4_copy_5
def dkwX4_copy_3 : List UInt8 := [180, 0, 50, 28, 46, 159, 0, 10, 42, 16, 254, 182, 0, 97, 172, 42, 180, 0, 47, 27, 46, 153, 0, 12]
abbrev dktX4_copy_3 : List UInt8 := dkwX4_copy_3 ++ dktX4_copy_4
def dkwX4_copy_2 : List UInt8 := [46, 4, 160, 0, 35, 42, 180, 0, 47, 28, 46, 4, 160, 0, 25, 42, 180, 0, 50, 27, 46, 42]
abbrev dktX4_copy_2 : List UInt8 := dkwX4_copy_2 ++ dktX4_copy_3
def dkwX4_copy_1 : List UInt8 := [180, 0, 47, 27, 46, 5, 159, 0, 48, 42, 180, 0, 47, 28, 46, 5, 159, 0, 38, 42, 180, 0, 47, 27]
abbrev dktX4_copy_1 : List UInt8 := dkwX4_copy_1 ++ dktX4_copy_2
def dkwX4_copy_0 : List UInt8 := [42, 27, 182, 0, 94, 153, 0, 11, 42, 28, 182, 0, 94, 154, 0, 9, 42, 2, 182, 0, 97, 172, 42]
abbrev dktX4_copy_0 : List UInt8 := dkwX4_copy_0 ++ dktX4_copy_1
theorem dksX4_copy_0 : cX4_copy.data.toList.drop 0 = dktX4_copy_0 := by decide +kernel
theorem dksX4_copy_1 : cX4_copy.data.toList.drop 23 = dktX4_copy_1 := dk_seg dksX4_copy_0 23 rfl rfl
theorem dksX4_copy_2 : cX4_copy.data.toList.drop 47 = dktX4_copy_2 := dk_seg dksX4_copy_1 24 rfl rfl
theorem dksX4_copy_3 : cX4_copy.data.toList.drop 69 = dktX4_copy_3 := dk_seg dksX4_copy_2 22 rfl rfl
theorem dksX4_copy_4 : cX4_copy.data.toList.drop 93 = dktX4_copy_4 := dk_seg dksX4_copy_3 24 rfl rfl
theorem dksX4_copy_5 : cX4_copy.data.toList.drop 117 = dktX4_copy_5 := dk_seg dksX4_copy_4 24 rfl rfl
theorem dksX4_copy_6 : cX4_copy.data.toList.drop 140 = dktX4_copy_6 := dk_seg dksX4_copy_5 23 rfl rfl
theorem dksX4_copy_7 : cX4_copy.data.toList.drop 164 = dktX4_copy_7 := dk_seg dksX4_copy_6 24 rfl rfl
theorem dksX4_copy_8 : cX4_copy.data.toList.drop 188 = dktX4_copy_8 := dk_seg dksX4_copy_7 24 rfl rfl
theorem dksX4_copy_9 : cX4_copy.data.toList.drop 212 = dktX4_copy_9 := dk_seg dksX4_copy_8 24 rfl rfl
theorem dksX4_copy_10 : cX4_copy.data.toList.drop 235 = dktX4_copy_10 := dk_seg dksX4_copy_9 23 rfl rfl
theorem dX4_copy_0 : decode cX4_copy 0 = .ok (.aload_n 0, 1) := dk_42 (dk_at dksX4_copy_0 0 rfl rfl)
theorem dX4_copy_1 : decode cX4_copy 1 = .ok (.iload_n 1, 1) := dk_27 (dk_at dksX4_copy_0 1 rfl rfl)
theorem dX4_copy_2 : decode cX4_copy 2 = .ok (.invokevirtual 94, 3) := dk_182 0 94 (dk_at dksX4_copy_0 2 rfl rfl)
theorem dX4_copy_5 : decode cX4_copy 5 = .ok (.ifCond .eq 11, 3) := dk_153 0 11 (dk_at dksX4_copy_0 5 rfl rfl)
theorem dX4_copy_8 : decode cX4_copy 8 = .ok (.aload_n 0, 1) := dk_42 (dk_at dksX4_copy_0 8 rfl rfl)
theorem dX4_copy_9 : decode cX4_copy 9 = .ok (.iload_n 2, 1) := dk_28 (dk_at dksX4_copy_0 9 rfl rfl)
theorem dX4_copy_10 : decode cX4_copy 10 = .ok (.invokevirtual 94, 3) := dk_182 0 94 (dk_at dksX4_copy_0 10 rfl rfl)
theorem dX4_copy_13 : decode cX4_copy 13 = .ok (.ifCond .ne 9, 3) := dk_154 0 9 (dk_at dksX4_copy_0 13 rfl rfl)
theorem dX4_copy_16 : decode cX4_copy 16 = .ok (.aload_n 0, 1) := dk_42 (dk_at dksX4_copy_0 16 rfl rfl)
theorem dX4_copy_17 : decode cX4_copy 17 = .ok (.iconst (-1), 1) := dk_2 (dk_at dksX4_copy_0 17 rfl rfl)
theorem dX4_copy_18 : decode cX4_copy 18 = .ok (.invokevirtual 97, 3) := dk_182 0 97 (dk_at dksX4_copy_0 18 rfl rfl)
theorem dX4_copy_21 : decode cX4_copy 21 = .ok (.ireturn, 1) := dk_172 (dk_at dksX4_copy_0 21 rfl rfl)
theorem dX4_copy_22 : decode cX4_copy 22 = .ok (.aload_n 0, 1) := dk_42 (dk_at dksX4_copy_0 22 rfl rfl)
theorem dX4_copy_23 : decode cX4_copy 23 = .ok (.getfield 47, 3) := dk_180 0 47 (dk_at dksX4_copy_1 0 rfl rfl)
theorem dX4_copy_26 : decode cX4_copy 26 = .ok (.iload_n 1, 1) := dk_27 (dk_at dksX4_copy_1 3 rfl rfl)
theorem dX4_copy_27 : decode cX4_copy 27 = .ok (.iaload, 1) := dk_46 (dk_at dksX4_copy_1 4 rfl rfl)
theorem dX4_copy_28 : decode cX4_copy 28 = .ok (.iconst 2, 1) := dk_5 (dk_at dksX4_copy_1 5 rfl rfl)
theorem dX4_copy_29 : decode cX4_copy 29 = .ok (.if_icmp .eq 48, 3) := dk_159 0 48 (dk_at dksX4_copy_1 6 rfl rfl)
theorem dX4_copy_32 : decode cX4_copy 32 = .ok (.aload_n 0, 1) := dk_42 (dk_at dksX4_copy_1 9 rfl rfl)
theorem dX4_copy_33 : decode cX4_copy 33 = .ok (.getfield 47, 3) := dk_180 0 47 (dk_at dksX4_copy_1 10 rfl rfl)
theorem dX4_copy_36 : decode cX4_copy 36 = .ok (.iload_n 2, 1) := dk_28 (dk_at dksX4_copy_1 13 rfl rfl)
theorem dX4_copy_37 : decode cX4_copy 37 = .ok (.iaload, 1) := dk_46 (dk_at dksX4_copy_1 14 rfl rfl)
theorem dX4_copy_38 : decode cX4_copy 38 = .ok (.iconst 2, 1) := dk_5 (dk_at dksX4_copy_1 15 rfl rfl)
theorem dX4_copy_39 : decode cX4_copy 39 = .ok (.if_icmp .eq 38, 3) := dk_159 0 38 (dk_at dksX4_copy_1 16 rfl rfl)
theorem dX4_copy_42 : decode cX4_copy 42 = .ok (.aload_n 0, 1) := dk_42 (dk_at dksX4_copy_1 19 rfl rfl)
theorem dX4_copy_43 : decode cX4_copy 43 = .ok (.getfield 47, 3) := dk_180 0 47 (dk_at dksX4_copy_1 20 rfl rfl)
theorem dX4_copy_46 : decode cX4_copy 46 = .ok (.iload_n 1, 1) := dk_27 (dk_at dksX4_copy_1 23 rfl rfl)
theorem dX4_copy_47 : decode cX4_copy 47 = .ok (.iaload, 1) := dk_46 (dk_at dksX4_copy_2 0 rfl rfl)
theorem dX4_copy_48 : decode cX4_copy 48 = .ok (.iconst 1, 1) := dk_4 (dk_at dksX4_copy_2 1 rfl rfl)
theorem dX4_copy_49 : decode cX4_copy 49 = .ok (.if_icmp .ne 35, 3) := dk_160 0 35 (dk_at dksX4_copy_2 2 rfl rfl)
theorem dX4_copy_52 : decode cX4_copy 52 = .ok (.aload_n 0, 1) := dk_42 (dk_at dksX4_copy_2 5 rfl rfl)
theorem dX4_copy_53 : decode cX4_copy 53 = .ok (.getfield 47, 3) := dk_180 0 47 (dk_at dksX4_copy_2 6 rfl rfl)
theorem dX4_copy_56 : decode cX4_copy 56 = .ok (.iload_n 2, 1) := dk_28 (dk_at dksX4_copy_2 9 rfl rfl)
theorem dX4_copy_57 : decode cX4_copy 57 = .ok (.iaload, 1) := dk_46 (dk_at dksX4_copy_2 10 rfl rfl)
theorem dX4_copy_58 : decode cX4_copy 58 = .ok (.iconst 1, 1) := dk_4 (dk_at dksX4_copy_2 11 rfl rfl)
theorem dX4_copy_59 : decode cX4_copy 59 = .ok (.if_icmp .ne 25, 3) := dk_160 0 25 (dk_at dksX4_copy_2 12 rfl rfl)
theorem dX4_copy_62 : decode cX4_copy 62 = .ok (.aload_n 0, 1) := dk_42 (dk_at dksX4_copy_2 15 rfl rfl)
theorem dX4_copy_63 : decode cX4_copy 63 = .ok (.getfield 50, 3) := dk_180 0 50 (dk_at dksX4_copy_2 16 rfl rfl)
theorem dX4_copy_66 : decode cX4_copy 66 = .ok (.iload_n 1, 1) := dk_27 (dk_at dksX4_copy_2 19 rfl rfl)
theorem dX4_copy_67 : decode cX4_copy 67 = .ok (.iaload, 1) := dk_46 (dk_at dksX4_copy_2 20 rfl rfl)
theorem dX4_copy_68 : decode cX4_copy 68 = .ok (.aload_n 0, 1) := dk_42 (dk_at dksX4_copy_2 21 rfl rfl)
theorem dX4_copy_69 : decode cX4_copy 69 = .ok (.getfield 50, 3) := dk_180 0 50 (dk_at dksX4_copy_3 0 rfl rfl)
theorem dX4_copy_72 : decode cX4_copy 72 = .ok (.iload_n 2, 1) := dk_28 (dk_at dksX4_copy_3 3 rfl rfl)
theorem dX4_copy_73 : decode cX4_copy 73 = .ok (.iaload, 1) := dk_46 (dk_at dksX4_copy_3 4 rfl rfl)
theorem dX4_copy_74 : decode cX4_copy 74 = .ok (.if_icmp .eq 10, 3) := dk_159 0 10 (dk_at dksX4_copy_3 5 rfl rfl)
theorem dX4_copy_77 : decode cX4_copy 77 = .ok (.aload_n 0, 1) := dk_42 (dk_at dksX4_copy_3 8 rfl rfl)
theorem dX4_copy_78 : decode cX4_copy 78 = .ok (.bipush (-2), 2) := dk_16 254 (dk_at dksX4_copy_3 9 rfl rfl)
theorem dX4_copy_80 : decode cX4_copy 80 = .ok (.invokevirtual 97, 3) := dk_182 0 97 (dk_at dksX4_copy_3 11 rfl rfl)
theorem dX4_copy_83 : decode cX4_copy 83 = .ok (.ireturn, 1) := dk_172 (dk_at dksX4_copy_3 14 rfl rfl)
theorem dX4_copy_84 : decode cX4_copy 84 = .ok (.aload_n 0, 1) := dk_42 (dk_at dksX4_copy_3 15 rfl rfl)
theorem dX4_copy_85 : decode cX4_copy 85 = .ok (.getfield 47, 3) := dk_180 0 47 (dk_at dksX4_copy_3 16 rfl rfl)
theorem dX4_copy_88 : decode cX4_copy 88 = .ok (.iload_n 1, 1) := dk_27 (dk_at dksX4_copy_3 19 rfl rfl)
theorem dX4_copy_89 : decode cX4_copy 89 = .ok (.iaload, 1) := dk_46 (dk_at dksX4_copy_3 20 rfl rfl)
theorem dX4_copy_90 : decode cX4_copy 90 = .ok (.ifCond .eq 12, 3) := dk_153 0 12 (dk_at dksX4_copy_3 21 rfl rfl)
theorem dX4_copy_93 : decode cX4_copy 93 = .ok (.aload_n 0, 1) := dk_42 (dk_at dksX4_copy_4 0 rfl rfl)
theorem dX4_copy_94 : decode cX4_copy 94 = .ok (.getfield 47, 3) := dk_180 0 47 (dk_at dksX4_copy_4 1 rfl rfl)
theorem dX4_copy_97 : decode cX4_copy 97 = .ok (.iload_n 2, 1) := dk_28 (dk_at dksX4_copy_4 4 rfl rfl)
theorem dX4_copy_98 : decode cX4_copy 98 = .ok (.iaload, 1) := dk_46 (dk_at dksX4_copy_4 5 rfl rfl)
theorem dX4_copy_99 : decode cX4_copy 99 = .ok (.ifCond .ne 10, 3) := dk_154 0 10 (dk_at dksX4_copy_4 6 rfl rfl)
theorem dX4_copy_102 : decode cX4_copy 102 = .ok (.aload_n 0, 1) := dk_42 (dk_at dksX4_copy_4 9 rfl rfl)
theorem dX4_copy_103 : decode cX4_copy 103 = .ok (.bipush (-3), 2) := dk_16 253 (dk_at dksX4_copy_4 10 rfl rfl)
theorem dX4_copy_105 : decode cX4_copy 105 = .ok (.invokevirtual 97, 3) := dk_182 0 97 (dk_at dksX4_copy_4 12 rfl rfl)
theorem dX4_copy_108 : decode cX4_copy 108 = .ok (.ireturn, 1) := dk_172 (dk_at dksX4_copy_4 15 rfl rfl)
theorem dX4_copy_109 : decode cX4_copy 109 = .ok (.iload 5, 2) := dk_21 5 (dk_at dksX4_copy_4 16 rfl rfl)
theorem dX4_copy_111 : decode cX4_copy 111 = .ok (.ifCond .ge 10, 3) := dk_156 0 10 (dk_at dksX4_copy_4 18 rfl rfl)
theorem dX4_copy_114 : decode cX4_copy 114 = .ok (.aload_n 0, 1) := dk_42 (dk_at dksX4_copy_4 21 rfl rfl)
theorem dX4_copy_115 : decode cX4_copy 115 = .ok (.bipush (-4), 2) := dk_16 252 (dk_at dksX4_copy_4 22 rfl rfl)
theorem dX4_copy_117 : decode cX4_copy 117 = .ok (.invokevirtual 97, 3) := dk_182 0 97 (dk_at dksX4_copy_5 0 rfl rfl)
theorem dX4_copy_120 : decode cX4_copy 120 = .ok (.ireturn, 1) := dk_172 (dk_at dksX4_copy_5 3 rfl rfl)
theorem dX4_copy_121 : decode cX4_copy 121 = .ok (.iload_n 3, 1) := dk_29 (dk_at dksX4_copy_5 4 rfl rfl)
theorem dX4_copy_122 : decode cX4_copy 122 = .ok (.ifCond .lt 35, 3) := dk_155 0 35 (dk_at dksX4_copy_5 5 rfl rfl)
theorem dX4_copy_125 : decode cX4_copy 125 = .ok (.iload 4, 2) := dk_21 4 (dk_at dksX4_copy_5 8 rfl rfl)
theorem dX4_copy_127 : decode cX4_copy 127 = .ok (.ifCond .lt 30, 3) := dk_155 0 30 (dk_at dksX4_copy_5 10 rfl rfl)
theorem dX4_copy_130 : decode cX4_copy 130 = .ok (.iload_n 3, 1) := dk_29 (dk_at dksX4_copy_5 13 rfl rfl)
theorem dX4_copy_131 : decode cX4_copy 131 = .ok (.aload_n 0, 1) := dk_42 (dk_at dksX4_copy_5 14 rfl rfl)
theorem dX4_copy_132 : decode cX4_copy 132 = .ok (.getfield 53, 3) := dk_180 0 53 (dk_at dksX4_copy_5 15 rfl rfl)
theorem dX4_copy_135 : decode cX4_copy 135 = .ok (.iload_n 1, 1) := dk_27 (dk_at dksX4_copy_5 18 rfl rfl)
theorem dX4_copy_136 : decode cX4_copy 136 = .ok (.iaload, 1) := dk_46 (dk_at dksX4_copy_5 19 rfl rfl)
theorem dX4_copy_137 : decode cX4_copy 137 = .ok (.iload 5, 2) := dk_21 5 (dk_at dksX4_copy_5 20 rfl rfl)
theorem dX4_copy_139 : decode cX4_copy 139 = .ok (.isub, 1) := dk_100 (dk_at dksX4_copy_5 22 rfl rfl)
theorem dX4_copy_140 : decode cX4_copy 140 = .ok (.if_icmp .gt 17, 3) := dk_163 0 17 (dk_at dksX4_copy_6 0 rfl rfl)
theorem dX4_copy_143 : decode cX4_copy 143 = .ok (.iload 4, 2) := dk_21 4 (dk_at dksX4_copy_6 3 rfl rfl)
theorem dX4_copy_145 : decode cX4_copy 145 = .ok (.aload_n 0, 1) := dk_42 (dk_at dksX4_copy_6 5 rfl rfl)
theorem dX4_copy_146 : decode cX4_copy 146 = .ok (.getfield 53, 3) := dk_180 0 53 (dk_at dksX4_copy_6 6 rfl rfl)
theorem dX4_copy_149 : decode cX4_copy 149 = .ok (.iload_n 2, 1) := dk_28 (dk_at dksX4_copy_6 9 rfl rfl)
theorem dX4_copy_150 : decode cX4_copy 150 = .ok (.iaload, 1) := dk_46 (dk_at dksX4_copy_6 10 rfl rfl)
theorem dX4_copy_151 : decode cX4_copy 151 = .ok (.iload 5, 2) := dk_21 5 (dk_at dksX4_copy_6 11 rfl rfl)
theorem dX4_copy_153 : decode cX4_copy 153 = .ok (.isub, 1) := dk_100 (dk_at dksX4_copy_6 13 rfl rfl)
theorem dX4_copy_154 : decode cX4_copy 154 = .ok (.if_icmp .le 10, 3) := dk_164 0 10 (dk_at dksX4_copy_6 14 rfl rfl)
theorem dX4_copy_157 : decode cX4_copy 157 = .ok (.aload_n 0, 1) := dk_42 (dk_at dksX4_copy_6 17 rfl rfl)
theorem dX4_copy_158 : decode cX4_copy 158 = .ok (.bipush (-5), 2) := dk_16 251 (dk_at dksX4_copy_6 18 rfl rfl)
theorem dX4_copy_160 : decode cX4_copy 160 = .ok (.invokevirtual 97, 3) := dk_182 0 97 (dk_at dksX4_copy_6 20 rfl rfl)
theorem dX4_copy_163 : decode cX4_copy 163 = .ok (.ireturn, 1) := dk_172 (dk_at dksX4_copy_6 23 rfl rfl)
theorem dX4_copy_164 : decode cX4_copy 164 = .ok (.iconst 0, 1) := dk_3 (dk_at dksX4_copy_7 0 rfl rfl)
theorem dX4_copy_165 : decode cX4_copy 165 = .ok (.istore 6, 2) := dk_54 6 (dk_at dksX4_copy_7 1 rfl rfl)
theorem dX4_copy_167 : decode cX4_copy 167 = .ok (.iload 6, 2) := dk_21 6 (dk_at dksX4_copy_7 3 rfl rfl)
theorem dX4_copy_169 : decode cX4_copy 169 = .ok (.iload 5, 2) := dk_21 5 (dk_at dksX4_copy_7 5 rfl rfl)
theorem dX4_copy_171 : decode cX4_copy 171 = .ok (.if_icmp .ge 31, 3) := dk_162 0 31 (dk_at dksX4_copy_7 7 rfl rfl)
theorem dX4_copy_174 : decode cX4_copy 174 = .ok (.aload_n 0, 1) := dk_42 (dk_at dksX4_copy_7 10 rfl rfl)
theorem dX4_copy_175 : decode cX4_copy 175 = .ok (.getfield 63, 3) := dk_180 0 63 (dk_at dksX4_copy_7 11 rfl rfl)
theorem dX4_copy_178 : decode cX4_copy 178 = .ok (.iload 6, 2) := dk_21 6 (dk_at dksX4_copy_7 14 rfl rfl)
theorem dX4_copy_180 : decode cX4_copy 180 = .ok (.aload_n 0, 1) := dk_42 (dk_at dksX4_copy_7 16 rfl rfl)
theorem dX4_copy_181 : decode cX4_copy 181 = .ok (.getfield 59, 3) := dk_180 0 59 (dk_at dksX4_copy_7 17 rfl rfl)
theorem dX4_copy_184 : decode cX4_copy 184 = .ok (.sipush 160, 3) := dk_17 0 160 (dk_at dksX4_copy_7 20 rfl rfl)
theorem dX4_copy_187 : decode cX4_copy 187 = .ok (.iload_n 1, 1) := dk_27 (dk_at dksX4_copy_7 23 rfl rfl)
theorem dX4_copy_188 : decode cX4_copy 188 = .ok (.imul, 1) := dk_104 (dk_at dksX4_copy_8 0 rfl rfl)
theorem dX4_copy_189 : decode cX4_copy 189 = .ok (.iload_n 3, 1) := dk_29 (dk_at dksX4_copy_8 1 rfl rfl)
theorem dX4_copy_190 : decode cX4_copy 190 = .ok (.iadd, 1) := dk_96 (dk_at dksX4_copy_8 2 rfl rfl)
theorem dX4_copy_191 : decode cX4_copy 191 = .ok (.iload 6, 2) := dk_21 6 (dk_at dksX4_copy_8 3 rfl rfl)
theorem dX4_copy_193 : decode cX4_copy 193 = .ok (.iadd, 1) := dk_96 (dk_at dksX4_copy_8 5 rfl rfl)
theorem dX4_copy_194 : decode cX4_copy 194 = .ok (.laload, 1) := dk_47 (dk_at dksX4_copy_8 6 rfl rfl)
theorem dX4_copy_195 : decode cX4_copy 195 = .ok (.lastore, 1) := dk_80 (dk_at dksX4_copy_8 7 rfl rfl)
theorem dX4_copy_196 : decode cX4_copy 196 = .ok (.iinc 6 1, 3) := dk_132 6 1 (dk_at dksX4_copy_8 8 rfl rfl)
theorem dX4_copy_199 : decode cX4_copy 199 = .ok (.goto (-32), 3) := dk_167 255 224 (dk_at dksX4_copy_8 11 rfl rfl)
theorem dX4_copy_202 : decode cX4_copy 202 = .ok (.iconst 0, 1) := dk_3 (dk_at dksX4_copy_8 14 rfl rfl)
theorem dX4_copy_203 : decode cX4_copy 203 = .ok (.istore 6, 2) := dk_54 6 (dk_at dksX4_copy_8 15 rfl rfl)
theorem dX4_copy_205 : decode cX4_copy 205 = .ok (.iload 6, 2) := dk_21 6 (dk_at dksX4_copy_8 17 rfl rfl)
theorem dX4_copy_207 : decode cX4_copy 207 = .ok (.iload 5, 2) := dk_21 5 (dk_at dksX4_copy_8 19 rfl rfl)
theorem dX4_copy_209 : decode cX4_copy 209 = .ok (.if_icmp .ge 32, 3) := dk_162 0 32 (dk_at dksX4_copy_8 21 rfl rfl)
theorem dX4_copy_212 : decode cX4_copy 212 = .ok (.aload_n 0, 1) := dk_42 (dk_at dksX4_copy_9 0 rfl rfl)
theorem dX4_copy_213 : decode cX4_copy 213 = .ok (.getfield 59, 3) := dk_180 0 59 (dk_at dksX4_copy_9 1 rfl rfl)
theorem dX4_copy_216 : decode cX4_copy 216 = .ok (.sipush 160, 3) := dk_17 0 160 (dk_at dksX4_copy_9 4 rfl rfl)
theorem dX4_copy_219 : decode cX4_copy 219 = .ok (.iload_n 2, 1) := dk_28 (dk_at dksX4_copy_9 7 rfl rfl)
theorem dX4_copy_220 : decode cX4_copy 220 = .ok (.imul, 1) := dk_104 (dk_at dksX4_copy_9 8 rfl rfl)
theorem dX4_copy_221 : decode cX4_copy 221 = .ok (.iload 4, 2) := dk_21 4 (dk_at dksX4_copy_9 9 rfl rfl)
theorem dX4_copy_223 : decode cX4_copy 223 = .ok (.iadd, 1) := dk_96 (dk_at dksX4_copy_9 11 rfl rfl)
theorem dX4_copy_224 : decode cX4_copy 224 = .ok (.iload 6, 2) := dk_21 6 (dk_at dksX4_copy_9 12 rfl rfl)
theorem dX4_copy_226 : decode cX4_copy 226 = .ok (.iadd, 1) := dk_96 (dk_at dksX4_copy_9 14 rfl rfl)
theorem dX4_copy_227 : decode cX4_copy 227 = .ok (.aload_n 0, 1) := dk_42 (dk_at dksX4_copy_9 15 rfl rfl)
theorem dX4_copy_228 : decode cX4_copy 228 = .ok (.getfield 63, 3) := dk_180 0 63 (dk_at dksX4_copy_9 16 rfl rfl)
theorem dX4_copy_231 : decode cX4_copy 231 = .ok (.iload 6, 2) := dk_21 6 (dk_at dksX4_copy_9 19 rfl rfl)
theorem dX4_copy_233 : decode cX4_copy 233 = .ok (.laload, 1) := dk_47 (dk_at dksX4_copy_9 21 rfl rfl)
theorem dX4_copy_234 : decode cX4_copy 234 = .ok (.lastore, 1) := dk_80 (dk_at dksX4_copy_9 22 rfl rfl)
theorem dX4_copy_235 : decode cX4_copy 235 = .ok (.iinc 6 1, 3) := dk_132 6 1 (dk_at dksX4_copy_10 0 rfl rfl)
theorem dX4_copy_238 : decode cX4_copy 238 = .ok (.goto (-33), 3) := dk_167 255 223 (dk_at dksX4_copy_10 3 rfl rfl)
theorem dX4_copy_241 : decode cX4_copy 241 = .ok (.iconst 1, 1) := dk_4 (dk_at dksX4_copy_10 6 rfl rfl)
theorem dX4_copy_242 : decode cX4_copy 242 = .ok (.ireturn, 1) := dk_172 (dk_at dksX4_copy_10 7 rfl rfl)
abbrev cX4_element : ByteArray := prog_21_method_13_code
def yX4_element : MethodName := ⟨RX4, "element", "(II)J"⟩
def dkwX4_element_2 : List UInt8 := [173]
abbrev dktX4_element_2 : List UInt8 := dkwX4_element_2 ++ []
def dkwX4_element_1 : List UInt8 := [180, 0, 53, 27, 46, 162, 0, 18, 42, 180, 0, 59, 17, 0, 160, 27, 104, 28, 96, 47, 167, 0, 4, 9]
abbrev dktX4_element_1 : List UInt8 := dkwX4_element_1 ++ dktX4_element_2
def dkwX4_element_0 : List UInt8 := [42, 27, 182, 0, 94, 153, 0, 42, 42, 180, 0, 47, 27, 46, 4, 160, 0, 32, 28, 155, 0, 28, 28, 42]
abbrev dktX4_element_0 : List UInt8 := dkwX4_element_0 ++ dktX4_element_1
theorem dksX4_element_0 : cX4_element.data.toList.drop 0 = dktX4_element_0 := by decide +kernel
theorem dksX4_element_1 : cX4_element.data.toList.drop 24 = dktX4_element_1 := dk_seg dksX4_element_0 24 rfl rfl
theorem dksX4_element_2 : cX4_element.data.toList.drop 48 = dktX4_element_2 := dk_seg dksX4_element_1 24 rfl rfl
theorem dX4_element_0 : decode cX4_element 0 = .ok (.aload_n 0, 1) := dk_42 (dk_at dksX4_element_0 0 rfl rfl)
theorem dX4_element_1 : decode cX4_element 1 = .ok (.iload_n 1, 1) := dk_27 (dk_at dksX4_element_0 1 rfl rfl)
theorem dX4_element_2 : decode cX4_element 2 = .ok (.invokevirtual 94, 3) := dk_182 0 94 (dk_at dksX4_element_0 2 rfl rfl)
theorem dX4_element_5 : decode cX4_element 5 = .ok (.ifCond .eq 42, 3) := dk_153 0 42 (dk_at dksX4_element_0 5 rfl rfl)
theorem dX4_element_8 : decode cX4_element 8 = .ok (.aload_n 0, 1) := dk_42 (dk_at dksX4_element_0 8 rfl rfl)
theorem dX4_element_9 : decode cX4_element 9 = .ok (.getfield 47, 3) := dk_180 0 47 (dk_at dksX4_element_0 9 rfl rfl)
theorem dX4_element_12 : decode cX4_element 12 = .ok (.iload_n 1, 1) := dk_27 (dk_at dksX4_element_0 12 rfl rfl)
theorem dX4_element_13 : decode cX4_element 13 = .ok (.iaload, 1) := dk_46 (dk_at dksX4_element_0 13 rfl rfl)
theorem dX4_element_14 : decode cX4_element 14 = .ok (.iconst 1, 1) := dk_4 (dk_at dksX4_element_0 14 rfl rfl)
theorem dX4_element_15 : decode cX4_element 15 = .ok (.if_icmp .ne 32, 3) := dk_160 0 32 (dk_at dksX4_element_0 15 rfl rfl)
theorem dX4_element_18 : decode cX4_element 18 = .ok (.iload_n 2, 1) := dk_28 (dk_at dksX4_element_0 18 rfl rfl)
theorem dX4_element_19 : decode cX4_element 19 = .ok (.ifCond .lt 28, 3) := dk_155 0 28 (dk_at dksX4_element_0 19 rfl rfl)
theorem dX4_element_22 : decode cX4_element 22 = .ok (.iload_n 2, 1) := dk_28 (dk_at dksX4_element_0 22 rfl rfl)
theorem dX4_element_23 : decode cX4_element 23 = .ok (.aload_n 0, 1) := dk_42 (dk_at dksX4_element_0 23 rfl rfl)
theorem dX4_element_24 : decode cX4_element 24 = .ok (.getfield 53, 3) := dk_180 0 53 (dk_at dksX4_element_1 0 rfl rfl)
theorem dX4_element_27 : decode cX4_element 27 = .ok (.iload_n 1, 1) := dk_27 (dk_at dksX4_element_1 3 rfl rfl)
theorem dX4_element_28 : decode cX4_element 28 = .ok (.iaload, 1) := dk_46 (dk_at dksX4_element_1 4 rfl rfl)
theorem dX4_element_29 : decode cX4_element 29 = .ok (.if_icmp .ge 18, 3) := dk_162 0 18 (dk_at dksX4_element_1 5 rfl rfl)
theorem dX4_element_32 : decode cX4_element 32 = .ok (.aload_n 0, 1) := dk_42 (dk_at dksX4_element_1 8 rfl rfl)
theorem dX4_element_33 : decode cX4_element 33 = .ok (.getfield 59, 3) := dk_180 0 59 (dk_at dksX4_element_1 9 rfl rfl)
theorem dX4_element_36 : decode cX4_element 36 = .ok (.sipush 160, 3) := dk_17 0 160 (dk_at dksX4_element_1 12 rfl rfl)
theorem dX4_element_39 : decode cX4_element 39 = .ok (.iload_n 1, 1) := dk_27 (dk_at dksX4_element_1 15 rfl rfl)
theorem dX4_element_40 : decode cX4_element 40 = .ok (.imul, 1) := dk_104 (dk_at dksX4_element_1 16 rfl rfl)
theorem dX4_element_41 : decode cX4_element 41 = .ok (.iload_n 2, 1) := dk_28 (dk_at dksX4_element_1 17 rfl rfl)
theorem dX4_element_42 : decode cX4_element 42 = .ok (.iadd, 1) := dk_96 (dk_at dksX4_element_1 18 rfl rfl)
theorem dX4_element_43 : decode cX4_element 43 = .ok (.laload, 1) := dk_47 (dk_at dksX4_element_1 19 rfl rfl)
theorem dX4_element_44 : decode cX4_element 44 = .ok (.goto 4, 3) := dk_167 0 4 (dk_at dksX4_element_1 20 rfl rfl)
theorem dX4_element_47 : decode cX4_element 47 = .ok (.lconst 0, 1) := dk_9 (dk_at dksX4_element_1 23 rfl rfl)
theorem dX4_element_48 : decode cX4_element 48 = .ok (.lreturn, 1) := dk_173 (dk_at dksX4_element_2 0 rfl rfl)
abbrev cX4_show : ByteArray := prog_21_method_14_code
def yX4_show : MethodName := ⟨RX4, "show", "(II)I"⟩
def dkwX4_show_2 : List UInt8 := [27, 28, 79, 28, 2, 160, 0, 7, 3, 167, 0, 4, 4, 172]
abbrev dktX4_show_2 : List UInt8 := dkwX4_show_2 ++ []
def dkwX4_show_1 : List UInt8 := [182, 0, 97, 172, 42, 180, 0, 47, 27, 28, 2, 160, 0, 7, 3, 167, 0, 4, 5, 79, 42, 180, 0, 56]
abbrev dktX4_show_1 : List UInt8 := dkwX4_show_1 ++ dktX4_show_2
def dkwX4_show_0 : List UInt8 := [42, 27, 182, 0, 94, 153, 0, 16, 28, 2, 159, 0, 17, 42, 28, 182, 0, 87, 154, 0, 9, 42, 2]
abbrev dktX4_show_0 : List UInt8 := dkwX4_show_0 ++ dktX4_show_1
theorem dksX4_show_0 : cX4_show.data.toList.drop 0 = dktX4_show_0 := by decide +kernel
theorem dksX4_show_1 : cX4_show.data.toList.drop 23 = dktX4_show_1 := dk_seg dksX4_show_0 23 rfl rfl
theorem dksX4_show_2 : cX4_show.data.toList.drop 47 = dktX4_show_2 := dk_seg dksX4_show_1 24 rfl rfl
theorem dX4_show_0 : decode cX4_show 0 = .ok (.aload_n 0, 1) := dk_42 (dk_at dksX4_show_0 0 rfl rfl)
theorem dX4_show_1 : decode cX4_show 1 = .ok (.iload_n 1, 1) := dk_27 (dk_at dksX4_show_0 1 rfl rfl)
theorem dX4_show_2 : decode cX4_show 2 = .ok (.invokevirtual 94, 3) := dk_182 0 94 (dk_at dksX4_show_0 2 rfl rfl)
theorem dX4_show_5 : decode cX4_show 5 = .ok (.ifCond .eq 16, 3) := dk_153 0 16 (dk_at dksX4_show_0 5 rfl rfl)
theorem dX4_show_8 : decode cX4_show 8 = .ok (.iload_n 2, 1) := dk_28 (dk_at dksX4_show_0 8 rfl rfl)
theorem dX4_show_9 : decode cX4_show 9 = .ok (.iconst (-1), 1) := dk_2 (dk_at dksX4_show_0 9 rfl rfl)
theorem dX4_show_10 : decode cX4_show 10 = .ok (.if_icmp .eq 17, 3) := dk_159 0 17 (dk_at dksX4_show_0 10 rfl rfl)
theorem dX4_show_13 : decode cX4_show 13 = .ok (.aload_n 0, 1) := dk_42 (dk_at dksX4_show_0 13 rfl rfl)
theorem dX4_show_14 : decode cX4_show 14 = .ok (.iload_n 2, 1) := dk_28 (dk_at dksX4_show_0 14 rfl rfl)
theorem dX4_show_15 : decode cX4_show 15 = .ok (.invokevirtual 87, 3) := dk_182 0 87 (dk_at dksX4_show_0 15 rfl rfl)
theorem dX4_show_18 : decode cX4_show 18 = .ok (.ifCond .ne 9, 3) := dk_154 0 9 (dk_at dksX4_show_0 18 rfl rfl)
theorem dX4_show_21 : decode cX4_show 21 = .ok (.aload_n 0, 1) := dk_42 (dk_at dksX4_show_0 21 rfl rfl)
theorem dX4_show_22 : decode cX4_show 22 = .ok (.iconst (-1), 1) := dk_2 (dk_at dksX4_show_0 22 rfl rfl)
theorem dX4_show_23 : decode cX4_show 23 = .ok (.invokevirtual 97, 3) := dk_182 0 97 (dk_at dksX4_show_1 0 rfl rfl)
theorem dX4_show_26 : decode cX4_show 26 = .ok (.ireturn, 1) := dk_172 (dk_at dksX4_show_1 3 rfl rfl)
theorem dX4_show_27 : decode cX4_show 27 = .ok (.aload_n 0, 1) := dk_42 (dk_at dksX4_show_1 4 rfl rfl)
theorem dX4_show_28 : decode cX4_show 28 = .ok (.getfield 47, 3) := dk_180 0 47 (dk_at dksX4_show_1 5 rfl rfl)
theorem dX4_show_31 : decode cX4_show 31 = .ok (.iload_n 1, 1) := dk_27 (dk_at dksX4_show_1 8 rfl rfl)
theorem dX4_show_32 : decode cX4_show 32 = .ok (.iload_n 2, 1) := dk_28 (dk_at dksX4_show_1 9 rfl rfl)
theorem dX4_show_33 : decode cX4_show 33 = .ok (.iconst (-1), 1) := dk_2 (dk_at dksX4_show_1 10 rfl rfl)
theorem dX4_show_34 : decode cX4_show 34 = .ok (.if_icmp .ne 7, 3) := dk_160 0 7 (dk_at dksX4_show_1 11 rfl rfl)
theorem dX4_show_37 : decode cX4_show 37 = .ok (.iconst 0, 1) := dk_3 (dk_at dksX4_show_1 14 rfl rfl)
theorem dX4_show_38 : decode cX4_show 38 = .ok (.goto 4, 3) := dk_167 0 4 (dk_at dksX4_show_1 15 rfl rfl)
theorem dX4_show_41 : decode cX4_show 41 = .ok (.iconst 2, 1) := dk_5 (dk_at dksX4_show_1 18 rfl rfl)
theorem dX4_show_42 : decode cX4_show 42 = .ok (.iastore, 1) := dk_79 (dk_at dksX4_show_1 19 rfl rfl)
theorem dX4_show_43 : decode cX4_show 43 = .ok (.aload_n 0, 1) := dk_42 (dk_at dksX4_show_1 20 rfl rfl)
theorem dX4_show_44 : decode cX4_show 44 = .ok (.getfield 56, 3) := dk_180 0 56 (dk_at dksX4_show_1 21 rfl rfl)
theorem dX4_show_47 : decode cX4_show 47 = .ok (.iload_n 1, 1) := dk_27 (dk_at dksX4_show_2 0 rfl rfl)
theorem dX4_show_48 : decode cX4_show 48 = .ok (.iload_n 2, 1) := dk_28 (dk_at dksX4_show_2 1 rfl rfl)
theorem dX4_show_49 : decode cX4_show 49 = .ok (.iastore, 1) := dk_79 (dk_at dksX4_show_2 2 rfl rfl)
theorem dX4_show_50 : decode cX4_show 50 = .ok (.iload_n 2, 1) := dk_28 (dk_at dksX4_show_2 3 rfl rfl)
theorem dX4_show_51 : decode cX4_show 51 = .ok (.iconst (-1), 1) := dk_2 (dk_at dksX4_show_2 4 rfl rfl)
theorem dX4_show_52 : decode cX4_show 52 = .ok (.if_icmp .ne 7, 3) := dk_160 0 7 (dk_at dksX4_show_2 5 rfl rfl)
theorem dX4_show_55 : decode cX4_show 55 = .ok (.iconst 0, 1) := dk_3 (dk_at dksX4_show_2 8 rfl rfl)
theorem dX4_show_56 : decode cX4_show 56 = .ok (.goto 4, 3) := dk_167 0 4 (dk_at dksX4_show_2 9 rfl rfl)
theorem dX4_show_59 : decode cX4_show 59 = .ok (.iconst 1, 1) := dk_4 (dk_at dksX4_show_2 12 rfl rfl)
theorem dX4_show_60 : decode cX4_show 60 = .ok (.ireturn, 1) := dk_172 (dk_at dksX4_show_2 13 rfl rfl)
abbrev cX4_isThing : ByteArray := prog_21_method_6_code
def yX4_isThing : MethodName := ⟨RX4, "isThing", "(I)Z"⟩
def dkwX4_isThing_0 : List UInt8 := [27, 155, 0, 15, 27, 42, 180, 0, 84, 162, 0, 7, 4, 167, 0, 4, 3, 172]
abbrev dktX4_isThing_0 : List UInt8 := dkwX4_isThing_0 ++ []
theorem dksX4_isThing_0 : cX4_isThing.data.toList.drop 0 = dktX4_isThing_0 := by decide +kernel
theorem dX4_isThing_0 : decode cX4_isThing 0 = .ok (.iload_n 1, 1) := dk_27 (dk_at dksX4_isThing_0 0 rfl rfl)
theorem dX4_isThing_1 : decode cX4_isThing 1 = .ok (.ifCond .lt 15, 3) := dk_155 0 15 (dk_at dksX4_isThing_0 1 rfl rfl)
theorem dX4_isThing_4 : decode cX4_isThing 4 = .ok (.iload_n 1, 1) := dk_27 (dk_at dksX4_isThing_0 4 rfl rfl)
theorem dX4_isThing_5 : decode cX4_isThing 5 = .ok (.aload_n 0, 1) := dk_42 (dk_at dksX4_isThing_0 5 rfl rfl)
theorem dX4_isThing_6 : decode cX4_isThing 6 = .ok (.getfield 84, 3) := dk_180 0 84 (dk_at dksX4_isThing_0 6 rfl rfl)
theorem dX4_isThing_9 : decode cX4_isThing 9 = .ok (.if_icmp .ge 7, 3) := dk_162 0 7 (dk_at dksX4_isThing_0 9 rfl rfl)
theorem dX4_isThing_12 : decode cX4_isThing 12 = .ok (.iconst 1, 1) := dk_4 (dk_at dksX4_isThing_0 12 rfl rfl)
theorem dX4_isThing_13 : decode cX4_isThing 13 = .ok (.goto 4, 3) := dk_167 0 4 (dk_at dksX4_isThing_0 13 rfl rfl)
theorem dX4_isThing_16 : decode cX4_isThing 16 = .ok (.iconst 0, 1) := dk_3 (dk_at dksX4_isThing_0 16 rfl rfl)
theorem dX4_isThing_17 : decode cX4_isThing 17 = .ok (.ireturn, 1) := dk_172 (dk_at dksX4_isThing_0 17 rfl rfl)
abbrev cX4_holds : ByteArray := prog_21_method_15_code
def yX4_holds : MethodName := ⟨RX4, "holds", "(I)I"⟩
def dkwX4_holds_1 : List UInt8 := [46, 4, 160, 0, 15, 16, 100, 42, 180, 0, 50, 27, 46, 96, 167, 0, 9, 42, 180, 0, 56, 27, 46, 172]
abbrev dktX4_holds_1 : List UInt8 := dkwX4_holds_1 ++ []
def dkwX4_holds_0 : List UInt8 := [42, 27, 182, 0, 94, 153, 0, 12, 42, 180, 0, 47, 27, 46, 154, 0, 5, 2, 172, 42, 180, 0, 47, 27]
abbrev dktX4_holds_0 : List UInt8 := dkwX4_holds_0 ++ dktX4_holds_1
theorem dksX4_holds_0 : cX4_holds.data.toList.drop 0 = dktX4_holds_0 := by decide +kernel
theorem dksX4_holds_1 : cX4_holds.data.toList.drop 24 = dktX4_holds_1 := dk_seg dksX4_holds_0 24 rfl rfl
theorem dX4_holds_0 : decode cX4_holds 0 = .ok (.aload_n 0, 1) := dk_42 (dk_at dksX4_holds_0 0 rfl rfl)
theorem dX4_holds_1 : decode cX4_holds 1 = .ok (.iload_n 1, 1) := dk_27 (dk_at dksX4_holds_0 1 rfl rfl)
theorem dX4_holds_2 : decode cX4_holds 2 = .ok (.invokevirtual 94, 3) := dk_182 0 94 (dk_at dksX4_holds_0 2 rfl rfl)
theorem dX4_holds_5 : decode cX4_holds 5 = .ok (.ifCond .eq 12, 3) := dk_153 0 12 (dk_at dksX4_holds_0 5 rfl rfl)
theorem dX4_holds_8 : decode cX4_holds 8 = .ok (.aload_n 0, 1) := dk_42 (dk_at dksX4_holds_0 8 rfl rfl)
theorem dX4_holds_9 : decode cX4_holds 9 = .ok (.getfield 47, 3) := dk_180 0 47 (dk_at dksX4_holds_0 9 rfl rfl)
theorem dX4_holds_12 : decode cX4_holds 12 = .ok (.iload_n 1, 1) := dk_27 (dk_at dksX4_holds_0 12 rfl rfl)
theorem dX4_holds_13 : decode cX4_holds 13 = .ok (.iaload, 1) := dk_46 (dk_at dksX4_holds_0 13 rfl rfl)
theorem dX4_holds_14 : decode cX4_holds 14 = .ok (.ifCond .ne 5, 3) := dk_154 0 5 (dk_at dksX4_holds_0 14 rfl rfl)
theorem dX4_holds_17 : decode cX4_holds 17 = .ok (.iconst (-1), 1) := dk_2 (dk_at dksX4_holds_0 17 rfl rfl)
theorem dX4_holds_18 : decode cX4_holds 18 = .ok (.ireturn, 1) := dk_172 (dk_at dksX4_holds_0 18 rfl rfl)
theorem dX4_holds_19 : decode cX4_holds 19 = .ok (.aload_n 0, 1) := dk_42 (dk_at dksX4_holds_0 19 rfl rfl)
theorem dX4_holds_20 : decode cX4_holds 20 = .ok (.getfield 47, 3) := dk_180 0 47 (dk_at dksX4_holds_0 20 rfl rfl)
theorem dX4_holds_23 : decode cX4_holds 23 = .ok (.iload_n 1, 1) := dk_27 (dk_at dksX4_holds_0 23 rfl rfl)
theorem dX4_holds_24 : decode cX4_holds 24 = .ok (.iaload, 1) := dk_46 (dk_at dksX4_holds_1 0 rfl rfl)
theorem dX4_holds_25 : decode cX4_holds 25 = .ok (.iconst 1, 1) := dk_4 (dk_at dksX4_holds_1 1 rfl rfl)
theorem dX4_holds_26 : decode cX4_holds 26 = .ok (.if_icmp .ne 15, 3) := dk_160 0 15 (dk_at dksX4_holds_1 2 rfl rfl)
theorem dX4_holds_29 : decode cX4_holds 29 = .ok (.bipush 100, 2) := dk_16 100 (dk_at dksX4_holds_1 5 rfl rfl)
theorem dX4_holds_31 : decode cX4_holds 31 = .ok (.aload_n 0, 1) := dk_42 (dk_at dksX4_holds_1 7 rfl rfl)
theorem dX4_holds_32 : decode cX4_holds 32 = .ok (.getfield 50, 3) := dk_180 0 50 (dk_at dksX4_holds_1 8 rfl rfl)
theorem dX4_holds_35 : decode cX4_holds 35 = .ok (.iload_n 1, 1) := dk_27 (dk_at dksX4_holds_1 11 rfl rfl)
theorem dX4_holds_36 : decode cX4_holds 36 = .ok (.iaload, 1) := dk_46 (dk_at dksX4_holds_1 12 rfl rfl)
theorem dX4_holds_37 : decode cX4_holds 37 = .ok (.iadd, 1) := dk_96 (dk_at dksX4_holds_1 13 rfl rfl)
theorem dX4_holds_38 : decode cX4_holds 38 = .ok (.goto 9, 3) := dk_167 0 9 (dk_at dksX4_holds_1 14 rfl rfl)
theorem dX4_holds_41 : decode cX4_holds 41 = .ok (.aload_n 0, 1) := dk_42 (dk_at dksX4_holds_1 17 rfl rfl)
theorem dX4_holds_42 : decode cX4_holds 42 = .ok (.getfield 56, 3) := dk_180 0 56 (dk_at dksX4_holds_1 18 rfl rfl)
theorem dX4_holds_45 : decode cX4_holds 45 = .ok (.iload_n 1, 1) := dk_27 (dk_at dksX4_holds_1 21 rfl rfl)
theorem dX4_holds_46 : decode cX4_holds 46 = .ok (.iaload, 1) := dk_46 (dk_at dksX4_holds_1 22 rfl rfl)
theorem dX4_holds_47 : decode cX4_holds 47 = .ok (.ireturn, 1) := dk_172 (dk_at dksX4_holds_1 23 rfl rfl)
abbrev cX4_says : ByteArray := prog_21_method_16_code
def yX4_says : MethodName := ⟨RX4, "says", "(II)I"⟩
def dkwX4_says_9 : List UInt8 := [180, 0, 38, 29, 46, 172]
abbrev dktX4_says_9 : List UInt8 := dkwX4_says_9 ++ []
def dkwX4_says_8 : List UInt8 := [172, 42, 29, 182, 0, 110, 172, 42, 29, 182, 0, 113, 153, 0, 7, 4, 167, 0, 4, 3, 172, 3, 172, 42]
abbrev dktX4_says_8 : List UInt8 := dkwX4_says_8 ++ dktX4_says_9
def dkwX4_says_7 : List UInt8 := [180, 0, 35, 29, 46, 164, 0, 18, 42, 29, 182, 0, 101, 42, 180, 0, 35, 29, 46, 100, 167, 0, 4, 3]
abbrev dktX4_says_7 : List UInt8 := dkwX4_says_7 ++ dktX4_says_8
def dkwX4_says_6 : List UInt8 := [42, 29, 182, 0, 101, 172, 42, 42, 29, 182, 0, 104, 182, 0, 107, 172, 42, 29, 182, 0, 101, 42]
abbrev dktX4_says_6 : List UInt8 := dkwX4_says_6 ++ dktX4_says_7
def dkwX4_says_5 : List UInt8 := [170, 0, 0, 0, 106, 0, 0, 0, 0, 0, 0, 0, 5, 0, 0, 0, 37, 0, 0, 0, 43, 0, 0, 0, 53, 0, 0, 0, 84, 0, 0, 0, 90, 0, 0, 0, 104]
abbrev dktX4_says_5 : List UInt8 := dkwX4_says_5 ++ dktX4_says_6
def dkwX4_says_4 : List UInt8 := [154, 0, 22, 28, 5, 160, 0, 10, 21, 4, 16, 6, 159, 0, 10, 42, 16, 254, 182, 0, 97, 172, 28]
abbrev dktX4_says_4 : List UInt8 := dkwX4_says_4 ++ dktX4_says_5
def dkwX4_says_3 : List UInt8 := [54, 4, 28, 153, 0, 41, 28, 21, 4, 159, 0, 35, 28, 4, 160, 0, 11, 42, 29, 182, 0, 91]
abbrev dktX4_says_3 : List UInt8 := dkwX4_says_3 ++ dktX4_says_4
def dkwX4_says_2 : List UInt8 := [154, 0, 10, 42, 16, 253, 182, 0, 97, 172, 42, 180, 0, 56, 27, 46, 62, 42, 180, 0, 26, 29, 46]
abbrev dktX4_says_2 : List UInt8 := dkwX4_says_2 ++ dktX4_says_3
def dkwX4_says_1 : List UInt8 := [42, 180, 0, 47, 27, 46, 4, 160, 0, 10, 42, 16, 254, 182, 0, 97, 172, 42, 180, 0, 47, 27, 46]
abbrev dktX4_says_1 : List UInt8 := dkwX4_says_1 ++ dktX4_says_2
def dkwX4_says_0 : List UInt8 := [42, 27, 182, 0, 94, 153, 0, 13, 28, 155, 0, 9, 28, 16, 6, 164, 0, 9, 42, 2, 182, 0, 97, 172]
abbrev dktX4_says_0 : List UInt8 := dkwX4_says_0 ++ dktX4_says_1
theorem dksX4_says_0 : cX4_says.data.toList.drop 0 = dktX4_says_0 := by decide +kernel
theorem dksX4_says_1 : cX4_says.data.toList.drop 24 = dktX4_says_1 := dk_seg dksX4_says_0 24 rfl rfl
theorem dksX4_says_2 : cX4_says.data.toList.drop 47 = dktX4_says_2 := dk_seg dksX4_says_1 23 rfl rfl
theorem dksX4_says_3 : cX4_says.data.toList.drop 70 = dktX4_says_3 := dk_seg dksX4_says_2 23 rfl rfl
theorem dksX4_says_4 : cX4_says.data.toList.drop 92 = dktX4_says_4 := dk_seg dksX4_says_3 22 rfl rfl
theorem dksX4_says_5 : cX4_says.data.toList.drop 115 = dktX4_says_5 := dk_seg dksX4_says_4 23 rfl rfl
theorem dksX4_says_6 : cX4_says.data.toList.drop 152 = dktX4_says_6 := dk_seg dksX4_says_5 37 rfl rfl
theorem dksX4_says_7 : cX4_says.data.toList.drop 174 = dktX4_says_7 := dk_seg dksX4_says_6 22 rfl rfl
theorem dksX4_says_8 : cX4_says.data.toList.drop 198 = dktX4_says_8 := dk_seg dksX4_says_7 24 rfl rfl
theorem dksX4_says_9 : cX4_says.data.toList.drop 222 = dktX4_says_9 := dk_seg dksX4_says_8 24 rfl rfl
theorem dX4_says_0 : decode cX4_says 0 = .ok (.aload_n 0, 1) := dk_42 (dk_at dksX4_says_0 0 rfl rfl)
theorem dX4_says_1 : decode cX4_says 1 = .ok (.iload_n 1, 1) := dk_27 (dk_at dksX4_says_0 1 rfl rfl)
theorem dX4_says_2 : decode cX4_says 2 = .ok (.invokevirtual 94, 3) := dk_182 0 94 (dk_at dksX4_says_0 2 rfl rfl)
theorem dX4_says_5 : decode cX4_says 5 = .ok (.ifCond .eq 13, 3) := dk_153 0 13 (dk_at dksX4_says_0 5 rfl rfl)
theorem dX4_says_8 : decode cX4_says 8 = .ok (.iload_n 2, 1) := dk_28 (dk_at dksX4_says_0 8 rfl rfl)
theorem dX4_says_9 : decode cX4_says 9 = .ok (.ifCond .lt 9, 3) := dk_155 0 9 (dk_at dksX4_says_0 9 rfl rfl)
theorem dX4_says_12 : decode cX4_says 12 = .ok (.iload_n 2, 1) := dk_28 (dk_at dksX4_says_0 12 rfl rfl)
theorem dX4_says_13 : decode cX4_says 13 = .ok (.bipush 6, 2) := dk_16 6 (dk_at dksX4_says_0 13 rfl rfl)
theorem dX4_says_15 : decode cX4_says 15 = .ok (.if_icmp .le 9, 3) := dk_164 0 9 (dk_at dksX4_says_0 15 rfl rfl)
theorem dX4_says_18 : decode cX4_says 18 = .ok (.aload_n 0, 1) := dk_42 (dk_at dksX4_says_0 18 rfl rfl)
theorem dX4_says_19 : decode cX4_says 19 = .ok (.iconst (-1), 1) := dk_2 (dk_at dksX4_says_0 19 rfl rfl)
theorem dX4_says_20 : decode cX4_says 20 = .ok (.invokevirtual 97, 3) := dk_182 0 97 (dk_at dksX4_says_0 20 rfl rfl)
theorem dX4_says_23 : decode cX4_says 23 = .ok (.ireturn, 1) := dk_172 (dk_at dksX4_says_0 23 rfl rfl)
theorem dX4_says_24 : decode cX4_says 24 = .ok (.aload_n 0, 1) := dk_42 (dk_at dksX4_says_1 0 rfl rfl)
theorem dX4_says_25 : decode cX4_says 25 = .ok (.getfield 47, 3) := dk_180 0 47 (dk_at dksX4_says_1 1 rfl rfl)
theorem dX4_says_28 : decode cX4_says 28 = .ok (.iload_n 1, 1) := dk_27 (dk_at dksX4_says_1 4 rfl rfl)
theorem dX4_says_29 : decode cX4_says 29 = .ok (.iaload, 1) := dk_46 (dk_at dksX4_says_1 5 rfl rfl)
theorem dX4_says_30 : decode cX4_says 30 = .ok (.iconst 1, 1) := dk_4 (dk_at dksX4_says_1 6 rfl rfl)
theorem dX4_says_31 : decode cX4_says 31 = .ok (.if_icmp .ne 10, 3) := dk_160 0 10 (dk_at dksX4_says_1 7 rfl rfl)
theorem dX4_says_34 : decode cX4_says 34 = .ok (.aload_n 0, 1) := dk_42 (dk_at dksX4_says_1 10 rfl rfl)
theorem dX4_says_35 : decode cX4_says 35 = .ok (.bipush (-2), 2) := dk_16 254 (dk_at dksX4_says_1 11 rfl rfl)
theorem dX4_says_37 : decode cX4_says 37 = .ok (.invokevirtual 97, 3) := dk_182 0 97 (dk_at dksX4_says_1 13 rfl rfl)
theorem dX4_says_40 : decode cX4_says 40 = .ok (.ireturn, 1) := dk_172 (dk_at dksX4_says_1 16 rfl rfl)
theorem dX4_says_41 : decode cX4_says 41 = .ok (.aload_n 0, 1) := dk_42 (dk_at dksX4_says_1 17 rfl rfl)
theorem dX4_says_42 : decode cX4_says 42 = .ok (.getfield 47, 3) := dk_180 0 47 (dk_at dksX4_says_1 18 rfl rfl)
theorem dX4_says_45 : decode cX4_says 45 = .ok (.iload_n 1, 1) := dk_27 (dk_at dksX4_says_1 21 rfl rfl)
theorem dX4_says_46 : decode cX4_says 46 = .ok (.iaload, 1) := dk_46 (dk_at dksX4_says_1 22 rfl rfl)
theorem dX4_says_47 : decode cX4_says 47 = .ok (.ifCond .ne 10, 3) := dk_154 0 10 (dk_at dksX4_says_2 0 rfl rfl)
theorem dX4_says_50 : decode cX4_says 50 = .ok (.aload_n 0, 1) := dk_42 (dk_at dksX4_says_2 3 rfl rfl)
theorem dX4_says_51 : decode cX4_says 51 = .ok (.bipush (-3), 2) := dk_16 253 (dk_at dksX4_says_2 4 rfl rfl)
theorem dX4_says_53 : decode cX4_says 53 = .ok (.invokevirtual 97, 3) := dk_182 0 97 (dk_at dksX4_says_2 6 rfl rfl)
theorem dX4_says_56 : decode cX4_says 56 = .ok (.ireturn, 1) := dk_172 (dk_at dksX4_says_2 9 rfl rfl)
theorem dX4_says_57 : decode cX4_says 57 = .ok (.aload_n 0, 1) := dk_42 (dk_at dksX4_says_2 10 rfl rfl)
theorem dX4_says_58 : decode cX4_says 58 = .ok (.getfield 56, 3) := dk_180 0 56 (dk_at dksX4_says_2 11 rfl rfl)
theorem dX4_says_61 : decode cX4_says 61 = .ok (.iload_n 1, 1) := dk_27 (dk_at dksX4_says_2 14 rfl rfl)
theorem dX4_says_62 : decode cX4_says 62 = .ok (.iaload, 1) := dk_46 (dk_at dksX4_says_2 15 rfl rfl)
theorem dX4_says_63 : decode cX4_says 63 = .ok (.istore_n 3, 1) := dk_62 (dk_at dksX4_says_2 16 rfl rfl)
theorem dX4_says_64 : decode cX4_says 64 = .ok (.aload_n 0, 1) := dk_42 (dk_at dksX4_says_2 17 rfl rfl)
theorem dX4_says_65 : decode cX4_says 65 = .ok (.getfield 26, 3) := dk_180 0 26 (dk_at dksX4_says_2 18 rfl rfl)
theorem dX4_says_68 : decode cX4_says 68 = .ok (.iload_n 3, 1) := dk_29 (dk_at dksX4_says_2 21 rfl rfl)
theorem dX4_says_69 : decode cX4_says 69 = .ok (.iaload, 1) := dk_46 (dk_at dksX4_says_2 22 rfl rfl)
theorem dX4_says_70 : decode cX4_says 70 = .ok (.istore 4, 2) := dk_54 4 (dk_at dksX4_says_3 0 rfl rfl)
theorem dX4_says_72 : decode cX4_says 72 = .ok (.iload_n 2, 1) := dk_28 (dk_at dksX4_says_3 2 rfl rfl)
theorem dX4_says_73 : decode cX4_says 73 = .ok (.ifCond .eq 41, 3) := dk_153 0 41 (dk_at dksX4_says_3 3 rfl rfl)
theorem dX4_says_76 : decode cX4_says 76 = .ok (.iload_n 2, 1) := dk_28 (dk_at dksX4_says_3 6 rfl rfl)
theorem dX4_says_77 : decode cX4_says 77 = .ok (.iload 4, 2) := dk_21 4 (dk_at dksX4_says_3 7 rfl rfl)
theorem dX4_says_79 : decode cX4_says 79 = .ok (.if_icmp .eq 35, 3) := dk_159 0 35 (dk_at dksX4_says_3 9 rfl rfl)
theorem dX4_says_82 : decode cX4_says 82 = .ok (.iload_n 2, 1) := dk_28 (dk_at dksX4_says_3 12 rfl rfl)
theorem dX4_says_83 : decode cX4_says 83 = .ok (.iconst 1, 1) := dk_4 (dk_at dksX4_says_3 13 rfl rfl)
theorem dX4_says_84 : decode cX4_says 84 = .ok (.if_icmp .ne 11, 3) := dk_160 0 11 (dk_at dksX4_says_3 14 rfl rfl)
theorem dX4_says_87 : decode cX4_says 87 = .ok (.aload_n 0, 1) := dk_42 (dk_at dksX4_says_3 17 rfl rfl)
theorem dX4_says_88 : decode cX4_says 88 = .ok (.iload_n 3, 1) := dk_29 (dk_at dksX4_says_3 18 rfl rfl)
theorem dX4_says_89 : decode cX4_says 89 = .ok (.invokevirtual 91, 3) := dk_182 0 91 (dk_at dksX4_says_3 19 rfl rfl)
theorem dX4_says_92 : decode cX4_says 92 = .ok (.ifCond .ne 22, 3) := dk_154 0 22 (dk_at dksX4_says_4 0 rfl rfl)
theorem dX4_says_95 : decode cX4_says 95 = .ok (.iload_n 2, 1) := dk_28 (dk_at dksX4_says_4 3 rfl rfl)
theorem dX4_says_96 : decode cX4_says 96 = .ok (.iconst 2, 1) := dk_5 (dk_at dksX4_says_4 4 rfl rfl)
theorem dX4_says_97 : decode cX4_says 97 = .ok (.if_icmp .ne 10, 3) := dk_160 0 10 (dk_at dksX4_says_4 5 rfl rfl)
theorem dX4_says_100 : decode cX4_says 100 = .ok (.iload 4, 2) := dk_21 4 (dk_at dksX4_says_4 8 rfl rfl)
theorem dX4_says_102 : decode cX4_says 102 = .ok (.bipush 6, 2) := dk_16 6 (dk_at dksX4_says_4 10 rfl rfl)
theorem dX4_says_104 : decode cX4_says 104 = .ok (.if_icmp .eq 10, 3) := dk_159 0 10 (dk_at dksX4_says_4 12 rfl rfl)
theorem dX4_says_107 : decode cX4_says 107 = .ok (.aload_n 0, 1) := dk_42 (dk_at dksX4_says_4 15 rfl rfl)
theorem dX4_says_108 : decode cX4_says 108 = .ok (.bipush (-2), 2) := dk_16 254 (dk_at dksX4_says_4 16 rfl rfl)
theorem dX4_says_110 : decode cX4_says 110 = .ok (.invokevirtual 97, 3) := dk_182 0 97 (dk_at dksX4_says_4 18 rfl rfl)
theorem dX4_says_113 : decode cX4_says 113 = .ok (.ireturn, 1) := dk_172 (dk_at dksX4_says_4 21 rfl rfl)
theorem dX4_says_114 : decode cX4_says 114 = .ok (.iload_n 2, 1) := dk_28 (dk_at dksX4_says_4 22 rfl rfl)
theorem dX4_says_115 : decode cX4_says 115 = .ok (.tableswitch 106 0 5 #[37, 43, 53, 84, 90, 104], 37) := by decide +kernel
theorem dX4_says_152 : decode cX4_says 152 = .ok (.aload_n 0, 1) := dk_42 (dk_at dksX4_says_6 0 rfl rfl)
theorem dX4_says_153 : decode cX4_says 153 = .ok (.iload_n 3, 1) := dk_29 (dk_at dksX4_says_6 1 rfl rfl)
theorem dX4_says_154 : decode cX4_says 154 = .ok (.invokevirtual 101, 3) := dk_182 0 101 (dk_at dksX4_says_6 2 rfl rfl)
theorem dX4_says_157 : decode cX4_says 157 = .ok (.ireturn, 1) := dk_172 (dk_at dksX4_says_6 5 rfl rfl)
theorem dX4_says_158 : decode cX4_says 158 = .ok (.aload_n 0, 1) := dk_42 (dk_at dksX4_says_6 6 rfl rfl)
theorem dX4_says_159 : decode cX4_says 159 = .ok (.aload_n 0, 1) := dk_42 (dk_at dksX4_says_6 7 rfl rfl)
theorem dX4_says_160 : decode cX4_says 160 = .ok (.iload_n 3, 1) := dk_29 (dk_at dksX4_says_6 8 rfl rfl)
theorem dX4_says_161 : decode cX4_says 161 = .ok (.invokevirtual 104, 3) := dk_182 0 104 (dk_at dksX4_says_6 9 rfl rfl)
theorem dX4_says_164 : decode cX4_says 164 = .ok (.invokevirtual 107, 3) := dk_182 0 107 (dk_at dksX4_says_6 12 rfl rfl)
theorem dX4_says_167 : decode cX4_says 167 = .ok (.ireturn, 1) := dk_172 (dk_at dksX4_says_6 15 rfl rfl)
theorem dX4_says_168 : decode cX4_says 168 = .ok (.aload_n 0, 1) := dk_42 (dk_at dksX4_says_6 16 rfl rfl)
theorem dX4_says_169 : decode cX4_says 169 = .ok (.iload_n 3, 1) := dk_29 (dk_at dksX4_says_6 17 rfl rfl)
theorem dX4_says_170 : decode cX4_says 170 = .ok (.invokevirtual 101, 3) := dk_182 0 101 (dk_at dksX4_says_6 18 rfl rfl)
theorem dX4_says_173 : decode cX4_says 173 = .ok (.aload_n 0, 1) := dk_42 (dk_at dksX4_says_6 21 rfl rfl)
theorem dX4_says_174 : decode cX4_says 174 = .ok (.getfield 35, 3) := dk_180 0 35 (dk_at dksX4_says_7 0 rfl rfl)
theorem dX4_says_177 : decode cX4_says 177 = .ok (.iload_n 3, 1) := dk_29 (dk_at dksX4_says_7 3 rfl rfl)
theorem dX4_says_178 : decode cX4_says 178 = .ok (.iaload, 1) := dk_46 (dk_at dksX4_says_7 4 rfl rfl)
theorem dX4_says_179 : decode cX4_says 179 = .ok (.if_icmp .le 18, 3) := dk_164 0 18 (dk_at dksX4_says_7 5 rfl rfl)
theorem dX4_says_182 : decode cX4_says 182 = .ok (.aload_n 0, 1) := dk_42 (dk_at dksX4_says_7 8 rfl rfl)
theorem dX4_says_183 : decode cX4_says 183 = .ok (.iload_n 3, 1) := dk_29 (dk_at dksX4_says_7 9 rfl rfl)
theorem dX4_says_184 : decode cX4_says 184 = .ok (.invokevirtual 101, 3) := dk_182 0 101 (dk_at dksX4_says_7 10 rfl rfl)
theorem dX4_says_187 : decode cX4_says 187 = .ok (.aload_n 0, 1) := dk_42 (dk_at dksX4_says_7 13 rfl rfl)
theorem dX4_says_188 : decode cX4_says 188 = .ok (.getfield 35, 3) := dk_180 0 35 (dk_at dksX4_says_7 14 rfl rfl)
theorem dX4_says_191 : decode cX4_says 191 = .ok (.iload_n 3, 1) := dk_29 (dk_at dksX4_says_7 17 rfl rfl)
theorem dX4_says_192 : decode cX4_says 192 = .ok (.iaload, 1) := dk_46 (dk_at dksX4_says_7 18 rfl rfl)
theorem dX4_says_193 : decode cX4_says 193 = .ok (.isub, 1) := dk_100 (dk_at dksX4_says_7 19 rfl rfl)
theorem dX4_says_194 : decode cX4_says 194 = .ok (.goto 4, 3) := dk_167 0 4 (dk_at dksX4_says_7 20 rfl rfl)
theorem dX4_says_197 : decode cX4_says 197 = .ok (.iconst 0, 1) := dk_3 (dk_at dksX4_says_7 23 rfl rfl)
theorem dX4_says_198 : decode cX4_says 198 = .ok (.ireturn, 1) := dk_172 (dk_at dksX4_says_8 0 rfl rfl)
theorem dX4_says_199 : decode cX4_says 199 = .ok (.aload_n 0, 1) := dk_42 (dk_at dksX4_says_8 1 rfl rfl)
theorem dX4_says_200 : decode cX4_says 200 = .ok (.iload_n 3, 1) := dk_29 (dk_at dksX4_says_8 2 rfl rfl)
theorem dX4_says_201 : decode cX4_says 201 = .ok (.invokevirtual 110, 3) := dk_182 0 110 (dk_at dksX4_says_8 3 rfl rfl)
theorem dX4_says_204 : decode cX4_says 204 = .ok (.ireturn, 1) := dk_172 (dk_at dksX4_says_8 6 rfl rfl)
theorem dX4_says_205 : decode cX4_says 205 = .ok (.aload_n 0, 1) := dk_42 (dk_at dksX4_says_8 7 rfl rfl)
theorem dX4_says_206 : decode cX4_says 206 = .ok (.iload_n 3, 1) := dk_29 (dk_at dksX4_says_8 8 rfl rfl)
theorem dX4_says_207 : decode cX4_says 207 = .ok (.invokevirtual 113, 3) := dk_182 0 113 (dk_at dksX4_says_8 9 rfl rfl)
theorem dX4_says_210 : decode cX4_says 210 = .ok (.ifCond .eq 7, 3) := dk_153 0 7 (dk_at dksX4_says_8 12 rfl rfl)
theorem dX4_says_213 : decode cX4_says 213 = .ok (.iconst 1, 1) := dk_4 (dk_at dksX4_says_8 15 rfl rfl)
theorem dX4_says_214 : decode cX4_says 214 = .ok (.goto 4, 3) := dk_167 0 4 (dk_at dksX4_says_8 16 rfl rfl)
theorem dX4_says_217 : decode cX4_says 217 = .ok (.iconst 0, 1) := dk_3 (dk_at dksX4_says_8 19 rfl rfl)
theorem dX4_says_218 : decode cX4_says 218 = .ok (.ireturn, 1) := dk_172 (dk_at dksX4_says_8 20 rfl rfl)
theorem dX4_says_219 : decode cX4_says 219 = .ok (.iconst 0, 1) := dk_3 (dk_at dksX4_says_8 21 rfl rfl)
theorem dX4_says_220 : decode cX4_says 220 = .ok (.ireturn, 1) := dk_172 (dk_at dksX4_says_8 22 rfl rfl)
theorem dX4_says_221 : decode cX4_says 221 = .ok (.aload_n 0, 1) := dk_42 (dk_at dksX4_says_8 23 rfl rfl)
theorem dX4_says_222 : decode cX4_says 222 = .ok (.getfield 38, 3) := dk_180 0 38 (dk_at dksX4_says_9 0 rfl rfl)
theorem dX4_says_225 : decode cX4_says 225 = .ok (.iload_n 3, 1) := dk_29 (dk_at dksX4_says_9 3 rfl rfl)
theorem dX4_says_226 : decode cX4_says 226 = .ok (.iaload, 1) := dk_46 (dk_at dksX4_says_9 4 rfl rfl)
theorem dX4_says_227 : decode cX4_says 227 = .ok (.ireturn, 1) := dk_172 (dk_at dksX4_says_9 5 rfl rfl)
abbrev cX4_isHouse : ByteArray := prog_21_method_7_code
def yX4_isHouse : MethodName := ⟨RX4, "isHouse", "(I)Z"⟩
def dkwX4_isHouse_1 : List UInt8 := [46, 16, 6, 159, 0, 7, 4, 167, 0, 4, 3, 172]
abbrev dktX4_isHouse_1 : List UInt8 := dkwX4_isHouse_1 ++ []
def dkwX4_isHouse_0 : List UInt8 := [42, 180, 0, 26, 27, 46, 153, 0, 28, 42, 180, 0, 26, 27, 46, 5, 159, 0, 18, 42, 180, 0, 26, 27]
abbrev dktX4_isHouse_0 : List UInt8 := dkwX4_isHouse_0 ++ dktX4_isHouse_1
theorem dksX4_isHouse_0 : cX4_isHouse.data.toList.drop 0 = dktX4_isHouse_0 := by decide +kernel
theorem dksX4_isHouse_1 : cX4_isHouse.data.toList.drop 24 = dktX4_isHouse_1 := dk_seg dksX4_isHouse_0 24 rfl rfl
theorem dX4_isHouse_0 : decode cX4_isHouse 0 = .ok (.aload_n 0, 1) := dk_42 (dk_at dksX4_isHouse_0 0 rfl rfl)
theorem dX4_isHouse_1 : decode cX4_isHouse 1 = .ok (.getfield 26, 3) := dk_180 0 26 (dk_at dksX4_isHouse_0 1 rfl rfl)
theorem dX4_isHouse_4 : decode cX4_isHouse 4 = .ok (.iload_n 1, 1) := dk_27 (dk_at dksX4_isHouse_0 4 rfl rfl)
theorem dX4_isHouse_5 : decode cX4_isHouse 5 = .ok (.iaload, 1) := dk_46 (dk_at dksX4_isHouse_0 5 rfl rfl)
theorem dX4_isHouse_6 : decode cX4_isHouse 6 = .ok (.ifCond .eq 28, 3) := dk_153 0 28 (dk_at dksX4_isHouse_0 6 rfl rfl)
theorem dX4_isHouse_9 : decode cX4_isHouse 9 = .ok (.aload_n 0, 1) := dk_42 (dk_at dksX4_isHouse_0 9 rfl rfl)
theorem dX4_isHouse_10 : decode cX4_isHouse 10 = .ok (.getfield 26, 3) := dk_180 0 26 (dk_at dksX4_isHouse_0 10 rfl rfl)
theorem dX4_isHouse_13 : decode cX4_isHouse 13 = .ok (.iload_n 1, 1) := dk_27 (dk_at dksX4_isHouse_0 13 rfl rfl)
theorem dX4_isHouse_14 : decode cX4_isHouse 14 = .ok (.iaload, 1) := dk_46 (dk_at dksX4_isHouse_0 14 rfl rfl)
theorem dX4_isHouse_15 : decode cX4_isHouse 15 = .ok (.iconst 2, 1) := dk_5 (dk_at dksX4_isHouse_0 15 rfl rfl)
theorem dX4_isHouse_16 : decode cX4_isHouse 16 = .ok (.if_icmp .eq 18, 3) := dk_159 0 18 (dk_at dksX4_isHouse_0 16 rfl rfl)
theorem dX4_isHouse_19 : decode cX4_isHouse 19 = .ok (.aload_n 0, 1) := dk_42 (dk_at dksX4_isHouse_0 19 rfl rfl)
theorem dX4_isHouse_20 : decode cX4_isHouse 20 = .ok (.getfield 26, 3) := dk_180 0 26 (dk_at dksX4_isHouse_0 20 rfl rfl)
theorem dX4_isHouse_23 : decode cX4_isHouse 23 = .ok (.iload_n 1, 1) := dk_27 (dk_at dksX4_isHouse_0 23 rfl rfl)
theorem dX4_isHouse_24 : decode cX4_isHouse 24 = .ok (.iaload, 1) := dk_46 (dk_at dksX4_isHouse_1 0 rfl rfl)
theorem dX4_isHouse_25 : decode cX4_isHouse 25 = .ok (.bipush 6, 2) := dk_16 6 (dk_at dksX4_isHouse_1 1 rfl rfl)
theorem dX4_isHouse_27 : decode cX4_isHouse 27 = .ok (.if_icmp .eq 7, 3) := dk_159 0 7 (dk_at dksX4_isHouse_1 3 rfl rfl)
theorem dX4_isHouse_30 : decode cX4_isHouse 30 = .ok (.iconst 1, 1) := dk_4 (dk_at dksX4_isHouse_1 6 rfl rfl)
theorem dX4_isHouse_31 : decode cX4_isHouse 31 = .ok (.goto 4, 3) := dk_167 0 4 (dk_at dksX4_isHouse_1 7 rfl rfl)
theorem dX4_isHouse_34 : decode cX4_isHouse 34 = .ok (.iconst 0, 1) := dk_3 (dk_at dksX4_isHouse_1 10 rfl rfl)
theorem dX4_isHouse_35 : decode cX4_isHouse 35 = .ok (.ireturn, 1) := dk_172 (dk_at dksX4_isHouse_1 11 rfl rfl)
abbrev cX4_tall : ByteArray := prog_21_method_40_code
def yX4_tall : MethodName := ⟨RX4, "tall", "(I)I"⟩
def dkwX4_tall_2 : List UInt8 := [180, 0, 26, 27, 46, 5, 160, 0, 7, 3, 167, 0, 9, 42, 180, 0, 35, 27, 46, 172]
abbrev dktX4_tall_2 : List UInt8 := dkwX4_tall_2 ++ []
def dkwX4_tall_1 : List UInt8 := [180, 0, 7, 4, 160, 0, 17, 42, 180, 0, 35, 27, 46, 42, 180, 0, 38, 27, 46, 96, 172, 42]
abbrev dktX4_tall_1 : List UInt8 := dkwX4_tall_1 ++ dktX4_tall_2
def dkwX4_tall_0 : List UInt8 := [42, 180, 0, 26, 27, 46, 16, 6, 159, 0, 21, 42, 180, 0, 26, 27, 46, 5, 160, 0, 25, 42]
abbrev dktX4_tall_0 : List UInt8 := dkwX4_tall_0 ++ dktX4_tall_1
theorem dksX4_tall_0 : cX4_tall.data.toList.drop 0 = dktX4_tall_0 := by decide +kernel
theorem dksX4_tall_1 : cX4_tall.data.toList.drop 22 = dktX4_tall_1 := dk_seg dksX4_tall_0 22 rfl rfl
theorem dksX4_tall_2 : cX4_tall.data.toList.drop 44 = dktX4_tall_2 := dk_seg dksX4_tall_1 22 rfl rfl
theorem dX4_tall_0 : decode cX4_tall 0 = .ok (.aload_n 0, 1) := dk_42 (dk_at dksX4_tall_0 0 rfl rfl)
theorem dX4_tall_1 : decode cX4_tall 1 = .ok (.getfield 26, 3) := dk_180 0 26 (dk_at dksX4_tall_0 1 rfl rfl)
theorem dX4_tall_4 : decode cX4_tall 4 = .ok (.iload_n 1, 1) := dk_27 (dk_at dksX4_tall_0 4 rfl rfl)
theorem dX4_tall_5 : decode cX4_tall 5 = .ok (.iaload, 1) := dk_46 (dk_at dksX4_tall_0 5 rfl rfl)
theorem dX4_tall_6 : decode cX4_tall 6 = .ok (.bipush 6, 2) := dk_16 6 (dk_at dksX4_tall_0 6 rfl rfl)
theorem dX4_tall_8 : decode cX4_tall 8 = .ok (.if_icmp .eq 21, 3) := dk_159 0 21 (dk_at dksX4_tall_0 8 rfl rfl)
theorem dX4_tall_11 : decode cX4_tall 11 = .ok (.aload_n 0, 1) := dk_42 (dk_at dksX4_tall_0 11 rfl rfl)
theorem dX4_tall_12 : decode cX4_tall 12 = .ok (.getfield 26, 3) := dk_180 0 26 (dk_at dksX4_tall_0 12 rfl rfl)
theorem dX4_tall_15 : decode cX4_tall 15 = .ok (.iload_n 1, 1) := dk_27 (dk_at dksX4_tall_0 15 rfl rfl)
theorem dX4_tall_16 : decode cX4_tall 16 = .ok (.iaload, 1) := dk_46 (dk_at dksX4_tall_0 16 rfl rfl)
theorem dX4_tall_17 : decode cX4_tall 17 = .ok (.iconst 2, 1) := dk_5 (dk_at dksX4_tall_0 17 rfl rfl)
theorem dX4_tall_18 : decode cX4_tall 18 = .ok (.if_icmp .ne 25, 3) := dk_160 0 25 (dk_at dksX4_tall_0 18 rfl rfl)
theorem dX4_tall_21 : decode cX4_tall 21 = .ok (.aload_n 0, 1) := dk_42 (dk_at dksX4_tall_0 21 rfl rfl)
theorem dX4_tall_22 : decode cX4_tall 22 = .ok (.getfield 7, 3) := dk_180 0 7 (dk_at dksX4_tall_1 0 rfl rfl)
theorem dX4_tall_25 : decode cX4_tall 25 = .ok (.iconst 1, 1) := dk_4 (dk_at dksX4_tall_1 3 rfl rfl)
theorem dX4_tall_26 : decode cX4_tall 26 = .ok (.if_icmp .ne 17, 3) := dk_160 0 17 (dk_at dksX4_tall_1 4 rfl rfl)
theorem dX4_tall_29 : decode cX4_tall 29 = .ok (.aload_n 0, 1) := dk_42 (dk_at dksX4_tall_1 7 rfl rfl)
theorem dX4_tall_30 : decode cX4_tall 30 = .ok (.getfield 35, 3) := dk_180 0 35 (dk_at dksX4_tall_1 8 rfl rfl)
theorem dX4_tall_33 : decode cX4_tall 33 = .ok (.iload_n 1, 1) := dk_27 (dk_at dksX4_tall_1 11 rfl rfl)
theorem dX4_tall_34 : decode cX4_tall 34 = .ok (.iaload, 1) := dk_46 (dk_at dksX4_tall_1 12 rfl rfl)
theorem dX4_tall_35 : decode cX4_tall 35 = .ok (.aload_n 0, 1) := dk_42 (dk_at dksX4_tall_1 13 rfl rfl)
theorem dX4_tall_36 : decode cX4_tall 36 = .ok (.getfield 38, 3) := dk_180 0 38 (dk_at dksX4_tall_1 14 rfl rfl)
theorem dX4_tall_39 : decode cX4_tall 39 = .ok (.iload_n 1, 1) := dk_27 (dk_at dksX4_tall_1 17 rfl rfl)
theorem dX4_tall_40 : decode cX4_tall 40 = .ok (.iaload, 1) := dk_46 (dk_at dksX4_tall_1 18 rfl rfl)
theorem dX4_tall_41 : decode cX4_tall 41 = .ok (.iadd, 1) := dk_96 (dk_at dksX4_tall_1 19 rfl rfl)
theorem dX4_tall_42 : decode cX4_tall 42 = .ok (.ireturn, 1) := dk_172 (dk_at dksX4_tall_1 20 rfl rfl)
theorem dX4_tall_43 : decode cX4_tall 43 = .ok (.aload_n 0, 1) := dk_42 (dk_at dksX4_tall_1 21 rfl rfl)
theorem dX4_tall_44 : decode cX4_tall 44 = .ok (.getfield 26, 3) := dk_180 0 26 (dk_at dksX4_tall_2 0 rfl rfl)
theorem dX4_tall_47 : decode cX4_tall 47 = .ok (.iload_n 1, 1) := dk_27 (dk_at dksX4_tall_2 3 rfl rfl)
theorem dX4_tall_48 : decode cX4_tall 48 = .ok (.iaload, 1) := dk_46 (dk_at dksX4_tall_2 4 rfl rfl)
theorem dX4_tall_49 : decode cX4_tall 49 = .ok (.iconst 2, 1) := dk_5 (dk_at dksX4_tall_2 5 rfl rfl)
theorem dX4_tall_50 : decode cX4_tall 50 = .ok (.if_icmp .ne 7, 3) := dk_160 0 7 (dk_at dksX4_tall_2 6 rfl rfl)
theorem dX4_tall_53 : decode cX4_tall 53 = .ok (.iconst 0, 1) := dk_3 (dk_at dksX4_tall_2 9 rfl rfl)
theorem dX4_tall_54 : decode cX4_tall 54 = .ok (.goto 9, 3) := dk_167 0 9 (dk_at dksX4_tall_2 10 rfl rfl)
theorem dX4_tall_57 : decode cX4_tall 57 = .ok (.aload_n 0, 1) := dk_42 (dk_at dksX4_tall_2 13 rfl rfl)
theorem dX4_tall_58 : decode cX4_tall 58 = .ok (.getfield 35, 3) := dk_180 0 35 (dk_at dksX4_tall_2 14 rfl rfl)
theorem dX4_tall_61 : decode cX4_tall 61 = .ok (.iload_n 1, 1) := dk_27 (dk_at dksX4_tall_2 17 rfl rfl)
theorem dX4_tall_62 : decode cX4_tall 62 = .ok (.iaload, 1) := dk_46 (dk_at dksX4_tall_2 18 rfl rfl)
theorem dX4_tall_63 : decode cX4_tall 63 = .ok (.ireturn, 1) := dk_172 (dk_at dksX4_tall_2 19 rfl rfl)
abbrev cX4_seersOf : ByteArray := prog_21_method_49_code
def yX4_seersOf : MethodName := ⟨RX4, "seersOf", "(I)I"⟩
def dkwX4_seersOf_1 : List UInt8 := [160, 0, 11, 28, 4, 29, 120, 2, 130, 126, 61, 132, 3, 1, 167, 255, 227, 28, 172]
abbrev dktX4_seersOf_1 : List UInt8 := dkwX4_seersOf_1 ++ []
def dkwX4_seersOf_0 : List UInt8 := [42, 27, 182, 0, 204, 61, 3, 62, 29, 42, 180, 0, 84, 162, 0, 27, 42, 180, 0, 26, 29, 46, 6]
abbrev dktX4_seersOf_0 : List UInt8 := dkwX4_seersOf_0 ++ dktX4_seersOf_1
theorem dksX4_seersOf_0 : cX4_seersOf.data.toList.drop 0 = dktX4_seersOf_0 := by decide +kernel
theorem dksX4_seersOf_1 : cX4_seersOf.data.toList.drop 23 = dktX4_seersOf_1 := dk_seg dksX4_seersOf_0 23 rfl rfl
theorem dX4_seersOf_0 : decode cX4_seersOf 0 = .ok (.aload_n 0, 1) := dk_42 (dk_at dksX4_seersOf_0 0 rfl rfl)
theorem dX4_seersOf_1 : decode cX4_seersOf 1 = .ok (.iload_n 1, 1) := dk_27 (dk_at dksX4_seersOf_0 1 rfl rfl)
theorem dX4_seersOf_2 : decode cX4_seersOf 2 = .ok (.invokevirtual 204, 3) := dk_182 0 204 (dk_at dksX4_seersOf_0 2 rfl rfl)
theorem dX4_seersOf_5 : decode cX4_seersOf 5 = .ok (.istore_n 2, 1) := dk_61 (dk_at dksX4_seersOf_0 5 rfl rfl)
theorem dX4_seersOf_6 : decode cX4_seersOf 6 = .ok (.iconst 0, 1) := dk_3 (dk_at dksX4_seersOf_0 6 rfl rfl)
theorem dX4_seersOf_7 : decode cX4_seersOf 7 = .ok (.istore_n 3, 1) := dk_62 (dk_at dksX4_seersOf_0 7 rfl rfl)
theorem dX4_seersOf_8 : decode cX4_seersOf 8 = .ok (.iload_n 3, 1) := dk_29 (dk_at dksX4_seersOf_0 8 rfl rfl)
theorem dX4_seersOf_9 : decode cX4_seersOf 9 = .ok (.aload_n 0, 1) := dk_42 (dk_at dksX4_seersOf_0 9 rfl rfl)
theorem dX4_seersOf_10 : decode cX4_seersOf 10 = .ok (.getfield 84, 3) := dk_180 0 84 (dk_at dksX4_seersOf_0 10 rfl rfl)
theorem dX4_seersOf_13 : decode cX4_seersOf 13 = .ok (.if_icmp .ge 27, 3) := dk_162 0 27 (dk_at dksX4_seersOf_0 13 rfl rfl)
theorem dX4_seersOf_16 : decode cX4_seersOf 16 = .ok (.aload_n 0, 1) := dk_42 (dk_at dksX4_seersOf_0 16 rfl rfl)
theorem dX4_seersOf_17 : decode cX4_seersOf 17 = .ok (.getfield 26, 3) := dk_180 0 26 (dk_at dksX4_seersOf_0 17 rfl rfl)
theorem dX4_seersOf_20 : decode cX4_seersOf 20 = .ok (.iload_n 3, 1) := dk_29 (dk_at dksX4_seersOf_0 20 rfl rfl)
theorem dX4_seersOf_21 : decode cX4_seersOf 21 = .ok (.iaload, 1) := dk_46 (dk_at dksX4_seersOf_0 21 rfl rfl)
theorem dX4_seersOf_22 : decode cX4_seersOf 22 = .ok (.iconst 3, 1) := dk_6 (dk_at dksX4_seersOf_0 22 rfl rfl)
theorem dX4_seersOf_23 : decode cX4_seersOf 23 = .ok (.if_icmp .ne 11, 3) := dk_160 0 11 (dk_at dksX4_seersOf_1 0 rfl rfl)
theorem dX4_seersOf_26 : decode cX4_seersOf 26 = .ok (.iload_n 2, 1) := dk_28 (dk_at dksX4_seersOf_1 3 rfl rfl)
theorem dX4_seersOf_27 : decode cX4_seersOf 27 = .ok (.iconst 1, 1) := dk_4 (dk_at dksX4_seersOf_1 4 rfl rfl)
theorem dX4_seersOf_28 : decode cX4_seersOf 28 = .ok (.iload_n 3, 1) := dk_29 (dk_at dksX4_seersOf_1 5 rfl rfl)
theorem dX4_seersOf_29 : decode cX4_seersOf 29 = .ok (.ishl, 1) := dk_120 (dk_at dksX4_seersOf_1 6 rfl rfl)
theorem dX4_seersOf_30 : decode cX4_seersOf 30 = .ok (.iconst (-1), 1) := dk_2 (dk_at dksX4_seersOf_1 7 rfl rfl)
theorem dX4_seersOf_31 : decode cX4_seersOf 31 = .ok (.ixor, 1) := dk_130 (dk_at dksX4_seersOf_1 8 rfl rfl)
theorem dX4_seersOf_32 : decode cX4_seersOf 32 = .ok (.iand, 1) := dk_126 (dk_at dksX4_seersOf_1 9 rfl rfl)
theorem dX4_seersOf_33 : decode cX4_seersOf 33 = .ok (.istore_n 2, 1) := dk_61 (dk_at dksX4_seersOf_1 10 rfl rfl)
theorem dX4_seersOf_34 : decode cX4_seersOf 34 = .ok (.iinc 3 1, 3) := dk_132 3 1 (dk_at dksX4_seersOf_1 11 rfl rfl)
theorem dX4_seersOf_37 : decode cX4_seersOf 37 = .ok (.goto (-29), 3) := dk_167 255 227 (dk_at dksX4_seersOf_1 14 rfl rfl)
theorem dX4_seersOf_40 : decode cX4_seersOf 40 = .ok (.iload_n 2, 1) := dk_28 (dk_at dksX4_seersOf_1 17 rfl rfl)
theorem dX4_seersOf_41 : decode cX4_seersOf 41 = .ok (.ireturn, 1) := dk_172 (dk_at dksX4_seersOf_1 18 rfl rfl)
abbrev cX4_seesInto : ByteArray := prog_21_method_48_code
def yX4_seesInto : MethodName := ⟨RX4, "seesInto", "(I)I"⟩
def dkwX4_seesInto_2 : List UInt8 := [28, 172]
abbrev dktX4_seesInto_2 : List UInt8 := dkwX4_seesInto_2 ++ []
def dkwX4_seesInto_1 : List UInt8 := [153, 0, 18, 42, 29, 27, 182, 0, 201, 153, 0, 9, 28, 4, 29, 120, 128, 61, 132, 3, 1, 167, 255, 217]
abbrev dktX4_seesInto_1 : List UInt8 := dkwX4_seesInto_1 ++ dktX4_seesInto_2
def dkwX4_seesInto_0 : List UInt8 := [3, 61, 3, 62, 29, 42, 180, 0, 84, 162, 0, 37, 29, 27, 159, 0, 26, 42, 29, 182, 0, 91]
abbrev dktX4_seesInto_0 : List UInt8 := dkwX4_seesInto_0 ++ dktX4_seesInto_1
theorem dksX4_seesInto_0 : cX4_seesInto.data.toList.drop 0 = dktX4_seesInto_0 := by decide +kernel
theorem dksX4_seesInto_1 : cX4_seesInto.data.toList.drop 22 = dktX4_seesInto_1 := dk_seg dksX4_seesInto_0 22 rfl rfl
theorem dksX4_seesInto_2 : cX4_seesInto.data.toList.drop 46 = dktX4_seesInto_2 := dk_seg dksX4_seesInto_1 24 rfl rfl
theorem dX4_seesInto_0 : decode cX4_seesInto 0 = .ok (.iconst 0, 1) := dk_3 (dk_at dksX4_seesInto_0 0 rfl rfl)
theorem dX4_seesInto_1 : decode cX4_seesInto 1 = .ok (.istore_n 2, 1) := dk_61 (dk_at dksX4_seesInto_0 1 rfl rfl)
theorem dX4_seesInto_2 : decode cX4_seesInto 2 = .ok (.iconst 0, 1) := dk_3 (dk_at dksX4_seesInto_0 2 rfl rfl)
theorem dX4_seesInto_3 : decode cX4_seesInto 3 = .ok (.istore_n 3, 1) := dk_62 (dk_at dksX4_seesInto_0 3 rfl rfl)
theorem dX4_seesInto_4 : decode cX4_seesInto 4 = .ok (.iload_n 3, 1) := dk_29 (dk_at dksX4_seesInto_0 4 rfl rfl)
theorem dX4_seesInto_5 : decode cX4_seesInto 5 = .ok (.aload_n 0, 1) := dk_42 (dk_at dksX4_seesInto_0 5 rfl rfl)
theorem dX4_seesInto_6 : decode cX4_seesInto 6 = .ok (.getfield 84, 3) := dk_180 0 84 (dk_at dksX4_seesInto_0 6 rfl rfl)
theorem dX4_seesInto_9 : decode cX4_seesInto 9 = .ok (.if_icmp .ge 37, 3) := dk_162 0 37 (dk_at dksX4_seesInto_0 9 rfl rfl)
theorem dX4_seesInto_12 : decode cX4_seesInto 12 = .ok (.iload_n 3, 1) := dk_29 (dk_at dksX4_seesInto_0 12 rfl rfl)
theorem dX4_seesInto_13 : decode cX4_seesInto 13 = .ok (.iload_n 1, 1) := dk_27 (dk_at dksX4_seesInto_0 13 rfl rfl)
theorem dX4_seesInto_14 : decode cX4_seesInto 14 = .ok (.if_icmp .eq 26, 3) := dk_159 0 26 (dk_at dksX4_seesInto_0 14 rfl rfl)
theorem dX4_seesInto_17 : decode cX4_seesInto 17 = .ok (.aload_n 0, 1) := dk_42 (dk_at dksX4_seesInto_0 17 rfl rfl)
theorem dX4_seesInto_18 : decode cX4_seesInto 18 = .ok (.iload_n 3, 1) := dk_29 (dk_at dksX4_seesInto_0 18 rfl rfl)
theorem dX4_seesInto_19 : decode cX4_seesInto 19 = .ok (.invokevirtual 91, 3) := dk_182 0 91 (dk_at dksX4_seesInto_0 19 rfl rfl)
theorem dX4_seesInto_22 : decode cX4_seesInto 22 = .ok (.ifCond .eq 18, 3) := dk_153 0 18 (dk_at dksX4_seesInto_1 0 rfl rfl)
theorem dX4_seesInto_25 : decode cX4_seesInto 25 = .ok (.aload_n 0, 1) := dk_42 (dk_at dksX4_seesInto_1 3 rfl rfl)
theorem dX4_seesInto_26 : decode cX4_seesInto 26 = .ok (.iload_n 3, 1) := dk_29 (dk_at dksX4_seesInto_1 4 rfl rfl)
theorem dX4_seesInto_27 : decode cX4_seesInto 27 = .ok (.iload_n 1, 1) := dk_27 (dk_at dksX4_seesInto_1 5 rfl rfl)
theorem dX4_seesInto_28 : decode cX4_seesInto 28 = .ok (.invokevirtual 201, 3) := dk_182 0 201 (dk_at dksX4_seesInto_1 6 rfl rfl)
theorem dX4_seesInto_31 : decode cX4_seesInto 31 = .ok (.ifCond .eq 9, 3) := dk_153 0 9 (dk_at dksX4_seesInto_1 9 rfl rfl)
theorem dX4_seesInto_34 : decode cX4_seesInto 34 = .ok (.iload_n 2, 1) := dk_28 (dk_at dksX4_seesInto_1 12 rfl rfl)
theorem dX4_seesInto_35 : decode cX4_seesInto 35 = .ok (.iconst 1, 1) := dk_4 (dk_at dksX4_seesInto_1 13 rfl rfl)
theorem dX4_seesInto_36 : decode cX4_seesInto 36 = .ok (.iload_n 3, 1) := dk_29 (dk_at dksX4_seesInto_1 14 rfl rfl)
theorem dX4_seesInto_37 : decode cX4_seesInto 37 = .ok (.ishl, 1) := dk_120 (dk_at dksX4_seesInto_1 15 rfl rfl)
theorem dX4_seesInto_38 : decode cX4_seesInto 38 = .ok (.ior, 1) := dk_128 (dk_at dksX4_seesInto_1 16 rfl rfl)
theorem dX4_seesInto_39 : decode cX4_seesInto 39 = .ok (.istore_n 2, 1) := dk_61 (dk_at dksX4_seesInto_1 17 rfl rfl)
theorem dX4_seesInto_40 : decode cX4_seesInto 40 = .ok (.iinc 3 1, 3) := dk_132 3 1 (dk_at dksX4_seesInto_1 18 rfl rfl)
theorem dX4_seesInto_43 : decode cX4_seesInto 43 = .ok (.goto (-39), 3) := dk_167 255 217 (dk_at dksX4_seesInto_1 21 rfl rfl)
theorem dX4_seesInto_46 : decode cX4_seesInto 46 = .ok (.iload_n 2, 1) := dk_28 (dk_at dksX4_seesInto_2 0 rfl rfl)
theorem dX4_seesInto_47 : decode cX4_seesInto 47 = .ok (.ireturn, 1) := dk_172 (dk_at dksX4_seesInto_2 1 rfl rfl)
abbrev cX4_isSeen : ByteArray := prog_21_method_47_code
def yX4_isSeen : MethodName := ⟨RX4, "isSeen", "(II)Z"⟩
def dkwX4_isSeen_1 : List UInt8 := [28, 182, 0, 198, 153, 0, 7, 4, 167, 0, 4, 3, 172]
abbrev dktX4_isSeen_1 : List UInt8 := dkwX4_isSeen_1 ++ []
def dkwX4_isSeen_0 : List UInt8 := [42, 180, 0, 41, 27, 46, 154, 0, 29, 42, 180, 0, 44, 27, 46, 28, 122, 4, 126, 154, 0, 16, 42, 27]
abbrev dktX4_isSeen_0 : List UInt8 := dkwX4_isSeen_0 ++ dktX4_isSeen_1
theorem dksX4_isSeen_0 : cX4_isSeen.data.toList.drop 0 = dktX4_isSeen_0 := by decide +kernel
theorem dksX4_isSeen_1 : cX4_isSeen.data.toList.drop 24 = dktX4_isSeen_1 := dk_seg dksX4_isSeen_0 24 rfl rfl
theorem dX4_isSeen_0 : decode cX4_isSeen 0 = .ok (.aload_n 0, 1) := dk_42 (dk_at dksX4_isSeen_0 0 rfl rfl)
theorem dX4_isSeen_1 : decode cX4_isSeen 1 = .ok (.getfield 41, 3) := dk_180 0 41 (dk_at dksX4_isSeen_0 1 rfl rfl)
theorem dX4_isSeen_4 : decode cX4_isSeen 4 = .ok (.iload_n 1, 1) := dk_27 (dk_at dksX4_isSeen_0 4 rfl rfl)
theorem dX4_isSeen_5 : decode cX4_isSeen 5 = .ok (.iaload, 1) := dk_46 (dk_at dksX4_isSeen_0 5 rfl rfl)
theorem dX4_isSeen_6 : decode cX4_isSeen 6 = .ok (.ifCond .ne 29, 3) := dk_154 0 29 (dk_at dksX4_isSeen_0 6 rfl rfl)
theorem dX4_isSeen_9 : decode cX4_isSeen 9 = .ok (.aload_n 0, 1) := dk_42 (dk_at dksX4_isSeen_0 9 rfl rfl)
theorem dX4_isSeen_10 : decode cX4_isSeen 10 = .ok (.getfield 44, 3) := dk_180 0 44 (dk_at dksX4_isSeen_0 10 rfl rfl)
theorem dX4_isSeen_13 : decode cX4_isSeen 13 = .ok (.iload_n 1, 1) := dk_27 (dk_at dksX4_isSeen_0 13 rfl rfl)
theorem dX4_isSeen_14 : decode cX4_isSeen 14 = .ok (.iaload, 1) := dk_46 (dk_at dksX4_isSeen_0 14 rfl rfl)
theorem dX4_isSeen_15 : decode cX4_isSeen 15 = .ok (.iload_n 2, 1) := dk_28 (dk_at dksX4_isSeen_0 15 rfl rfl)
theorem dX4_isSeen_16 : decode cX4_isSeen 16 = .ok (.ishr, 1) := dk_122 (dk_at dksX4_isSeen_0 16 rfl rfl)
theorem dX4_isSeen_17 : decode cX4_isSeen 17 = .ok (.iconst 1, 1) := dk_4 (dk_at dksX4_isSeen_0 17 rfl rfl)
theorem dX4_isSeen_18 : decode cX4_isSeen 18 = .ok (.iand, 1) := dk_126 (dk_at dksX4_isSeen_0 18 rfl rfl)
theorem dX4_isSeen_19 : decode cX4_isSeen 19 = .ok (.ifCond .ne 16, 3) := dk_154 0 16 (dk_at dksX4_isSeen_0 19 rfl rfl)
theorem dX4_isSeen_22 : decode cX4_isSeen 22 = .ok (.aload_n 0, 1) := dk_42 (dk_at dksX4_isSeen_0 22 rfl rfl)
theorem dX4_isSeen_23 : decode cX4_isSeen 23 = .ok (.iload_n 1, 1) := dk_27 (dk_at dksX4_isSeen_0 23 rfl rfl)
theorem dX4_isSeen_24 : decode cX4_isSeen 24 = .ok (.iload_n 2, 1) := dk_28 (dk_at dksX4_isSeen_1 0 rfl rfl)
theorem dX4_isSeen_25 : decode cX4_isSeen 25 = .ok (.invokevirtual 198, 3) := dk_182 0 198 (dk_at dksX4_isSeen_1 1 rfl rfl)
theorem dX4_isSeen_28 : decode cX4_isSeen 28 = .ok (.ifCond .eq 7, 3) := dk_153 0 7 (dk_at dksX4_isSeen_1 4 rfl rfl)
theorem dX4_isSeen_31 : decode cX4_isSeen 31 = .ok (.iconst 1, 1) := dk_4 (dk_at dksX4_isSeen_1 7 rfl rfl)
theorem dX4_isSeen_32 : decode cX4_isSeen 32 = .ok (.goto 4, 3) := dk_167 0 4 (dk_at dksX4_isSeen_1 8 rfl rfl)
theorem dX4_isSeen_35 : decode cX4_isSeen 35 = .ok (.iconst 0, 1) := dk_3 (dk_at dksX4_isSeen_1 11 rfl rfl)
theorem dX4_isSeen_36 : decode cX4_isSeen 36 = .ok (.ireturn, 1) := dk_172 (dk_at dksX4_isSeen_1 12 rfl rfl)
abbrev cX4_looks : ByteArray := prog_21_method_46_code
def yX4_looks : MethodName := ⟨RX4, "looks", "(II)Z"⟩
def dkwX4_looks_1 : List UInt8 := [27, 28, 182, 0, 195, 2, 160, 0, 7, 4, 167, 0, 4, 3, 172]
abbrev dktX4_looks_1 : List UInt8 := dkwX4_looks_1 ++ []
def dkwX4_looks_0 : List UInt8 := [42, 180, 0, 26, 27, 46, 8, 159, 0, 30, 42, 27, 28, 182, 0, 192, 42, 180, 0, 13, 163, 0, 17, 42]
abbrev dktX4_looks_0 : List UInt8 := dkwX4_looks_0 ++ dktX4_looks_1
theorem dksX4_looks_0 : cX4_looks.data.toList.drop 0 = dktX4_looks_0 := by decide +kernel
theorem dksX4_looks_1 : cX4_looks.data.toList.drop 24 = dktX4_looks_1 := dk_seg dksX4_looks_0 24 rfl rfl
theorem dX4_looks_0 : decode cX4_looks 0 = .ok (.aload_n 0, 1) := dk_42 (dk_at dksX4_looks_0 0 rfl rfl)
theorem dX4_looks_1 : decode cX4_looks 1 = .ok (.getfield 26, 3) := dk_180 0 26 (dk_at dksX4_looks_0 1 rfl rfl)
theorem dX4_looks_4 : decode cX4_looks 4 = .ok (.iload_n 1, 1) := dk_27 (dk_at dksX4_looks_0 4 rfl rfl)
theorem dX4_looks_5 : decode cX4_looks 5 = .ok (.iaload, 1) := dk_46 (dk_at dksX4_looks_0 5 rfl rfl)
theorem dX4_looks_6 : decode cX4_looks 6 = .ok (.iconst 5, 1) := dk_8 (dk_at dksX4_looks_0 6 rfl rfl)
theorem dX4_looks_7 : decode cX4_looks 7 = .ok (.if_icmp .eq 30, 3) := dk_159 0 30 (dk_at dksX4_looks_0 7 rfl rfl)
theorem dX4_looks_10 : decode cX4_looks 10 = .ok (.aload_n 0, 1) := dk_42 (dk_at dksX4_looks_0 10 rfl rfl)
theorem dX4_looks_11 : decode cX4_looks 11 = .ok (.iload_n 1, 1) := dk_27 (dk_at dksX4_looks_0 11 rfl rfl)
theorem dX4_looks_12 : decode cX4_looks 12 = .ok (.iload_n 2, 1) := dk_28 (dk_at dksX4_looks_0 12 rfl rfl)
theorem dX4_looks_13 : decode cX4_looks 13 = .ok (.invokevirtual 192, 3) := dk_182 0 192 (dk_at dksX4_looks_0 13 rfl rfl)
theorem dX4_looks_16 : decode cX4_looks 16 = .ok (.aload_n 0, 1) := dk_42 (dk_at dksX4_looks_0 16 rfl rfl)
theorem dX4_looks_17 : decode cX4_looks 17 = .ok (.getfield 13, 3) := dk_180 0 13 (dk_at dksX4_looks_0 17 rfl rfl)
theorem dX4_looks_20 : decode cX4_looks 20 = .ok (.if_icmp .gt 17, 3) := dk_163 0 17 (dk_at dksX4_looks_0 20 rfl rfl)
theorem dX4_looks_23 : decode cX4_looks 23 = .ok (.aload_n 0, 1) := dk_42 (dk_at dksX4_looks_0 23 rfl rfl)
theorem dX4_looks_24 : decode cX4_looks 24 = .ok (.iload_n 1, 1) := dk_27 (dk_at dksX4_looks_1 0 rfl rfl)
theorem dX4_looks_25 : decode cX4_looks 25 = .ok (.iload_n 2, 1) := dk_28 (dk_at dksX4_looks_1 1 rfl rfl)
theorem dX4_looks_26 : decode cX4_looks 26 = .ok (.invokevirtual 195, 3) := dk_182 0 195 (dk_at dksX4_looks_1 2 rfl rfl)
theorem dX4_looks_29 : decode cX4_looks 29 = .ok (.iconst (-1), 1) := dk_2 (dk_at dksX4_looks_1 5 rfl rfl)
theorem dX4_looks_30 : decode cX4_looks 30 = .ok (.if_icmp .ne 7, 3) := dk_160 0 7 (dk_at dksX4_looks_1 6 rfl rfl)
theorem dX4_looks_33 : decode cX4_looks 33 = .ok (.iconst 1, 1) := dk_4 (dk_at dksX4_looks_1 9 rfl rfl)
theorem dX4_looks_34 : decode cX4_looks 34 = .ok (.goto 4, 3) := dk_167 0 4 (dk_at dksX4_looks_1 10 rfl rfl)
theorem dX4_looks_37 : decode cX4_looks 37 = .ok (.iconst 0, 1) := dk_3 (dk_at dksX4_looks_1 13 rfl rfl)
theorem dX4_looks_38 : decode cX4_looks 38 = .ok (.ireturn, 1) := dk_172 (dk_at dksX4_looks_1 14 rfl rfl)
abbrev cX4_distance : ByteArray := prog_21_method_43_code
def yX4_distance : MethodName := ⟨RX4, "distance", "(II)I"⟩
def dkwX4_distance_2 : List UInt8 := [21, 4, 172]
abbrev dktX4_distance_2 : List UInt8 := dkwX4_distance_2 ++ []
def dkwX4_distance_1 : List UInt8 := [46, 42, 180, 0, 32, 28, 46, 100, 182, 0, 186, 54, 4, 29, 21, 4, 164, 0, 7, 29, 167, 0, 5]
abbrev dktX4_distance_1 : List UInt8 := dkwX4_distance_1 ++ dktX4_distance_2
def dkwX4_distance_0 : List UInt8 := [42, 42, 180, 0, 29, 27, 46, 42, 180, 0, 29, 28, 46, 100, 182, 0, 186, 62, 42, 42, 180, 0, 32, 27]
abbrev dktX4_distance_0 : List UInt8 := dkwX4_distance_0 ++ dktX4_distance_1
theorem dksX4_distance_0 : cX4_distance.data.toList.drop 0 = dktX4_distance_0 := by decide +kernel
theorem dksX4_distance_1 : cX4_distance.data.toList.drop 24 = dktX4_distance_1 := dk_seg dksX4_distance_0 24 rfl rfl
theorem dksX4_distance_2 : cX4_distance.data.toList.drop 47 = dktX4_distance_2 := dk_seg dksX4_distance_1 23 rfl rfl
theorem dX4_distance_0 : decode cX4_distance 0 = .ok (.aload_n 0, 1) := dk_42 (dk_at dksX4_distance_0 0 rfl rfl)
theorem dX4_distance_1 : decode cX4_distance 1 = .ok (.aload_n 0, 1) := dk_42 (dk_at dksX4_distance_0 1 rfl rfl)
theorem dX4_distance_2 : decode cX4_distance 2 = .ok (.getfield 29, 3) := dk_180 0 29 (dk_at dksX4_distance_0 2 rfl rfl)
theorem dX4_distance_5 : decode cX4_distance 5 = .ok (.iload_n 1, 1) := dk_27 (dk_at dksX4_distance_0 5 rfl rfl)
theorem dX4_distance_6 : decode cX4_distance 6 = .ok (.iaload, 1) := dk_46 (dk_at dksX4_distance_0 6 rfl rfl)
theorem dX4_distance_7 : decode cX4_distance 7 = .ok (.aload_n 0, 1) := dk_42 (dk_at dksX4_distance_0 7 rfl rfl)
theorem dX4_distance_8 : decode cX4_distance 8 = .ok (.getfield 29, 3) := dk_180 0 29 (dk_at dksX4_distance_0 8 rfl rfl)
theorem dX4_distance_11 : decode cX4_distance 11 = .ok (.iload_n 2, 1) := dk_28 (dk_at dksX4_distance_0 11 rfl rfl)
theorem dX4_distance_12 : decode cX4_distance 12 = .ok (.iaload, 1) := dk_46 (dk_at dksX4_distance_0 12 rfl rfl)
theorem dX4_distance_13 : decode cX4_distance 13 = .ok (.isub, 1) := dk_100 (dk_at dksX4_distance_0 13 rfl rfl)
theorem dX4_distance_14 : decode cX4_distance 14 = .ok (.invokevirtual 186, 3) := dk_182 0 186 (dk_at dksX4_distance_0 14 rfl rfl)
theorem dX4_distance_17 : decode cX4_distance 17 = .ok (.istore_n 3, 1) := dk_62 (dk_at dksX4_distance_0 17 rfl rfl)
theorem dX4_distance_18 : decode cX4_distance 18 = .ok (.aload_n 0, 1) := dk_42 (dk_at dksX4_distance_0 18 rfl rfl)
theorem dX4_distance_19 : decode cX4_distance 19 = .ok (.aload_n 0, 1) := dk_42 (dk_at dksX4_distance_0 19 rfl rfl)
theorem dX4_distance_20 : decode cX4_distance 20 = .ok (.getfield 32, 3) := dk_180 0 32 (dk_at dksX4_distance_0 20 rfl rfl)
theorem dX4_distance_23 : decode cX4_distance 23 = .ok (.iload_n 1, 1) := dk_27 (dk_at dksX4_distance_0 23 rfl rfl)
theorem dX4_distance_24 : decode cX4_distance 24 = .ok (.iaload, 1) := dk_46 (dk_at dksX4_distance_1 0 rfl rfl)
theorem dX4_distance_25 : decode cX4_distance 25 = .ok (.aload_n 0, 1) := dk_42 (dk_at dksX4_distance_1 1 rfl rfl)
theorem dX4_distance_26 : decode cX4_distance 26 = .ok (.getfield 32, 3) := dk_180 0 32 (dk_at dksX4_distance_1 2 rfl rfl)
theorem dX4_distance_29 : decode cX4_distance 29 = .ok (.iload_n 2, 1) := dk_28 (dk_at dksX4_distance_1 5 rfl rfl)
theorem dX4_distance_30 : decode cX4_distance 30 = .ok (.iaload, 1) := dk_46 (dk_at dksX4_distance_1 6 rfl rfl)
theorem dX4_distance_31 : decode cX4_distance 31 = .ok (.isub, 1) := dk_100 (dk_at dksX4_distance_1 7 rfl rfl)
theorem dX4_distance_32 : decode cX4_distance 32 = .ok (.invokevirtual 186, 3) := dk_182 0 186 (dk_at dksX4_distance_1 8 rfl rfl)
theorem dX4_distance_35 : decode cX4_distance 35 = .ok (.istore 4, 2) := dk_54 4 (dk_at dksX4_distance_1 11 rfl rfl)
theorem dX4_distance_37 : decode cX4_distance 37 = .ok (.iload_n 3, 1) := dk_29 (dk_at dksX4_distance_1 13 rfl rfl)
theorem dX4_distance_38 : decode cX4_distance 38 = .ok (.iload 4, 2) := dk_21 4 (dk_at dksX4_distance_1 14 rfl rfl)
theorem dX4_distance_40 : decode cX4_distance 40 = .ok (.if_icmp .le 7, 3) := dk_164 0 7 (dk_at dksX4_distance_1 16 rfl rfl)
theorem dX4_distance_43 : decode cX4_distance 43 = .ok (.iload_n 3, 1) := dk_29 (dk_at dksX4_distance_1 19 rfl rfl)
theorem dX4_distance_44 : decode cX4_distance 44 = .ok (.goto 5, 3) := dk_167 0 5 (dk_at dksX4_distance_1 20 rfl rfl)
theorem dX4_distance_47 : decode cX4_distance 47 = .ok (.iload 4, 2) := dk_21 4 (dk_at dksX4_distance_2 0 rfl rfl)
theorem dX4_distance_49 : decode cX4_distance 49 = .ok (.ireturn, 1) := dk_172 (dk_at dksX4_distance_2 2 rfl rfl)
abbrev cX4_sizeOf : ByteArray := prog_21_method_42_code
def yX4_sizeOf : MethodName := ⟨RX4, "sizeOf", "(I)I"⟩
def dkwX4_sizeOf_0 : List UInt8 := [27, 156, 0, 8, 27, 116, 167, 0, 4, 27, 172]
abbrev dktX4_sizeOf_0 : List UInt8 := dkwX4_sizeOf_0 ++ []
theorem dksX4_sizeOf_0 : cX4_sizeOf.data.toList.drop 0 = dktX4_sizeOf_0 := by decide +kernel
theorem dX4_sizeOf_0 : decode cX4_sizeOf 0 = .ok (.iload_n 1, 1) := dk_27 (dk_at dksX4_sizeOf_0 0 rfl rfl)
theorem dX4_sizeOf_1 : decode cX4_sizeOf 1 = .ok (.ifCond .ge 8, 3) := dk_156 0 8 (dk_at dksX4_sizeOf_0 1 rfl rfl)
theorem dX4_sizeOf_4 : decode cX4_sizeOf 4 = .ok (.iload_n 1, 1) := dk_27 (dk_at dksX4_sizeOf_0 4 rfl rfl)
theorem dX4_sizeOf_5 : decode cX4_sizeOf 5 = .ok (.ineg, 1) := dk_116 (dk_at dksX4_sizeOf_0 5 rfl rfl)
theorem dX4_sizeOf_6 : decode cX4_sizeOf 6 = .ok (.goto 4, 3) := dk_167 0 4 (dk_at dksX4_sizeOf_0 6 rfl rfl)
theorem dX4_sizeOf_9 : decode cX4_sizeOf 9 = .ok (.iload_n 1, 1) := dk_27 (dk_at dksX4_sizeOf_0 9 rfl rfl)
theorem dX4_sizeOf_10 : decode cX4_sizeOf 10 = .ok (.ireturn, 1) := dk_172 (dk_at dksX4_sizeOf_0 10 rfl rfl)
abbrev cX4_inWay : ByteArray := prog_21_method_45_code
def yX4_inWay : MethodName := ⟨RX4, "inWay", "(II)I"⟩
def dkwX4_inWay_6 : List UInt8 := [21, 8, 21, 6, 162, 0, 7, 21, 8, 54, 6, 132, 7, 1, 167, 255, 152, 21, 6, 172]
abbrev dktX4_inWay_6 : List UInt8 := dkwX4_inWay_6 ++ []
def dkwX4_inWay_5 : List UInt8 := [100, 104, 42, 180, 0, 35, 28, 46, 21, 7, 104, 96, 163, 0, 6, 167, 0, 20, 21, 6, 2, 159, 0, 10]
abbrev dktX4_inWay_5 : List UInt8 := dkwX4_inWay_5 ++ dktX4_inWay_6
def dkwX4_inWay_4 : List UInt8 := [21, 8, 2, 159, 0, 56, 42, 21, 8, 182, 0, 101, 21, 5, 104, 42, 27, 182, 0, 110, 21, 5, 21, 7]
abbrev dktX4_inWay_4 : List UInt8 := dkwX4_inWay_4 ++ dktX4_inWay_5
def dkwX4_inWay_3 : List UInt8 := [21, 7, 104, 96, 42, 180, 0, 32, 27, 46, 21, 4, 21, 5, 108, 21, 7, 104, 96, 182, 0, 116, 54, 8]
abbrev dktX4_inWay_3 : List UInt8 := dkwX4_inWay_3 ++ dktX4_inWay_4
def dkwX4_inWay_2 : List UInt8 := [54, 6, 4, 54, 7, 21, 7, 21, 5, 162, 0, 103, 42, 42, 180, 0, 29, 27, 46, 29, 21, 5, 108]
abbrev dktX4_inWay_2 : List UInt8 := dkwX4_inWay_2 ++ dktX4_inWay_3
def dkwX4_inWay_1 : List UInt8 := [27, 46, 100, 54, 4, 42, 42, 29, 182, 0, 186, 42, 21, 4, 182, 0, 186, 182, 0, 189, 54, 5, 2]
abbrev dktX4_inWay_1 : List UInt8 := dkwX4_inWay_1 ++ dktX4_inWay_2
def dkwX4_inWay_0 : List UInt8 := [42, 180, 0, 29, 28, 46, 42, 180, 0, 29, 27, 46, 100, 62, 42, 180, 0, 32, 28, 46, 42, 180, 0, 32]
abbrev dktX4_inWay_0 : List UInt8 := dkwX4_inWay_0 ++ dktX4_inWay_1
theorem dksX4_inWay_0 : cX4_inWay.data.toList.drop 0 = dktX4_inWay_0 := by decide +kernel
theorem dksX4_inWay_1 : cX4_inWay.data.toList.drop 24 = dktX4_inWay_1 := dk_seg dksX4_inWay_0 24 rfl rfl
theorem dksX4_inWay_2 : cX4_inWay.data.toList.drop 47 = dktX4_inWay_2 := dk_seg dksX4_inWay_1 23 rfl rfl
theorem dksX4_inWay_3 : cX4_inWay.data.toList.drop 70 = dktX4_inWay_3 := dk_seg dksX4_inWay_2 23 rfl rfl
theorem dksX4_inWay_4 : cX4_inWay.data.toList.drop 94 = dktX4_inWay_4 := dk_seg dksX4_inWay_3 24 rfl rfl
theorem dksX4_inWay_5 : cX4_inWay.data.toList.drop 118 = dktX4_inWay_5 := dk_seg dksX4_inWay_4 24 rfl rfl
theorem dksX4_inWay_6 : cX4_inWay.data.toList.drop 142 = dktX4_inWay_6 := dk_seg dksX4_inWay_5 24 rfl rfl
theorem dX4_inWay_0 : decode cX4_inWay 0 = .ok (.aload_n 0, 1) := dk_42 (dk_at dksX4_inWay_0 0 rfl rfl)
theorem dX4_inWay_1 : decode cX4_inWay 1 = .ok (.getfield 29, 3) := dk_180 0 29 (dk_at dksX4_inWay_0 1 rfl rfl)
theorem dX4_inWay_4 : decode cX4_inWay 4 = .ok (.iload_n 2, 1) := dk_28 (dk_at dksX4_inWay_0 4 rfl rfl)
theorem dX4_inWay_5 : decode cX4_inWay 5 = .ok (.iaload, 1) := dk_46 (dk_at dksX4_inWay_0 5 rfl rfl)
theorem dX4_inWay_6 : decode cX4_inWay 6 = .ok (.aload_n 0, 1) := dk_42 (dk_at dksX4_inWay_0 6 rfl rfl)
theorem dX4_inWay_7 : decode cX4_inWay 7 = .ok (.getfield 29, 3) := dk_180 0 29 (dk_at dksX4_inWay_0 7 rfl rfl)
theorem dX4_inWay_10 : decode cX4_inWay 10 = .ok (.iload_n 1, 1) := dk_27 (dk_at dksX4_inWay_0 10 rfl rfl)
theorem dX4_inWay_11 : decode cX4_inWay 11 = .ok (.iaload, 1) := dk_46 (dk_at dksX4_inWay_0 11 rfl rfl)
theorem dX4_inWay_12 : decode cX4_inWay 12 = .ok (.isub, 1) := dk_100 (dk_at dksX4_inWay_0 12 rfl rfl)
theorem dX4_inWay_13 : decode cX4_inWay 13 = .ok (.istore_n 3, 1) := dk_62 (dk_at dksX4_inWay_0 13 rfl rfl)
theorem dX4_inWay_14 : decode cX4_inWay 14 = .ok (.aload_n 0, 1) := dk_42 (dk_at dksX4_inWay_0 14 rfl rfl)
theorem dX4_inWay_15 : decode cX4_inWay 15 = .ok (.getfield 32, 3) := dk_180 0 32 (dk_at dksX4_inWay_0 15 rfl rfl)
theorem dX4_inWay_18 : decode cX4_inWay 18 = .ok (.iload_n 2, 1) := dk_28 (dk_at dksX4_inWay_0 18 rfl rfl)
theorem dX4_inWay_19 : decode cX4_inWay 19 = .ok (.iaload, 1) := dk_46 (dk_at dksX4_inWay_0 19 rfl rfl)
theorem dX4_inWay_20 : decode cX4_inWay 20 = .ok (.aload_n 0, 1) := dk_42 (dk_at dksX4_inWay_0 20 rfl rfl)
theorem dX4_inWay_21 : decode cX4_inWay 21 = .ok (.getfield 32, 3) := dk_180 0 32 (dk_at dksX4_inWay_0 21 rfl rfl)
theorem dX4_inWay_24 : decode cX4_inWay 24 = .ok (.iload_n 1, 1) := dk_27 (dk_at dksX4_inWay_1 0 rfl rfl)
theorem dX4_inWay_25 : decode cX4_inWay 25 = .ok (.iaload, 1) := dk_46 (dk_at dksX4_inWay_1 1 rfl rfl)
theorem dX4_inWay_26 : decode cX4_inWay 26 = .ok (.isub, 1) := dk_100 (dk_at dksX4_inWay_1 2 rfl rfl)
theorem dX4_inWay_27 : decode cX4_inWay 27 = .ok (.istore 4, 2) := dk_54 4 (dk_at dksX4_inWay_1 3 rfl rfl)
theorem dX4_inWay_29 : decode cX4_inWay 29 = .ok (.aload_n 0, 1) := dk_42 (dk_at dksX4_inWay_1 5 rfl rfl)
theorem dX4_inWay_30 : decode cX4_inWay 30 = .ok (.aload_n 0, 1) := dk_42 (dk_at dksX4_inWay_1 6 rfl rfl)
theorem dX4_inWay_31 : decode cX4_inWay 31 = .ok (.iload_n 3, 1) := dk_29 (dk_at dksX4_inWay_1 7 rfl rfl)
theorem dX4_inWay_32 : decode cX4_inWay 32 = .ok (.invokevirtual 186, 3) := dk_182 0 186 (dk_at dksX4_inWay_1 8 rfl rfl)
theorem dX4_inWay_35 : decode cX4_inWay 35 = .ok (.aload_n 0, 1) := dk_42 (dk_at dksX4_inWay_1 11 rfl rfl)
theorem dX4_inWay_36 : decode cX4_inWay 36 = .ok (.iload 4, 2) := dk_21 4 (dk_at dksX4_inWay_1 12 rfl rfl)
theorem dX4_inWay_38 : decode cX4_inWay 38 = .ok (.invokevirtual 186, 3) := dk_182 0 186 (dk_at dksX4_inWay_1 14 rfl rfl)
theorem dX4_inWay_41 : decode cX4_inWay 41 = .ok (.invokevirtual 189, 3) := dk_182 0 189 (dk_at dksX4_inWay_1 17 rfl rfl)
theorem dX4_inWay_44 : decode cX4_inWay 44 = .ok (.istore 5, 2) := dk_54 5 (dk_at dksX4_inWay_1 20 rfl rfl)
theorem dX4_inWay_46 : decode cX4_inWay 46 = .ok (.iconst (-1), 1) := dk_2 (dk_at dksX4_inWay_1 22 rfl rfl)
theorem dX4_inWay_47 : decode cX4_inWay 47 = .ok (.istore 6, 2) := dk_54 6 (dk_at dksX4_inWay_2 0 rfl rfl)
theorem dX4_inWay_49 : decode cX4_inWay 49 = .ok (.iconst 1, 1) := dk_4 (dk_at dksX4_inWay_2 2 rfl rfl)
theorem dX4_inWay_50 : decode cX4_inWay 50 = .ok (.istore 7, 2) := dk_54 7 (dk_at dksX4_inWay_2 3 rfl rfl)
theorem dX4_inWay_52 : decode cX4_inWay 52 = .ok (.iload 7, 2) := dk_21 7 (dk_at dksX4_inWay_2 5 rfl rfl)
theorem dX4_inWay_54 : decode cX4_inWay 54 = .ok (.iload 5, 2) := dk_21 5 (dk_at dksX4_inWay_2 7 rfl rfl)
theorem dX4_inWay_56 : decode cX4_inWay 56 = .ok (.if_icmp .ge 103, 3) := dk_162 0 103 (dk_at dksX4_inWay_2 9 rfl rfl)
theorem dX4_inWay_59 : decode cX4_inWay 59 = .ok (.aload_n 0, 1) := dk_42 (dk_at dksX4_inWay_2 12 rfl rfl)
theorem dX4_inWay_60 : decode cX4_inWay 60 = .ok (.aload_n 0, 1) := dk_42 (dk_at dksX4_inWay_2 13 rfl rfl)
theorem dX4_inWay_61 : decode cX4_inWay 61 = .ok (.getfield 29, 3) := dk_180 0 29 (dk_at dksX4_inWay_2 14 rfl rfl)
theorem dX4_inWay_64 : decode cX4_inWay 64 = .ok (.iload_n 1, 1) := dk_27 (dk_at dksX4_inWay_2 17 rfl rfl)
theorem dX4_inWay_65 : decode cX4_inWay 65 = .ok (.iaload, 1) := dk_46 (dk_at dksX4_inWay_2 18 rfl rfl)
theorem dX4_inWay_66 : decode cX4_inWay 66 = .ok (.iload_n 3, 1) := dk_29 (dk_at dksX4_inWay_2 19 rfl rfl)
theorem dX4_inWay_67 : decode cX4_inWay 67 = .ok (.iload 5, 2) := dk_21 5 (dk_at dksX4_inWay_2 20 rfl rfl)
theorem dX4_inWay_69 : decode cX4_inWay 69 = .ok (.idiv, 1) := dk_108 (dk_at dksX4_inWay_2 22 rfl rfl)
theorem dX4_inWay_70 : decode cX4_inWay 70 = .ok (.iload 7, 2) := dk_21 7 (dk_at dksX4_inWay_3 0 rfl rfl)
theorem dX4_inWay_72 : decode cX4_inWay 72 = .ok (.imul, 1) := dk_104 (dk_at dksX4_inWay_3 2 rfl rfl)
theorem dX4_inWay_73 : decode cX4_inWay 73 = .ok (.iadd, 1) := dk_96 (dk_at dksX4_inWay_3 3 rfl rfl)
theorem dX4_inWay_74 : decode cX4_inWay 74 = .ok (.aload_n 0, 1) := dk_42 (dk_at dksX4_inWay_3 4 rfl rfl)
theorem dX4_inWay_75 : decode cX4_inWay 75 = .ok (.getfield 32, 3) := dk_180 0 32 (dk_at dksX4_inWay_3 5 rfl rfl)
theorem dX4_inWay_78 : decode cX4_inWay 78 = .ok (.iload_n 1, 1) := dk_27 (dk_at dksX4_inWay_3 8 rfl rfl)
theorem dX4_inWay_79 : decode cX4_inWay 79 = .ok (.iaload, 1) := dk_46 (dk_at dksX4_inWay_3 9 rfl rfl)
theorem dX4_inWay_80 : decode cX4_inWay 80 = .ok (.iload 4, 2) := dk_21 4 (dk_at dksX4_inWay_3 10 rfl rfl)
theorem dX4_inWay_82 : decode cX4_inWay 82 = .ok (.iload 5, 2) := dk_21 5 (dk_at dksX4_inWay_3 12 rfl rfl)
theorem dX4_inWay_84 : decode cX4_inWay 84 = .ok (.idiv, 1) := dk_108 (dk_at dksX4_inWay_3 14 rfl rfl)
theorem dX4_inWay_85 : decode cX4_inWay 85 = .ok (.iload 7, 2) := dk_21 7 (dk_at dksX4_inWay_3 15 rfl rfl)
theorem dX4_inWay_87 : decode cX4_inWay 87 = .ok (.imul, 1) := dk_104 (dk_at dksX4_inWay_3 17 rfl rfl)
theorem dX4_inWay_88 : decode cX4_inWay 88 = .ok (.iadd, 1) := dk_96 (dk_at dksX4_inWay_3 18 rfl rfl)
theorem dX4_inWay_89 : decode cX4_inWay 89 = .ok (.invokevirtual 116, 3) := dk_182 0 116 (dk_at dksX4_inWay_3 19 rfl rfl)
theorem dX4_inWay_92 : decode cX4_inWay 92 = .ok (.istore 8, 2) := dk_54 8 (dk_at dksX4_inWay_3 22 rfl rfl)
theorem dX4_inWay_94 : decode cX4_inWay 94 = .ok (.iload 8, 2) := dk_21 8 (dk_at dksX4_inWay_4 0 rfl rfl)
theorem dX4_inWay_96 : decode cX4_inWay 96 = .ok (.iconst (-1), 1) := dk_2 (dk_at dksX4_inWay_4 2 rfl rfl)
theorem dX4_inWay_97 : decode cX4_inWay 97 = .ok (.if_icmp .eq 56, 3) := dk_159 0 56 (dk_at dksX4_inWay_4 3 rfl rfl)
theorem dX4_inWay_100 : decode cX4_inWay 100 = .ok (.aload_n 0, 1) := dk_42 (dk_at dksX4_inWay_4 6 rfl rfl)
theorem dX4_inWay_101 : decode cX4_inWay 101 = .ok (.iload 8, 2) := dk_21 8 (dk_at dksX4_inWay_4 7 rfl rfl)
theorem dX4_inWay_103 : decode cX4_inWay 103 = .ok (.invokevirtual 101, 3) := dk_182 0 101 (dk_at dksX4_inWay_4 9 rfl rfl)
theorem dX4_inWay_106 : decode cX4_inWay 106 = .ok (.iload 5, 2) := dk_21 5 (dk_at dksX4_inWay_4 12 rfl rfl)
theorem dX4_inWay_108 : decode cX4_inWay 108 = .ok (.imul, 1) := dk_104 (dk_at dksX4_inWay_4 14 rfl rfl)
theorem dX4_inWay_109 : decode cX4_inWay 109 = .ok (.aload_n 0, 1) := dk_42 (dk_at dksX4_inWay_4 15 rfl rfl)
theorem dX4_inWay_110 : decode cX4_inWay 110 = .ok (.iload_n 1, 1) := dk_27 (dk_at dksX4_inWay_4 16 rfl rfl)
theorem dX4_inWay_111 : decode cX4_inWay 111 = .ok (.invokevirtual 110, 3) := dk_182 0 110 (dk_at dksX4_inWay_4 17 rfl rfl)
theorem dX4_inWay_114 : decode cX4_inWay 114 = .ok (.iload 5, 2) := dk_21 5 (dk_at dksX4_inWay_4 20 rfl rfl)
theorem dX4_inWay_116 : decode cX4_inWay 116 = .ok (.iload 7, 2) := dk_21 7 (dk_at dksX4_inWay_4 22 rfl rfl)
theorem dX4_inWay_118 : decode cX4_inWay 118 = .ok (.isub, 1) := dk_100 (dk_at dksX4_inWay_5 0 rfl rfl)
theorem dX4_inWay_119 : decode cX4_inWay 119 = .ok (.imul, 1) := dk_104 (dk_at dksX4_inWay_5 1 rfl rfl)
theorem dX4_inWay_120 : decode cX4_inWay 120 = .ok (.aload_n 0, 1) := dk_42 (dk_at dksX4_inWay_5 2 rfl rfl)
theorem dX4_inWay_121 : decode cX4_inWay 121 = .ok (.getfield 35, 3) := dk_180 0 35 (dk_at dksX4_inWay_5 3 rfl rfl)
theorem dX4_inWay_124 : decode cX4_inWay 124 = .ok (.iload_n 2, 1) := dk_28 (dk_at dksX4_inWay_5 6 rfl rfl)
theorem dX4_inWay_125 : decode cX4_inWay 125 = .ok (.iaload, 1) := dk_46 (dk_at dksX4_inWay_5 7 rfl rfl)
theorem dX4_inWay_126 : decode cX4_inWay 126 = .ok (.iload 7, 2) := dk_21 7 (dk_at dksX4_inWay_5 8 rfl rfl)
theorem dX4_inWay_128 : decode cX4_inWay 128 = .ok (.imul, 1) := dk_104 (dk_at dksX4_inWay_5 10 rfl rfl)
theorem dX4_inWay_129 : decode cX4_inWay 129 = .ok (.iadd, 1) := dk_96 (dk_at dksX4_inWay_5 11 rfl rfl)
theorem dX4_inWay_130 : decode cX4_inWay 130 = .ok (.if_icmp .gt 6, 3) := dk_163 0 6 (dk_at dksX4_inWay_5 12 rfl rfl)
theorem dX4_inWay_133 : decode cX4_inWay 133 = .ok (.goto 20, 3) := dk_167 0 20 (dk_at dksX4_inWay_5 15 rfl rfl)
theorem dX4_inWay_136 : decode cX4_inWay 136 = .ok (.iload 6, 2) := dk_21 6 (dk_at dksX4_inWay_5 18 rfl rfl)
theorem dX4_inWay_138 : decode cX4_inWay 138 = .ok (.iconst (-1), 1) := dk_2 (dk_at dksX4_inWay_5 20 rfl rfl)
theorem dX4_inWay_139 : decode cX4_inWay 139 = .ok (.if_icmp .eq 10, 3) := dk_159 0 10 (dk_at dksX4_inWay_5 21 rfl rfl)
theorem dX4_inWay_142 : decode cX4_inWay 142 = .ok (.iload 8, 2) := dk_21 8 (dk_at dksX4_inWay_6 0 rfl rfl)
theorem dX4_inWay_144 : decode cX4_inWay 144 = .ok (.iload 6, 2) := dk_21 6 (dk_at dksX4_inWay_6 2 rfl rfl)
theorem dX4_inWay_146 : decode cX4_inWay 146 = .ok (.if_icmp .ge 7, 3) := dk_162 0 7 (dk_at dksX4_inWay_6 4 rfl rfl)
theorem dX4_inWay_149 : decode cX4_inWay 149 = .ok (.iload 8, 2) := dk_21 8 (dk_at dksX4_inWay_6 7 rfl rfl)
theorem dX4_inWay_151 : decode cX4_inWay 151 = .ok (.istore 6, 2) := dk_54 6 (dk_at dksX4_inWay_6 9 rfl rfl)
theorem dX4_inWay_153 : decode cX4_inWay 153 = .ok (.iinc 7 1, 3) := dk_132 7 1 (dk_at dksX4_inWay_6 11 rfl rfl)
theorem dX4_inWay_156 : decode cX4_inWay 156 = .ok (.goto (-104), 3) := dk_167 255 152 (dk_at dksX4_inWay_6 14 rfl rfl)
theorem dX4_inWay_159 : decode cX4_inWay 159 = .ok (.iload 6, 2) := dk_21 6 (dk_at dksX4_inWay_6 17 rfl rfl)
theorem dX4_inWay_161 : decode cX4_inWay 161 = .ok (.ireturn, 1) := dk_172 (dk_at dksX4_inWay_6 19 rfl rfl)
abbrev cX4_divides : ByteArray := prog_21_method_44_code
def yX4_divides : MethodName := ⟨RX4, "divides", "(II)I"⟩
def dkwX4_divides_0 : List UInt8 := [28, 154, 0, 7, 27, 167, 0, 11, 42, 28, 27, 28, 112, 182, 0, 189, 172]
abbrev dktX4_divides_0 : List UInt8 := dkwX4_divides_0 ++ []
theorem dksX4_divides_0 : cX4_divides.data.toList.drop 0 = dktX4_divides_0 := by decide +kernel
theorem dX4_divides_0 : decode cX4_divides 0 = .ok (.iload_n 2, 1) := dk_28 (dk_at dksX4_divides_0 0 rfl rfl)
theorem dX4_divides_1 : decode cX4_divides 1 = .ok (.ifCond .ne 7, 3) := dk_154 0 7 (dk_at dksX4_divides_0 1 rfl rfl)
theorem dX4_divides_4 : decode cX4_divides 4 = .ok (.iload_n 1, 1) := dk_27 (dk_at dksX4_divides_0 4 rfl rfl)
theorem dX4_divides_5 : decode cX4_divides 5 = .ok (.goto 11, 3) := dk_167 0 11 (dk_at dksX4_divides_0 5 rfl rfl)
theorem dX4_divides_8 : decode cX4_divides 8 = .ok (.aload_n 0, 1) := dk_42 (dk_at dksX4_divides_0 8 rfl rfl)
theorem dX4_divides_9 : decode cX4_divides 9 = .ok (.iload_n 2, 1) := dk_28 (dk_at dksX4_divides_0 9 rfl rfl)
theorem dX4_divides_10 : decode cX4_divides 10 = .ok (.iload_n 1, 1) := dk_27 (dk_at dksX4_divides_0 10 rfl rfl)
theorem dX4_divides_11 : decode cX4_divides 11 = .ok (.iload_n 2, 1) := dk_28 (dk_at dksX4_divides_0 11 rfl rfl)
theorem dX4_divides_12 : decode cX4_divides 12 = .ok (.irem, 1) := dk_112 (dk_at dksX4_divides_0 12 rfl rfl)
theorem dX4_divides_13 : decode cX4_divides 13 = .ok (.invokevirtual 189, 3) := dk_182 0 189 (dk_at dksX4_divides_0 13 rfl rfl)
theorem dX4_divides_16 : decode cX4_divides 16 = .ok (.ireturn, 1) := dk_172 (dk_at dksX4_divides_0 16 rfl rfl)
abbrev cX4_at : ByteArray := prog_21_method_20_code
def yX4_at : MethodName := ⟨RX4, "at", "(II)I"⟩
def dkwX4_at_1 : List UInt8 := [29, 46, 28, 160, 0, 5, 29, 172, 132, 3, 1, 167, 255, 223, 2, 172]
abbrev dktX4_at_1 : List UInt8 := dkwX4_at_1 ++ []
def dkwX4_at_0 : List UInt8 := [3, 62, 29, 42, 180, 0, 84, 162, 0, 31, 42, 180, 0, 29, 29, 46, 27, 160, 0, 15, 42, 180, 0, 32]
abbrev dktX4_at_0 : List UInt8 := dkwX4_at_0 ++ dktX4_at_1
theorem dksX4_at_0 : cX4_at.data.toList.drop 0 = dktX4_at_0 := by decide +kernel
theorem dksX4_at_1 : cX4_at.data.toList.drop 24 = dktX4_at_1 := dk_seg dksX4_at_0 24 rfl rfl
theorem dX4_at_0 : decode cX4_at 0 = .ok (.iconst 0, 1) := dk_3 (dk_at dksX4_at_0 0 rfl rfl)
theorem dX4_at_1 : decode cX4_at 1 = .ok (.istore_n 3, 1) := dk_62 (dk_at dksX4_at_0 1 rfl rfl)
theorem dX4_at_2 : decode cX4_at 2 = .ok (.iload_n 3, 1) := dk_29 (dk_at dksX4_at_0 2 rfl rfl)
theorem dX4_at_3 : decode cX4_at 3 = .ok (.aload_n 0, 1) := dk_42 (dk_at dksX4_at_0 3 rfl rfl)
theorem dX4_at_4 : decode cX4_at 4 = .ok (.getfield 84, 3) := dk_180 0 84 (dk_at dksX4_at_0 4 rfl rfl)
theorem dX4_at_7 : decode cX4_at 7 = .ok (.if_icmp .ge 31, 3) := dk_162 0 31 (dk_at dksX4_at_0 7 rfl rfl)
theorem dX4_at_10 : decode cX4_at 10 = .ok (.aload_n 0, 1) := dk_42 (dk_at dksX4_at_0 10 rfl rfl)
theorem dX4_at_11 : decode cX4_at 11 = .ok (.getfield 29, 3) := dk_180 0 29 (dk_at dksX4_at_0 11 rfl rfl)
theorem dX4_at_14 : decode cX4_at 14 = .ok (.iload_n 3, 1) := dk_29 (dk_at dksX4_at_0 14 rfl rfl)
theorem dX4_at_15 : decode cX4_at 15 = .ok (.iaload, 1) := dk_46 (dk_at dksX4_at_0 15 rfl rfl)
theorem dX4_at_16 : decode cX4_at 16 = .ok (.iload_n 1, 1) := dk_27 (dk_at dksX4_at_0 16 rfl rfl)
theorem dX4_at_17 : decode cX4_at 17 = .ok (.if_icmp .ne 15, 3) := dk_160 0 15 (dk_at dksX4_at_0 17 rfl rfl)
theorem dX4_at_20 : decode cX4_at 20 = .ok (.aload_n 0, 1) := dk_42 (dk_at dksX4_at_0 20 rfl rfl)
theorem dX4_at_21 : decode cX4_at 21 = .ok (.getfield 32, 3) := dk_180 0 32 (dk_at dksX4_at_0 21 rfl rfl)
theorem dX4_at_24 : decode cX4_at 24 = .ok (.iload_n 3, 1) := dk_29 (dk_at dksX4_at_1 0 rfl rfl)
theorem dX4_at_25 : decode cX4_at 25 = .ok (.iaload, 1) := dk_46 (dk_at dksX4_at_1 1 rfl rfl)
theorem dX4_at_26 : decode cX4_at 26 = .ok (.iload_n 2, 1) := dk_28 (dk_at dksX4_at_1 2 rfl rfl)
theorem dX4_at_27 : decode cX4_at 27 = .ok (.if_icmp .ne 5, 3) := dk_160 0 5 (dk_at dksX4_at_1 3 rfl rfl)
theorem dX4_at_30 : decode cX4_at 30 = .ok (.iload_n 3, 1) := dk_29 (dk_at dksX4_at_1 6 rfl rfl)
theorem dX4_at_31 : decode cX4_at 31 = .ok (.ireturn, 1) := dk_172 (dk_at dksX4_at_1 7 rfl rfl)
theorem dX4_at_32 : decode cX4_at 32 = .ok (.iinc 3 1, 3) := dk_132 3 1 (dk_at dksX4_at_1 8 rfl rfl)
theorem dX4_at_35 : decode cX4_at 35 = .ok (.goto (-33), 3) := dk_167 255 223 (dk_at dksX4_at_1 11 rfl rfl)
theorem dX4_at_38 : decode cX4_at 38 = .ok (.iconst (-1), 1) := dk_2 (dk_at dksX4_at_1 14 rfl rfl)
theorem dX4_at_39 : decode cX4_at 39 = .ok (.ireturn, 1) := dk_172 (dk_at dksX4_at_1 15 rfl rfl)
abbrev cX4_eyes : ByteArray := prog_21_method_41_code
def yX4_eyes : MethodName := ⟨RX4, "eyes", "(I)I"⟩
def dkwX4_eyes_1 : List UInt8 := [167, 0, 9, 42, 180, 0, 35, 27, 46, 172]
abbrev dktX4_eyes_1 : List UInt8 := dkwX4_eyes_1 ++ []
def dkwX4_eyes_0 : List UInt8 := [42, 180, 0, 26, 27, 46, 6, 160, 0, 19, 42, 180, 0, 35, 27, 46, 42, 180, 0, 38, 27, 46, 96]
abbrev dktX4_eyes_0 : List UInt8 := dkwX4_eyes_0 ++ dktX4_eyes_1
theorem dksX4_eyes_0 : cX4_eyes.data.toList.drop 0 = dktX4_eyes_0 := by decide +kernel
theorem dksX4_eyes_1 : cX4_eyes.data.toList.drop 23 = dktX4_eyes_1 := dk_seg dksX4_eyes_0 23 rfl rfl
theorem dX4_eyes_0 : decode cX4_eyes 0 = .ok (.aload_n 0, 1) := dk_42 (dk_at dksX4_eyes_0 0 rfl rfl)
theorem dX4_eyes_1 : decode cX4_eyes 1 = .ok (.getfield 26, 3) := dk_180 0 26 (dk_at dksX4_eyes_0 1 rfl rfl)
theorem dX4_eyes_4 : decode cX4_eyes 4 = .ok (.iload_n 1, 1) := dk_27 (dk_at dksX4_eyes_0 4 rfl rfl)
theorem dX4_eyes_5 : decode cX4_eyes 5 = .ok (.iaload, 1) := dk_46 (dk_at dksX4_eyes_0 5 rfl rfl)
theorem dX4_eyes_6 : decode cX4_eyes 6 = .ok (.iconst 3, 1) := dk_6 (dk_at dksX4_eyes_0 6 rfl rfl)
theorem dX4_eyes_7 : decode cX4_eyes 7 = .ok (.if_icmp .ne 19, 3) := dk_160 0 19 (dk_at dksX4_eyes_0 7 rfl rfl)
theorem dX4_eyes_10 : decode cX4_eyes 10 = .ok (.aload_n 0, 1) := dk_42 (dk_at dksX4_eyes_0 10 rfl rfl)
theorem dX4_eyes_11 : decode cX4_eyes 11 = .ok (.getfield 35, 3) := dk_180 0 35 (dk_at dksX4_eyes_0 11 rfl rfl)
theorem dX4_eyes_14 : decode cX4_eyes 14 = .ok (.iload_n 1, 1) := dk_27 (dk_at dksX4_eyes_0 14 rfl rfl)
theorem dX4_eyes_15 : decode cX4_eyes 15 = .ok (.iaload, 1) := dk_46 (dk_at dksX4_eyes_0 15 rfl rfl)
theorem dX4_eyes_16 : decode cX4_eyes 16 = .ok (.aload_n 0, 1) := dk_42 (dk_at dksX4_eyes_0 16 rfl rfl)
theorem dX4_eyes_17 : decode cX4_eyes 17 = .ok (.getfield 38, 3) := dk_180 0 38 (dk_at dksX4_eyes_0 17 rfl rfl)
theorem dX4_eyes_20 : decode cX4_eyes 20 = .ok (.iload_n 1, 1) := dk_27 (dk_at dksX4_eyes_0 20 rfl rfl)
theorem dX4_eyes_21 : decode cX4_eyes 21 = .ok (.iaload, 1) := dk_46 (dk_at dksX4_eyes_0 21 rfl rfl)
theorem dX4_eyes_22 : decode cX4_eyes 22 = .ok (.iadd, 1) := dk_96 (dk_at dksX4_eyes_0 22 rfl rfl)
theorem dX4_eyes_23 : decode cX4_eyes 23 = .ok (.goto 9, 3) := dk_167 0 9 (dk_at dksX4_eyes_1 0 rfl rfl)
theorem dX4_eyes_26 : decode cX4_eyes 26 = .ok (.aload_n 0, 1) := dk_42 (dk_at dksX4_eyes_1 3 rfl rfl)
theorem dX4_eyes_27 : decode cX4_eyes 27 = .ok (.getfield 35, 3) := dk_180 0 35 (dk_at dksX4_eyes_1 4 rfl rfl)
theorem dX4_eyes_30 : decode cX4_eyes 30 = .ok (.iload_n 1, 1) := dk_27 (dk_at dksX4_eyes_1 7 rfl rfl)
theorem dX4_eyes_31 : decode cX4_eyes 31 = .ok (.iaload, 1) := dk_46 (dk_at dksX4_eyes_1 8 rfl rfl)
theorem dX4_eyes_32 : decode cX4_eyes 32 = .ok (.ireturn, 1) := dk_172 (dk_at dksX4_eyes_1 9 rfl rfl)
abbrev cX4_many : ByteArray := prog_21_method_19_code
def yX4_many : MethodName := ⟨RX4, "many", "(I)I"⟩
def dkwX4_many_1 : List UInt8 := [28, 172]
abbrev dktX4_many_1 : List UInt8 := dkwX4_many_1 ++ []
def dkwX4_many_0 : List UInt8 := [3, 61, 3, 62, 29, 16, 8, 162, 0, 17, 28, 27, 29, 122, 4, 126, 96, 61, 132, 3, 1, 167, 255, 239]
abbrev dktX4_many_0 : List UInt8 := dkwX4_many_0 ++ dktX4_many_1
theorem dksX4_many_0 : cX4_many.data.toList.drop 0 = dktX4_many_0 := by decide +kernel
theorem dksX4_many_1 : cX4_many.data.toList.drop 24 = dktX4_many_1 := dk_seg dksX4_many_0 24 rfl rfl
theorem dX4_many_0 : decode cX4_many 0 = .ok (.iconst 0, 1) := dk_3 (dk_at dksX4_many_0 0 rfl rfl)
theorem dX4_many_1 : decode cX4_many 1 = .ok (.istore_n 2, 1) := dk_61 (dk_at dksX4_many_0 1 rfl rfl)
theorem dX4_many_2 : decode cX4_many 2 = .ok (.iconst 0, 1) := dk_3 (dk_at dksX4_many_0 2 rfl rfl)
theorem dX4_many_3 : decode cX4_many 3 = .ok (.istore_n 3, 1) := dk_62 (dk_at dksX4_many_0 3 rfl rfl)
theorem dX4_many_4 : decode cX4_many 4 = .ok (.iload_n 3, 1) := dk_29 (dk_at dksX4_many_0 4 rfl rfl)
theorem dX4_many_5 : decode cX4_many 5 = .ok (.bipush 8, 2) := dk_16 8 (dk_at dksX4_many_0 5 rfl rfl)
theorem dX4_many_7 : decode cX4_many 7 = .ok (.if_icmp .ge 17, 3) := dk_162 0 17 (dk_at dksX4_many_0 7 rfl rfl)
theorem dX4_many_10 : decode cX4_many 10 = .ok (.iload_n 2, 1) := dk_28 (dk_at dksX4_many_0 10 rfl rfl)
theorem dX4_many_11 : decode cX4_many 11 = .ok (.iload_n 1, 1) := dk_27 (dk_at dksX4_many_0 11 rfl rfl)
theorem dX4_many_12 : decode cX4_many 12 = .ok (.iload_n 3, 1) := dk_29 (dk_at dksX4_many_0 12 rfl rfl)
theorem dX4_many_13 : decode cX4_many 13 = .ok (.ishr, 1) := dk_122 (dk_at dksX4_many_0 13 rfl rfl)
theorem dX4_many_14 : decode cX4_many 14 = .ok (.iconst 1, 1) := dk_4 (dk_at dksX4_many_0 14 rfl rfl)
theorem dX4_many_15 : decode cX4_many 15 = .ok (.iand, 1) := dk_126 (dk_at dksX4_many_0 15 rfl rfl)
theorem dX4_many_16 : decode cX4_many 16 = .ok (.iadd, 1) := dk_96 (dk_at dksX4_many_0 16 rfl rfl)
theorem dX4_many_17 : decode cX4_many 17 = .ok (.istore_n 2, 1) := dk_61 (dk_at dksX4_many_0 17 rfl rfl)
theorem dX4_many_18 : decode cX4_many 18 = .ok (.iinc 3 1, 3) := dk_132 3 1 (dk_at dksX4_many_0 18 rfl rfl)
theorem dX4_many_21 : decode cX4_many 21 = .ok (.goto (-17), 3) := dk_167 255 239 (dk_at dksX4_many_0 21 rfl rfl)
theorem dX4_many_24 : decode cX4_many 24 = .ok (.iload_n 2, 1) := dk_28 (dk_at dksX4_many_1 0 rfl rfl)
theorem dX4_many_25 : decode cX4_many 25 = .ok (.ireturn, 1) := dk_172 (dk_at dksX4_many_1 1 rfl rfl)
abbrev cX4_isRight : ByteArray := prog_21_method_50_code
def yX4_isRight : MethodName := ⟨RX4, "isRight", "(I)Z"⟩
def dkwX4_isRight_1 : List UInt8 := [160, 0, 7, 4, 167, 0, 4, 3, 172]
abbrev dktX4_isRight_1 : List UInt8 := dkwX4_isRight_1 ++ []
def dkwX4_isRight_0 : List UInt8 := [42, 42, 27, 182, 0, 104, 182, 0, 107, 42, 180, 0, 26, 27, 46, 7, 160, 0, 7, 3, 167, 0, 4, 4]
abbrev dktX4_isRight_0 : List UInt8 := dkwX4_isRight_0 ++ dktX4_isRight_1
theorem dksX4_isRight_0 : cX4_isRight.data.toList.drop 0 = dktX4_isRight_0 := by decide +kernel
theorem dksX4_isRight_1 : cX4_isRight.data.toList.drop 24 = dktX4_isRight_1 := dk_seg dksX4_isRight_0 24 rfl rfl
theorem dX4_isRight_0 : decode cX4_isRight 0 = .ok (.aload_n 0, 1) := dk_42 (dk_at dksX4_isRight_0 0 rfl rfl)
theorem dX4_isRight_1 : decode cX4_isRight 1 = .ok (.aload_n 0, 1) := dk_42 (dk_at dksX4_isRight_0 1 rfl rfl)
theorem dX4_isRight_2 : decode cX4_isRight 2 = .ok (.iload_n 1, 1) := dk_27 (dk_at dksX4_isRight_0 2 rfl rfl)
theorem dX4_isRight_3 : decode cX4_isRight 3 = .ok (.invokevirtual 104, 3) := dk_182 0 104 (dk_at dksX4_isRight_0 3 rfl rfl)
theorem dX4_isRight_6 : decode cX4_isRight 6 = .ok (.invokevirtual 107, 3) := dk_182 0 107 (dk_at dksX4_isRight_0 6 rfl rfl)
theorem dX4_isRight_9 : decode cX4_isRight 9 = .ok (.aload_n 0, 1) := dk_42 (dk_at dksX4_isRight_0 9 rfl rfl)
theorem dX4_isRight_10 : decode cX4_isRight 10 = .ok (.getfield 26, 3) := dk_180 0 26 (dk_at dksX4_isRight_0 10 rfl rfl)
theorem dX4_isRight_13 : decode cX4_isRight 13 = .ok (.iload_n 1, 1) := dk_27 (dk_at dksX4_isRight_0 13 rfl rfl)
theorem dX4_isRight_14 : decode cX4_isRight 14 = .ok (.iaload, 1) := dk_46 (dk_at dksX4_isRight_0 14 rfl rfl)
theorem dX4_isRight_15 : decode cX4_isRight 15 = .ok (.iconst 4, 1) := dk_7 (dk_at dksX4_isRight_0 15 rfl rfl)
theorem dX4_isRight_16 : decode cX4_isRight 16 = .ok (.if_icmp .ne 7, 3) := dk_160 0 7 (dk_at dksX4_isRight_0 16 rfl rfl)
theorem dX4_isRight_19 : decode cX4_isRight 19 = .ok (.iconst 0, 1) := dk_3 (dk_at dksX4_isRight_0 19 rfl rfl)
theorem dX4_isRight_20 : decode cX4_isRight 20 = .ok (.goto 4, 3) := dk_167 0 4 (dk_at dksX4_isRight_0 20 rfl rfl)
theorem dX4_isRight_23 : decode cX4_isRight 23 = .ok (.iconst 1, 1) := dk_4 (dk_at dksX4_isRight_0 23 rfl rfl)
theorem dX4_isRight_24 : decode cX4_isRight 24 = .ok (.if_icmp .ne 7, 3) := dk_160 0 7 (dk_at dksX4_isRight_1 0 rfl rfl)
theorem dX4_isRight_27 : decode cX4_isRight 27 = .ok (.iconst 1, 1) := dk_4 (dk_at dksX4_isRight_1 3 rfl rfl)
theorem dX4_isRight_28 : decode cX4_isRight 28 = .ok (.goto 4, 3) := dk_167 0 4 (dk_at dksX4_isRight_1 4 rfl rfl)
theorem dX4_isRight_31 : decode cX4_isRight 31 = .ok (.iconst 0, 1) := dk_3 (dk_at dksX4_isRight_1 7 rfl rfl)
theorem dX4_isRight_32 : decode cX4_isRight 32 = .ok (.ireturn, 1) := dk_172 (dk_at dksX4_isRight_1 8 rfl rfl)
abbrev cX4_thing : ByteArray := prog_21_method_22_code
def yX4_thing : MethodName := ⟨RX4, "thing", "(IIIII)I"⟩
def dkwX4_thing_4 : List UInt8 := [182, 0, 97, 167, 0, 14, 42, 27, 28, 29, 21, 4, 21, 5, 182, 0, 120, 172]
abbrev dktX4_thing_4 : List UInt8 := dkwX4_thing_4 ++ []
def dkwX4_thing_3 : List UInt8 := [159, 0, 10, 42, 16, 250, 182, 0, 97, 172, 42, 180, 0, 84, 16, 8, 160, 0, 12, 42, 16, 249]
abbrev dktX4_thing_3 : List UInt8 := dkwX4_thing_3 ++ dktX4_thing_4
def dkwX4_thing_2 : List UInt8 := [163, 0, 25, 21, 5, 155, 0, 20, 21, 5, 16, 9, 163, 0, 13, 42, 28, 29, 182, 0, 116, 2]
abbrev dktX4_thing_2 : List UInt8 := dkwX4_thing_2 ++ dktX4_thing_3
def dkwX4_thing_1 : List UInt8 := [163, 0, 47, 29, 155, 0, 43, 29, 16, 9, 163, 0, 37, 21, 4, 155, 0, 32, 21, 4, 16, 20]
abbrev dktX4_thing_1 : List UInt8 := dkwX4_thing_1 ++ dktX4_thing_2
def dkwX4_thing_0 : List UInt8 := [27, 155, 0, 9, 27, 16, 6, 164, 0, 9, 42, 2, 182, 0, 97, 172, 28, 155, 0, 53, 28, 16, 9]
abbrev dktX4_thing_0 : List UInt8 := dkwX4_thing_0 ++ dktX4_thing_1
theorem dksX4_thing_0 : cX4_thing.data.toList.drop 0 = dktX4_thing_0 := by decide +kernel
theorem dksX4_thing_1 : cX4_thing.data.toList.drop 23 = dktX4_thing_1 := dk_seg dksX4_thing_0 23 rfl rfl
theorem dksX4_thing_2 : cX4_thing.data.toList.drop 45 = dktX4_thing_2 := dk_seg dksX4_thing_1 22 rfl rfl
theorem dksX4_thing_3 : cX4_thing.data.toList.drop 67 = dktX4_thing_3 := dk_seg dksX4_thing_2 22 rfl rfl
theorem dksX4_thing_4 : cX4_thing.data.toList.drop 89 = dktX4_thing_4 := dk_seg dksX4_thing_3 22 rfl rfl
theorem dX4_thing_0 : decode cX4_thing 0 = .ok (.iload_n 1, 1) := dk_27 (dk_at dksX4_thing_0 0 rfl rfl)
theorem dX4_thing_1 : decode cX4_thing 1 = .ok (.ifCond .lt 9, 3) := dk_155 0 9 (dk_at dksX4_thing_0 1 rfl rfl)
theorem dX4_thing_4 : decode cX4_thing 4 = .ok (.iload_n 1, 1) := dk_27 (dk_at dksX4_thing_0 4 rfl rfl)
theorem dX4_thing_5 : decode cX4_thing 5 = .ok (.bipush 6, 2) := dk_16 6 (dk_at dksX4_thing_0 5 rfl rfl)
theorem dX4_thing_7 : decode cX4_thing 7 = .ok (.if_icmp .le 9, 3) := dk_164 0 9 (dk_at dksX4_thing_0 7 rfl rfl)
theorem dX4_thing_10 : decode cX4_thing 10 = .ok (.aload_n 0, 1) := dk_42 (dk_at dksX4_thing_0 10 rfl rfl)
theorem dX4_thing_11 : decode cX4_thing 11 = .ok (.iconst (-1), 1) := dk_2 (dk_at dksX4_thing_0 11 rfl rfl)
theorem dX4_thing_12 : decode cX4_thing 12 = .ok (.invokevirtual 97, 3) := dk_182 0 97 (dk_at dksX4_thing_0 12 rfl rfl)
theorem dX4_thing_15 : decode cX4_thing 15 = .ok (.ireturn, 1) := dk_172 (dk_at dksX4_thing_0 15 rfl rfl)
theorem dX4_thing_16 : decode cX4_thing 16 = .ok (.iload_n 2, 1) := dk_28 (dk_at dksX4_thing_0 16 rfl rfl)
theorem dX4_thing_17 : decode cX4_thing 17 = .ok (.ifCond .lt 53, 3) := dk_155 0 53 (dk_at dksX4_thing_0 17 rfl rfl)
theorem dX4_thing_20 : decode cX4_thing 20 = .ok (.iload_n 2, 1) := dk_28 (dk_at dksX4_thing_0 20 rfl rfl)
theorem dX4_thing_21 : decode cX4_thing 21 = .ok (.bipush 9, 2) := dk_16 9 (dk_at dksX4_thing_0 21 rfl rfl)
theorem dX4_thing_23 : decode cX4_thing 23 = .ok (.if_icmp .gt 47, 3) := dk_163 0 47 (dk_at dksX4_thing_1 0 rfl rfl)
theorem dX4_thing_26 : decode cX4_thing 26 = .ok (.iload_n 3, 1) := dk_29 (dk_at dksX4_thing_1 3 rfl rfl)
theorem dX4_thing_27 : decode cX4_thing 27 = .ok (.ifCond .lt 43, 3) := dk_155 0 43 (dk_at dksX4_thing_1 4 rfl rfl)
theorem dX4_thing_30 : decode cX4_thing 30 = .ok (.iload_n 3, 1) := dk_29 (dk_at dksX4_thing_1 7 rfl rfl)
theorem dX4_thing_31 : decode cX4_thing 31 = .ok (.bipush 9, 2) := dk_16 9 (dk_at dksX4_thing_1 8 rfl rfl)
theorem dX4_thing_33 : decode cX4_thing 33 = .ok (.if_icmp .gt 37, 3) := dk_163 0 37 (dk_at dksX4_thing_1 10 rfl rfl)
theorem dX4_thing_36 : decode cX4_thing 36 = .ok (.iload 4, 2) := dk_21 4 (dk_at dksX4_thing_1 13 rfl rfl)
theorem dX4_thing_38 : decode cX4_thing 38 = .ok (.ifCond .lt 32, 3) := dk_155 0 32 (dk_at dksX4_thing_1 15 rfl rfl)
theorem dX4_thing_41 : decode cX4_thing 41 = .ok (.iload 4, 2) := dk_21 4 (dk_at dksX4_thing_1 18 rfl rfl)
theorem dX4_thing_43 : decode cX4_thing 43 = .ok (.bipush 20, 2) := dk_16 20 (dk_at dksX4_thing_1 20 rfl rfl)
theorem dX4_thing_45 : decode cX4_thing 45 = .ok (.if_icmp .gt 25, 3) := dk_163 0 25 (dk_at dksX4_thing_2 0 rfl rfl)
theorem dX4_thing_48 : decode cX4_thing 48 = .ok (.iload 5, 2) := dk_21 5 (dk_at dksX4_thing_2 3 rfl rfl)
theorem dX4_thing_50 : decode cX4_thing 50 = .ok (.ifCond .lt 20, 3) := dk_155 0 20 (dk_at dksX4_thing_2 5 rfl rfl)
theorem dX4_thing_53 : decode cX4_thing 53 = .ok (.iload 5, 2) := dk_21 5 (dk_at dksX4_thing_2 8 rfl rfl)
theorem dX4_thing_55 : decode cX4_thing 55 = .ok (.bipush 9, 2) := dk_16 9 (dk_at dksX4_thing_2 10 rfl rfl)
theorem dX4_thing_57 : decode cX4_thing 57 = .ok (.if_icmp .gt 13, 3) := dk_163 0 13 (dk_at dksX4_thing_2 12 rfl rfl)
theorem dX4_thing_60 : decode cX4_thing 60 = .ok (.aload_n 0, 1) := dk_42 (dk_at dksX4_thing_2 15 rfl rfl)
theorem dX4_thing_61 : decode cX4_thing 61 = .ok (.iload_n 2, 1) := dk_28 (dk_at dksX4_thing_2 16 rfl rfl)
theorem dX4_thing_62 : decode cX4_thing 62 = .ok (.iload_n 3, 1) := dk_29 (dk_at dksX4_thing_2 17 rfl rfl)
theorem dX4_thing_63 : decode cX4_thing 63 = .ok (.invokevirtual 116, 3) := dk_182 0 116 (dk_at dksX4_thing_2 18 rfl rfl)
theorem dX4_thing_66 : decode cX4_thing 66 = .ok (.iconst (-1), 1) := dk_2 (dk_at dksX4_thing_2 21 rfl rfl)
theorem dX4_thing_67 : decode cX4_thing 67 = .ok (.if_icmp .eq 10, 3) := dk_159 0 10 (dk_at dksX4_thing_3 0 rfl rfl)
theorem dX4_thing_70 : decode cX4_thing 70 = .ok (.aload_n 0, 1) := dk_42 (dk_at dksX4_thing_3 3 rfl rfl)
theorem dX4_thing_71 : decode cX4_thing 71 = .ok (.bipush (-6), 2) := dk_16 250 (dk_at dksX4_thing_3 4 rfl rfl)
theorem dX4_thing_73 : decode cX4_thing 73 = .ok (.invokevirtual 97, 3) := dk_182 0 97 (dk_at dksX4_thing_3 6 rfl rfl)
theorem dX4_thing_76 : decode cX4_thing 76 = .ok (.ireturn, 1) := dk_172 (dk_at dksX4_thing_3 9 rfl rfl)
theorem dX4_thing_77 : decode cX4_thing 77 = .ok (.aload_n 0, 1) := dk_42 (dk_at dksX4_thing_3 10 rfl rfl)
theorem dX4_thing_78 : decode cX4_thing 78 = .ok (.getfield 84, 3) := dk_180 0 84 (dk_at dksX4_thing_3 11 rfl rfl)
theorem dX4_thing_81 : decode cX4_thing 81 = .ok (.bipush 8, 2) := dk_16 8 (dk_at dksX4_thing_3 14 rfl rfl)
theorem dX4_thing_83 : decode cX4_thing 83 = .ok (.if_icmp .ne 12, 3) := dk_160 0 12 (dk_at dksX4_thing_3 16 rfl rfl)
theorem dX4_thing_86 : decode cX4_thing 86 = .ok (.aload_n 0, 1) := dk_42 (dk_at dksX4_thing_3 19 rfl rfl)
theorem dX4_thing_87 : decode cX4_thing 87 = .ok (.bipush (-7), 2) := dk_16 249 (dk_at dksX4_thing_3 20 rfl rfl)
theorem dX4_thing_89 : decode cX4_thing 89 = .ok (.invokevirtual 97, 3) := dk_182 0 97 (dk_at dksX4_thing_4 0 rfl rfl)
theorem dX4_thing_92 : decode cX4_thing 92 = .ok (.goto 14, 3) := dk_167 0 14 (dk_at dksX4_thing_4 3 rfl rfl)
theorem dX4_thing_95 : decode cX4_thing 95 = .ok (.aload_n 0, 1) := dk_42 (dk_at dksX4_thing_4 6 rfl rfl)
theorem dX4_thing_96 : decode cX4_thing 96 = .ok (.iload_n 1, 1) := dk_27 (dk_at dksX4_thing_4 7 rfl rfl)
theorem dX4_thing_97 : decode cX4_thing 97 = .ok (.iload_n 2, 1) := dk_28 (dk_at dksX4_thing_4 8 rfl rfl)
theorem dX4_thing_98 : decode cX4_thing 98 = .ok (.iload_n 3, 1) := dk_29 (dk_at dksX4_thing_4 9 rfl rfl)
theorem dX4_thing_99 : decode cX4_thing 99 = .ok (.iload 4, 2) := dk_21 4 (dk_at dksX4_thing_4 10 rfl rfl)
theorem dX4_thing_101 : decode cX4_thing 101 = .ok (.iload 5, 2) := dk_21 5 (dk_at dksX4_thing_4 12 rfl rfl)
theorem dX4_thing_103 : decode cX4_thing 103 = .ok (.invokevirtual 120, 3) := dk_182 0 120 (dk_at dksX4_thing_4 14 rfl rfl)
theorem dX4_thing_106 : decode cX4_thing 106 = .ok (.ireturn, 1) := dk_172 (dk_at dksX4_thing_4 17 rfl rfl)
abbrev cX4_adds : ByteArray := prog_21_method_21_code
def yX4_adds : MethodName := ⟨RX4, "adds", "(IIIII)I"⟩
def dkwX4_adds_5 : List UInt8 := [181, 0, 84, 172]
abbrev dktX4_adds_5 : List UInt8 := dkwX4_adds_5 ++ []
def dkwX4_adds_4 : List UInt8 := [180, 0, 84, 120, 2, 130, 126, 79, 132, 6, 1, 167, 255, 226, 42, 89, 180, 0, 84, 90, 4, 96]
abbrev dktX4_adds_4 : List UInt8 := dkwX4_adds_4 ++ dktX4_adds_5
def dkwX4_adds_3 : List UInt8 := [3, 79, 3, 54, 6, 21, 6, 42, 180, 0, 84, 162, 0, 27, 42, 180, 0, 44, 21, 6, 92, 46, 4, 42]
abbrev dktX4_adds_3 : List UInt8 := dkwX4_adds_3 ++ dktX4_adds_4
def dkwX4_adds_2 : List UInt8 := [180, 0, 84, 21, 5, 79, 42, 180, 0, 41, 42, 180, 0, 84, 3, 79, 42, 180, 0, 44, 42, 180, 0, 84]
abbrev dktX4_adds_2 : List UInt8 := dkwX4_adds_2 ++ dktX4_adds_3
def dkwX4_adds_1 : List UInt8 := [42, 180, 0, 84, 29, 79, 42, 180, 0, 35, 42, 180, 0, 84, 21, 4, 79, 42, 180, 0, 38, 42]
abbrev dktX4_adds_1 : List UInt8 := dkwX4_adds_1 ++ dktX4_adds_2
def dkwX4_adds_0 : List UInt8 := [42, 180, 0, 26, 42, 180, 0, 84, 27, 79, 42, 180, 0, 29, 42, 180, 0, 84, 28, 79, 42, 180, 0, 32]
abbrev dktX4_adds_0 : List UInt8 := dkwX4_adds_0 ++ dktX4_adds_1
theorem dksX4_adds_0 : cX4_adds.data.toList.drop 0 = dktX4_adds_0 := by decide +kernel
theorem dksX4_adds_1 : cX4_adds.data.toList.drop 24 = dktX4_adds_1 := dk_seg dksX4_adds_0 24 rfl rfl
theorem dksX4_adds_2 : cX4_adds.data.toList.drop 46 = dktX4_adds_2 := dk_seg dksX4_adds_1 22 rfl rfl
theorem dksX4_adds_3 : cX4_adds.data.toList.drop 70 = dktX4_adds_3 := dk_seg dksX4_adds_2 24 rfl rfl
theorem dksX4_adds_4 : cX4_adds.data.toList.drop 94 = dktX4_adds_4 := dk_seg dksX4_adds_3 24 rfl rfl
theorem dksX4_adds_5 : cX4_adds.data.toList.drop 116 = dktX4_adds_5 := dk_seg dksX4_adds_4 22 rfl rfl
theorem dX4_adds_0 : decode cX4_adds 0 = .ok (.aload_n 0, 1) := dk_42 (dk_at dksX4_adds_0 0 rfl rfl)
theorem dX4_adds_1 : decode cX4_adds 1 = .ok (.getfield 26, 3) := dk_180 0 26 (dk_at dksX4_adds_0 1 rfl rfl)
theorem dX4_adds_4 : decode cX4_adds 4 = .ok (.aload_n 0, 1) := dk_42 (dk_at dksX4_adds_0 4 rfl rfl)
theorem dX4_adds_5 : decode cX4_adds 5 = .ok (.getfield 84, 3) := dk_180 0 84 (dk_at dksX4_adds_0 5 rfl rfl)
theorem dX4_adds_8 : decode cX4_adds 8 = .ok (.iload_n 1, 1) := dk_27 (dk_at dksX4_adds_0 8 rfl rfl)
theorem dX4_adds_9 : decode cX4_adds 9 = .ok (.iastore, 1) := dk_79 (dk_at dksX4_adds_0 9 rfl rfl)
theorem dX4_adds_10 : decode cX4_adds 10 = .ok (.aload_n 0, 1) := dk_42 (dk_at dksX4_adds_0 10 rfl rfl)
theorem dX4_adds_11 : decode cX4_adds 11 = .ok (.getfield 29, 3) := dk_180 0 29 (dk_at dksX4_adds_0 11 rfl rfl)
theorem dX4_adds_14 : decode cX4_adds 14 = .ok (.aload_n 0, 1) := dk_42 (dk_at dksX4_adds_0 14 rfl rfl)
theorem dX4_adds_15 : decode cX4_adds 15 = .ok (.getfield 84, 3) := dk_180 0 84 (dk_at dksX4_adds_0 15 rfl rfl)
theorem dX4_adds_18 : decode cX4_adds 18 = .ok (.iload_n 2, 1) := dk_28 (dk_at dksX4_adds_0 18 rfl rfl)
theorem dX4_adds_19 : decode cX4_adds 19 = .ok (.iastore, 1) := dk_79 (dk_at dksX4_adds_0 19 rfl rfl)
theorem dX4_adds_20 : decode cX4_adds 20 = .ok (.aload_n 0, 1) := dk_42 (dk_at dksX4_adds_0 20 rfl rfl)
theorem dX4_adds_21 : decode cX4_adds 21 = .ok (.getfield 32, 3) := dk_180 0 32 (dk_at dksX4_adds_0 21 rfl rfl)
theorem dX4_adds_24 : decode cX4_adds 24 = .ok (.aload_n 0, 1) := dk_42 (dk_at dksX4_adds_1 0 rfl rfl)
theorem dX4_adds_25 : decode cX4_adds 25 = .ok (.getfield 84, 3) := dk_180 0 84 (dk_at dksX4_adds_1 1 rfl rfl)
theorem dX4_adds_28 : decode cX4_adds 28 = .ok (.iload_n 3, 1) := dk_29 (dk_at dksX4_adds_1 4 rfl rfl)
theorem dX4_adds_29 : decode cX4_adds 29 = .ok (.iastore, 1) := dk_79 (dk_at dksX4_adds_1 5 rfl rfl)
theorem dX4_adds_30 : decode cX4_adds 30 = .ok (.aload_n 0, 1) := dk_42 (dk_at dksX4_adds_1 6 rfl rfl)
theorem dX4_adds_31 : decode cX4_adds 31 = .ok (.getfield 35, 3) := dk_180 0 35 (dk_at dksX4_adds_1 7 rfl rfl)
theorem dX4_adds_34 : decode cX4_adds 34 = .ok (.aload_n 0, 1) := dk_42 (dk_at dksX4_adds_1 10 rfl rfl)
theorem dX4_adds_35 : decode cX4_adds 35 = .ok (.getfield 84, 3) := dk_180 0 84 (dk_at dksX4_adds_1 11 rfl rfl)
theorem dX4_adds_38 : decode cX4_adds 38 = .ok (.iload 4, 2) := dk_21 4 (dk_at dksX4_adds_1 14 rfl rfl)
theorem dX4_adds_40 : decode cX4_adds 40 = .ok (.iastore, 1) := dk_79 (dk_at dksX4_adds_1 16 rfl rfl)
theorem dX4_adds_41 : decode cX4_adds 41 = .ok (.aload_n 0, 1) := dk_42 (dk_at dksX4_adds_1 17 rfl rfl)
theorem dX4_adds_42 : decode cX4_adds 42 = .ok (.getfield 38, 3) := dk_180 0 38 (dk_at dksX4_adds_1 18 rfl rfl)
theorem dX4_adds_45 : decode cX4_adds 45 = .ok (.aload_n 0, 1) := dk_42 (dk_at dksX4_adds_1 21 rfl rfl)
theorem dX4_adds_46 : decode cX4_adds 46 = .ok (.getfield 84, 3) := dk_180 0 84 (dk_at dksX4_adds_2 0 rfl rfl)
theorem dX4_adds_49 : decode cX4_adds 49 = .ok (.iload 5, 2) := dk_21 5 (dk_at dksX4_adds_2 3 rfl rfl)
theorem dX4_adds_51 : decode cX4_adds 51 = .ok (.iastore, 1) := dk_79 (dk_at dksX4_adds_2 5 rfl rfl)
theorem dX4_adds_52 : decode cX4_adds 52 = .ok (.aload_n 0, 1) := dk_42 (dk_at dksX4_adds_2 6 rfl rfl)
theorem dX4_adds_53 : decode cX4_adds 53 = .ok (.getfield 41, 3) := dk_180 0 41 (dk_at dksX4_adds_2 7 rfl rfl)
theorem dX4_adds_56 : decode cX4_adds 56 = .ok (.aload_n 0, 1) := dk_42 (dk_at dksX4_adds_2 10 rfl rfl)
theorem dX4_adds_57 : decode cX4_adds 57 = .ok (.getfield 84, 3) := dk_180 0 84 (dk_at dksX4_adds_2 11 rfl rfl)
theorem dX4_adds_60 : decode cX4_adds 60 = .ok (.iconst 0, 1) := dk_3 (dk_at dksX4_adds_2 14 rfl rfl)
theorem dX4_adds_61 : decode cX4_adds 61 = .ok (.iastore, 1) := dk_79 (dk_at dksX4_adds_2 15 rfl rfl)
theorem dX4_adds_62 : decode cX4_adds 62 = .ok (.aload_n 0, 1) := dk_42 (dk_at dksX4_adds_2 16 rfl rfl)
theorem dX4_adds_63 : decode cX4_adds 63 = .ok (.getfield 44, 3) := dk_180 0 44 (dk_at dksX4_adds_2 17 rfl rfl)
theorem dX4_adds_66 : decode cX4_adds 66 = .ok (.aload_n 0, 1) := dk_42 (dk_at dksX4_adds_2 20 rfl rfl)
theorem dX4_adds_67 : decode cX4_adds 67 = .ok (.getfield 84, 3) := dk_180 0 84 (dk_at dksX4_adds_2 21 rfl rfl)
theorem dX4_adds_70 : decode cX4_adds 70 = .ok (.iconst 0, 1) := dk_3 (dk_at dksX4_adds_3 0 rfl rfl)
theorem dX4_adds_71 : decode cX4_adds 71 = .ok (.iastore, 1) := dk_79 (dk_at dksX4_adds_3 1 rfl rfl)
theorem dX4_adds_72 : decode cX4_adds 72 = .ok (.iconst 0, 1) := dk_3 (dk_at dksX4_adds_3 2 rfl rfl)
theorem dX4_adds_73 : decode cX4_adds 73 = .ok (.istore 6, 2) := dk_54 6 (dk_at dksX4_adds_3 3 rfl rfl)
theorem dX4_adds_75 : decode cX4_adds 75 = .ok (.iload 6, 2) := dk_21 6 (dk_at dksX4_adds_3 5 rfl rfl)
theorem dX4_adds_77 : decode cX4_adds 77 = .ok (.aload_n 0, 1) := dk_42 (dk_at dksX4_adds_3 7 rfl rfl)
theorem dX4_adds_78 : decode cX4_adds 78 = .ok (.getfield 84, 3) := dk_180 0 84 (dk_at dksX4_adds_3 8 rfl rfl)
theorem dX4_adds_81 : decode cX4_adds 81 = .ok (.if_icmp .ge 27, 3) := dk_162 0 27 (dk_at dksX4_adds_3 11 rfl rfl)
theorem dX4_adds_84 : decode cX4_adds 84 = .ok (.aload_n 0, 1) := dk_42 (dk_at dksX4_adds_3 14 rfl rfl)
theorem dX4_adds_85 : decode cX4_adds 85 = .ok (.getfield 44, 3) := dk_180 0 44 (dk_at dksX4_adds_3 15 rfl rfl)
theorem dX4_adds_88 : decode cX4_adds 88 = .ok (.iload 6, 2) := dk_21 6 (dk_at dksX4_adds_3 18 rfl rfl)
theorem dX4_adds_90 : decode cX4_adds 90 = .ok (.dup2, 1) := dk_92 (dk_at dksX4_adds_3 20 rfl rfl)
theorem dX4_adds_91 : decode cX4_adds 91 = .ok (.iaload, 1) := dk_46 (dk_at dksX4_adds_3 21 rfl rfl)
theorem dX4_adds_92 : decode cX4_adds 92 = .ok (.iconst 1, 1) := dk_4 (dk_at dksX4_adds_3 22 rfl rfl)
theorem dX4_adds_93 : decode cX4_adds 93 = .ok (.aload_n 0, 1) := dk_42 (dk_at dksX4_adds_3 23 rfl rfl)
theorem dX4_adds_94 : decode cX4_adds 94 = .ok (.getfield 84, 3) := dk_180 0 84 (dk_at dksX4_adds_4 0 rfl rfl)
theorem dX4_adds_97 : decode cX4_adds 97 = .ok (.ishl, 1) := dk_120 (dk_at dksX4_adds_4 3 rfl rfl)
theorem dX4_adds_98 : decode cX4_adds 98 = .ok (.iconst (-1), 1) := dk_2 (dk_at dksX4_adds_4 4 rfl rfl)
theorem dX4_adds_99 : decode cX4_adds 99 = .ok (.ixor, 1) := dk_130 (dk_at dksX4_adds_4 5 rfl rfl)
theorem dX4_adds_100 : decode cX4_adds 100 = .ok (.iand, 1) := dk_126 (dk_at dksX4_adds_4 6 rfl rfl)
theorem dX4_adds_101 : decode cX4_adds 101 = .ok (.iastore, 1) := dk_79 (dk_at dksX4_adds_4 7 rfl rfl)
theorem dX4_adds_102 : decode cX4_adds 102 = .ok (.iinc 6 1, 3) := dk_132 6 1 (dk_at dksX4_adds_4 8 rfl rfl)
theorem dX4_adds_105 : decode cX4_adds 105 = .ok (.goto (-30), 3) := dk_167 255 226 (dk_at dksX4_adds_4 11 rfl rfl)
theorem dX4_adds_108 : decode cX4_adds 108 = .ok (.aload_n 0, 1) := dk_42 (dk_at dksX4_adds_4 14 rfl rfl)
theorem dX4_adds_109 : decode cX4_adds 109 = .ok (.dup, 1) := dk_89 (dk_at dksX4_adds_4 15 rfl rfl)
theorem dX4_adds_110 : decode cX4_adds 110 = .ok (.getfield 84, 3) := dk_180 0 84 (dk_at dksX4_adds_4 16 rfl rfl)
theorem dX4_adds_113 : decode cX4_adds 113 = .ok (.dup_x1, 1) := dk_90 (dk_at dksX4_adds_4 19 rfl rfl)
theorem dX4_adds_114 : decode cX4_adds 114 = .ok (.iconst 1, 1) := dk_4 (dk_at dksX4_adds_4 20 rfl rfl)
theorem dX4_adds_115 : decode cX4_adds 115 = .ok (.iadd, 1) := dk_96 (dk_at dksX4_adds_4 21 rfl rfl)
theorem dX4_adds_116 : decode cX4_adds 116 = .ok (.putfield 84, 3) := dk_181 0 84 (dk_at dksX4_adds_5 0 rfl rfl)
theorem dX4_adds_119 : decode cX4_adds 119 = .ok (.ireturn, 1) := dk_172 (dk_at dksX4_adds_5 3 rfl rfl)
abbrev cX4_thingOf : ByteArray := prog_21_method_23_code
def yX4_thingOf : MethodName := ⟨RX4, "thingOf", "(II)I"⟩
def dkwX4_thingOf_5 : List UInt8 := [46, 172]
abbrev dktX4_thingOf_5 : List UInt8 := dkwX4_thingOf_5 ++ []
def dkwX4_thingOf_4 : List UInt8 := [180, 0, 35, 27, 46, 172, 42, 180, 0, 38, 27, 46, 172, 42, 27, 182, 0, 101, 172, 42, 180, 0, 41, 27]
abbrev dktX4_thingOf_4 : List UInt8 := dkwX4_thingOf_4 ++ dktX4_thingOf_5
def dkwX4_thingOf_3 : List UInt8 := [42, 180, 0, 26, 27, 46, 172, 42, 180, 0, 29, 27, 46, 172, 42, 180, 0, 32, 27, 46, 172, 42]
abbrev dktX4_thingOf_3 : List UInt8 := dkwX4_thingOf_3 ++ dktX4_thingOf_4
def dkwX4_thingOf_2 : List UInt8 := [170, 0, 0, 0, 0, 79, 0, 0, 0, 0, 0, 0, 0, 5, 0, 0, 0, 38, 0, 0, 0, 45, 0, 0, 0, 52, 0, 0, 0, 59, 0, 0, 0, 66, 0, 0, 0, 73]
abbrev dktX4_thingOf_2 : List UInt8 := dkwX4_thingOf_2 ++ dktX4_thingOf_3
def dkwX4_thingOf_1 : List UInt8 := [172, 28]
abbrev dktX4_thingOf_1 : List UInt8 := dkwX4_thingOf_1 ++ dktX4_thingOf_2
def dkwX4_thingOf_0 : List UInt8 := [42, 27, 182, 0, 87, 153, 0, 13, 28, 155, 0, 9, 28, 16, 6, 164, 0, 10, 42, 16, 251, 182, 0, 97]
abbrev dktX4_thingOf_0 : List UInt8 := dkwX4_thingOf_0 ++ dktX4_thingOf_1
theorem dksX4_thingOf_0 : cX4_thingOf.data.toList.drop 0 = dktX4_thingOf_0 := by decide +kernel
theorem dksX4_thingOf_1 : cX4_thingOf.data.toList.drop 24 = dktX4_thingOf_1 := dk_seg dksX4_thingOf_0 24 rfl rfl
theorem dksX4_thingOf_2 : cX4_thingOf.data.toList.drop 26 = dktX4_thingOf_2 := dk_seg dksX4_thingOf_1 2 rfl rfl
theorem dksX4_thingOf_3 : cX4_thingOf.data.toList.drop 64 = dktX4_thingOf_3 := dk_seg dksX4_thingOf_2 38 rfl rfl
theorem dksX4_thingOf_4 : cX4_thingOf.data.toList.drop 86 = dktX4_thingOf_4 := dk_seg dksX4_thingOf_3 22 rfl rfl
theorem dksX4_thingOf_5 : cX4_thingOf.data.toList.drop 110 = dktX4_thingOf_5 := dk_seg dksX4_thingOf_4 24 rfl rfl
theorem dX4_thingOf_0 : decode cX4_thingOf 0 = .ok (.aload_n 0, 1) := dk_42 (dk_at dksX4_thingOf_0 0 rfl rfl)
theorem dX4_thingOf_1 : decode cX4_thingOf 1 = .ok (.iload_n 1, 1) := dk_27 (dk_at dksX4_thingOf_0 1 rfl rfl)
theorem dX4_thingOf_2 : decode cX4_thingOf 2 = .ok (.invokevirtual 87, 3) := dk_182 0 87 (dk_at dksX4_thingOf_0 2 rfl rfl)
theorem dX4_thingOf_5 : decode cX4_thingOf 5 = .ok (.ifCond .eq 13, 3) := dk_153 0 13 (dk_at dksX4_thingOf_0 5 rfl rfl)
theorem dX4_thingOf_8 : decode cX4_thingOf 8 = .ok (.iload_n 2, 1) := dk_28 (dk_at dksX4_thingOf_0 8 rfl rfl)
theorem dX4_thingOf_9 : decode cX4_thingOf 9 = .ok (.ifCond .lt 9, 3) := dk_155 0 9 (dk_at dksX4_thingOf_0 9 rfl rfl)
theorem dX4_thingOf_12 : decode cX4_thingOf 12 = .ok (.iload_n 2, 1) := dk_28 (dk_at dksX4_thingOf_0 12 rfl rfl)
theorem dX4_thingOf_13 : decode cX4_thingOf 13 = .ok (.bipush 6, 2) := dk_16 6 (dk_at dksX4_thingOf_0 13 rfl rfl)
theorem dX4_thingOf_15 : decode cX4_thingOf 15 = .ok (.if_icmp .le 10, 3) := dk_164 0 10 (dk_at dksX4_thingOf_0 15 rfl rfl)
theorem dX4_thingOf_18 : decode cX4_thingOf 18 = .ok (.aload_n 0, 1) := dk_42 (dk_at dksX4_thingOf_0 18 rfl rfl)
theorem dX4_thingOf_19 : decode cX4_thingOf 19 = .ok (.bipush (-5), 2) := dk_16 251 (dk_at dksX4_thingOf_0 19 rfl rfl)
theorem dX4_thingOf_21 : decode cX4_thingOf 21 = .ok (.invokevirtual 97, 3) := dk_182 0 97 (dk_at dksX4_thingOf_0 21 rfl rfl)
theorem dX4_thingOf_24 : decode cX4_thingOf 24 = .ok (.ireturn, 1) := dk_172 (dk_at dksX4_thingOf_1 0 rfl rfl)
theorem dX4_thingOf_25 : decode cX4_thingOf 25 = .ok (.iload_n 2, 1) := dk_28 (dk_at dksX4_thingOf_1 1 rfl rfl)
theorem dX4_thingOf_26 : decode cX4_thingOf 26 = .ok (.tableswitch 79 0 5 #[38, 45, 52, 59, 66, 73], 38) := by decide +kernel
theorem dX4_thingOf_64 : decode cX4_thingOf 64 = .ok (.aload_n 0, 1) := dk_42 (dk_at dksX4_thingOf_3 0 rfl rfl)
theorem dX4_thingOf_65 : decode cX4_thingOf 65 = .ok (.getfield 26, 3) := dk_180 0 26 (dk_at dksX4_thingOf_3 1 rfl rfl)
theorem dX4_thingOf_68 : decode cX4_thingOf 68 = .ok (.iload_n 1, 1) := dk_27 (dk_at dksX4_thingOf_3 4 rfl rfl)
theorem dX4_thingOf_69 : decode cX4_thingOf 69 = .ok (.iaload, 1) := dk_46 (dk_at dksX4_thingOf_3 5 rfl rfl)
theorem dX4_thingOf_70 : decode cX4_thingOf 70 = .ok (.ireturn, 1) := dk_172 (dk_at dksX4_thingOf_3 6 rfl rfl)
theorem dX4_thingOf_71 : decode cX4_thingOf 71 = .ok (.aload_n 0, 1) := dk_42 (dk_at dksX4_thingOf_3 7 rfl rfl)
theorem dX4_thingOf_72 : decode cX4_thingOf 72 = .ok (.getfield 29, 3) := dk_180 0 29 (dk_at dksX4_thingOf_3 8 rfl rfl)
theorem dX4_thingOf_75 : decode cX4_thingOf 75 = .ok (.iload_n 1, 1) := dk_27 (dk_at dksX4_thingOf_3 11 rfl rfl)
theorem dX4_thingOf_76 : decode cX4_thingOf 76 = .ok (.iaload, 1) := dk_46 (dk_at dksX4_thingOf_3 12 rfl rfl)
theorem dX4_thingOf_77 : decode cX4_thingOf 77 = .ok (.ireturn, 1) := dk_172 (dk_at dksX4_thingOf_3 13 rfl rfl)
theorem dX4_thingOf_78 : decode cX4_thingOf 78 = .ok (.aload_n 0, 1) := dk_42 (dk_at dksX4_thingOf_3 14 rfl rfl)
theorem dX4_thingOf_79 : decode cX4_thingOf 79 = .ok (.getfield 32, 3) := dk_180 0 32 (dk_at dksX4_thingOf_3 15 rfl rfl)
theorem dX4_thingOf_82 : decode cX4_thingOf 82 = .ok (.iload_n 1, 1) := dk_27 (dk_at dksX4_thingOf_3 18 rfl rfl)
theorem dX4_thingOf_83 : decode cX4_thingOf 83 = .ok (.iaload, 1) := dk_46 (dk_at dksX4_thingOf_3 19 rfl rfl)
theorem dX4_thingOf_84 : decode cX4_thingOf 84 = .ok (.ireturn, 1) := dk_172 (dk_at dksX4_thingOf_3 20 rfl rfl)
theorem dX4_thingOf_85 : decode cX4_thingOf 85 = .ok (.aload_n 0, 1) := dk_42 (dk_at dksX4_thingOf_3 21 rfl rfl)
theorem dX4_thingOf_86 : decode cX4_thingOf 86 = .ok (.getfield 35, 3) := dk_180 0 35 (dk_at dksX4_thingOf_4 0 rfl rfl)
theorem dX4_thingOf_89 : decode cX4_thingOf 89 = .ok (.iload_n 1, 1) := dk_27 (dk_at dksX4_thingOf_4 3 rfl rfl)
theorem dX4_thingOf_90 : decode cX4_thingOf 90 = .ok (.iaload, 1) := dk_46 (dk_at dksX4_thingOf_4 4 rfl rfl)
theorem dX4_thingOf_91 : decode cX4_thingOf 91 = .ok (.ireturn, 1) := dk_172 (dk_at dksX4_thingOf_4 5 rfl rfl)
theorem dX4_thingOf_92 : decode cX4_thingOf 92 = .ok (.aload_n 0, 1) := dk_42 (dk_at dksX4_thingOf_4 6 rfl rfl)
theorem dX4_thingOf_93 : decode cX4_thingOf 93 = .ok (.getfield 38, 3) := dk_180 0 38 (dk_at dksX4_thingOf_4 7 rfl rfl)
theorem dX4_thingOf_96 : decode cX4_thingOf 96 = .ok (.iload_n 1, 1) := dk_27 (dk_at dksX4_thingOf_4 10 rfl rfl)
theorem dX4_thingOf_97 : decode cX4_thingOf 97 = .ok (.iaload, 1) := dk_46 (dk_at dksX4_thingOf_4 11 rfl rfl)
theorem dX4_thingOf_98 : decode cX4_thingOf 98 = .ok (.ireturn, 1) := dk_172 (dk_at dksX4_thingOf_4 12 rfl rfl)
theorem dX4_thingOf_99 : decode cX4_thingOf 99 = .ok (.aload_n 0, 1) := dk_42 (dk_at dksX4_thingOf_4 13 rfl rfl)
theorem dX4_thingOf_100 : decode cX4_thingOf 100 = .ok (.iload_n 1, 1) := dk_27 (dk_at dksX4_thingOf_4 14 rfl rfl)
theorem dX4_thingOf_101 : decode cX4_thingOf 101 = .ok (.invokevirtual 101, 3) := dk_182 0 101 (dk_at dksX4_thingOf_4 15 rfl rfl)
theorem dX4_thingOf_104 : decode cX4_thingOf 104 = .ok (.ireturn, 1) := dk_172 (dk_at dksX4_thingOf_4 18 rfl rfl)
theorem dX4_thingOf_105 : decode cX4_thingOf 105 = .ok (.aload_n 0, 1) := dk_42 (dk_at dksX4_thingOf_4 19 rfl rfl)
theorem dX4_thingOf_106 : decode cX4_thingOf 106 = .ok (.getfield 41, 3) := dk_180 0 41 (dk_at dksX4_thingOf_4 20 rfl rfl)
theorem dX4_thingOf_109 : decode cX4_thingOf 109 = .ok (.iload_n 1, 1) := dk_27 (dk_at dksX4_thingOf_4 23 rfl rfl)
theorem dX4_thingOf_110 : decode cX4_thingOf 110 = .ok (.iaload, 1) := dk_46 (dk_at dksX4_thingOf_5 0 rfl rfl)
theorem dX4_thingOf_111 : decode cX4_thingOf 111 = .ok (.ireturn, 1) := dk_172 (dk_at dksX4_thingOf_5 1 rfl rfl)
abbrev cX4_height : ByteArray := prog_21_method_24_code
def yX4_height : MethodName := ⟨RX4, "height", "(II)I"⟩
def dkwX4_height_1 : List UInt8 := [42, 16, 250, 182, 0, 97, 172, 42, 180, 0, 35, 27, 46, 62, 42, 180, 0, 35, 27, 28, 79, 29, 172]
abbrev dktX4_height_1 : List UInt8 := dkwX4_height_1 ++ []
def dkwX4_height_0 : List UInt8 := [42, 27, 182, 0, 87, 154, 0, 9, 42, 2, 182, 0, 97, 172, 28, 155, 0, 9, 28, 16, 20, 164, 0, 10]
abbrev dktX4_height_0 : List UInt8 := dkwX4_height_0 ++ dktX4_height_1
theorem dksX4_height_0 : cX4_height.data.toList.drop 0 = dktX4_height_0 := by decide +kernel
theorem dksX4_height_1 : cX4_height.data.toList.drop 24 = dktX4_height_1 := dk_seg dksX4_height_0 24 rfl rfl
theorem dX4_height_0 : decode cX4_height 0 = .ok (.aload_n 0, 1) := dk_42 (dk_at dksX4_height_0 0 rfl rfl)
theorem dX4_height_1 : decode cX4_height 1 = .ok (.iload_n 1, 1) := dk_27 (dk_at dksX4_height_0 1 rfl rfl)
theorem dX4_height_2 : decode cX4_height 2 = .ok (.invokevirtual 87, 3) := dk_182 0 87 (dk_at dksX4_height_0 2 rfl rfl)
theorem dX4_height_5 : decode cX4_height 5 = .ok (.ifCond .ne 9, 3) := dk_154 0 9 (dk_at dksX4_height_0 5 rfl rfl)
theorem dX4_height_8 : decode cX4_height 8 = .ok (.aload_n 0, 1) := dk_42 (dk_at dksX4_height_0 8 rfl rfl)
theorem dX4_height_9 : decode cX4_height 9 = .ok (.iconst (-1), 1) := dk_2 (dk_at dksX4_height_0 9 rfl rfl)
theorem dX4_height_10 : decode cX4_height 10 = .ok (.invokevirtual 97, 3) := dk_182 0 97 (dk_at dksX4_height_0 10 rfl rfl)
theorem dX4_height_13 : decode cX4_height 13 = .ok (.ireturn, 1) := dk_172 (dk_at dksX4_height_0 13 rfl rfl)
theorem dX4_height_14 : decode cX4_height 14 = .ok (.iload_n 2, 1) := dk_28 (dk_at dksX4_height_0 14 rfl rfl)
theorem dX4_height_15 : decode cX4_height 15 = .ok (.ifCond .lt 9, 3) := dk_155 0 9 (dk_at dksX4_height_0 15 rfl rfl)
theorem dX4_height_18 : decode cX4_height 18 = .ok (.iload_n 2, 1) := dk_28 (dk_at dksX4_height_0 18 rfl rfl)
theorem dX4_height_19 : decode cX4_height 19 = .ok (.bipush 20, 2) := dk_16 20 (dk_at dksX4_height_0 19 rfl rfl)
theorem dX4_height_21 : decode cX4_height 21 = .ok (.if_icmp .le 10, 3) := dk_164 0 10 (dk_at dksX4_height_0 21 rfl rfl)
theorem dX4_height_24 : decode cX4_height 24 = .ok (.aload_n 0, 1) := dk_42 (dk_at dksX4_height_1 0 rfl rfl)
theorem dX4_height_25 : decode cX4_height 25 = .ok (.bipush (-6), 2) := dk_16 250 (dk_at dksX4_height_1 1 rfl rfl)
theorem dX4_height_27 : decode cX4_height 27 = .ok (.invokevirtual 97, 3) := dk_182 0 97 (dk_at dksX4_height_1 3 rfl rfl)
theorem dX4_height_30 : decode cX4_height 30 = .ok (.ireturn, 1) := dk_172 (dk_at dksX4_height_1 6 rfl rfl)
theorem dX4_height_31 : decode cX4_height 31 = .ok (.aload_n 0, 1) := dk_42 (dk_at dksX4_height_1 7 rfl rfl)
theorem dX4_height_32 : decode cX4_height 32 = .ok (.getfield 35, 3) := dk_180 0 35 (dk_at dksX4_height_1 8 rfl rfl)
theorem dX4_height_35 : decode cX4_height 35 = .ok (.iload_n 1, 1) := dk_27 (dk_at dksX4_height_1 11 rfl rfl)
theorem dX4_height_36 : decode cX4_height 36 = .ok (.iaload, 1) := dk_46 (dk_at dksX4_height_1 12 rfl rfl)
theorem dX4_height_37 : decode cX4_height 37 = .ok (.istore_n 3, 1) := dk_62 (dk_at dksX4_height_1 13 rfl rfl)
theorem dX4_height_38 : decode cX4_height 38 = .ok (.aload_n 0, 1) := dk_42 (dk_at dksX4_height_1 14 rfl rfl)
theorem dX4_height_39 : decode cX4_height 39 = .ok (.getfield 35, 3) := dk_180 0 35 (dk_at dksX4_height_1 15 rfl rfl)
theorem dX4_height_42 : decode cX4_height 42 = .ok (.iload_n 1, 1) := dk_27 (dk_at dksX4_height_1 18 rfl rfl)
theorem dX4_height_43 : decode cX4_height 43 = .ok (.iload_n 2, 1) := dk_28 (dk_at dksX4_height_1 19 rfl rfl)
theorem dX4_height_44 : decode cX4_height 44 = .ok (.iastore, 1) := dk_79 (dk_at dksX4_height_1 20 rfl rfl)
theorem dX4_height_45 : decode cX4_height 45 = .ok (.iload_n 3, 1) := dk_29 (dk_at dksX4_height_1 21 rfl rfl)
theorem dX4_height_46 : decode cX4_height 46 = .ok (.ireturn, 1) := dk_172 (dk_at dksX4_height_1 22 rfl rfl)
abbrev cX4_ask : ByteArray := prog_21_method_25_code
def yX4_ask : MethodName := ⟨RX4, "ask", "(II)I"⟩
def dkwX4_ask_2 : List UInt8 := [42, 28, 181, 0, 13, 167, 0, 10, 42, 16, 250, 182, 0, 97, 172, 29, 172]
abbrev dktX4_ask_2 : List UInt8 := dkwX4_ask_2 ++ []
def dkwX4_ask_1 : List UInt8 := [167, 0, 39, 27, 4, 160, 0, 27, 28, 4, 161, 0, 22, 28, 16, 9, 163, 0, 16, 42, 180, 0, 13, 62]
abbrev dktX4_ask_1 : List UInt8 := dkwX4_ask_1 ++ dktX4_ask_2
def dkwX4_ask_0 : List UInt8 := [27, 154, 0, 25, 28, 155, 0, 21, 28, 4, 163, 0, 16, 42, 180, 0, 7, 62, 42, 28, 181, 0, 7]
abbrev dktX4_ask_0 : List UInt8 := dkwX4_ask_0 ++ dktX4_ask_1
theorem dksX4_ask_0 : cX4_ask.data.toList.drop 0 = dktX4_ask_0 := by decide +kernel
theorem dksX4_ask_1 : cX4_ask.data.toList.drop 23 = dktX4_ask_1 := dk_seg dksX4_ask_0 23 rfl rfl
theorem dksX4_ask_2 : cX4_ask.data.toList.drop 47 = dktX4_ask_2 := dk_seg dksX4_ask_1 24 rfl rfl
theorem dX4_ask_0 : decode cX4_ask 0 = .ok (.iload_n 1, 1) := dk_27 (dk_at dksX4_ask_0 0 rfl rfl)
theorem dX4_ask_1 : decode cX4_ask 1 = .ok (.ifCond .ne 25, 3) := dk_154 0 25 (dk_at dksX4_ask_0 1 rfl rfl)
theorem dX4_ask_4 : decode cX4_ask 4 = .ok (.iload_n 2, 1) := dk_28 (dk_at dksX4_ask_0 4 rfl rfl)
theorem dX4_ask_5 : decode cX4_ask 5 = .ok (.ifCond .lt 21, 3) := dk_155 0 21 (dk_at dksX4_ask_0 5 rfl rfl)
theorem dX4_ask_8 : decode cX4_ask 8 = .ok (.iload_n 2, 1) := dk_28 (dk_at dksX4_ask_0 8 rfl rfl)
theorem dX4_ask_9 : decode cX4_ask 9 = .ok (.iconst 1, 1) := dk_4 (dk_at dksX4_ask_0 9 rfl rfl)
theorem dX4_ask_10 : decode cX4_ask 10 = .ok (.if_icmp .gt 16, 3) := dk_163 0 16 (dk_at dksX4_ask_0 10 rfl rfl)
theorem dX4_ask_13 : decode cX4_ask 13 = .ok (.aload_n 0, 1) := dk_42 (dk_at dksX4_ask_0 13 rfl rfl)
theorem dX4_ask_14 : decode cX4_ask 14 = .ok (.getfield 7, 3) := dk_180 0 7 (dk_at dksX4_ask_0 14 rfl rfl)
theorem dX4_ask_17 : decode cX4_ask 17 = .ok (.istore_n 3, 1) := dk_62 (dk_at dksX4_ask_0 17 rfl rfl)
theorem dX4_ask_18 : decode cX4_ask 18 = .ok (.aload_n 0, 1) := dk_42 (dk_at dksX4_ask_0 18 rfl rfl)
theorem dX4_ask_19 : decode cX4_ask 19 = .ok (.iload_n 2, 1) := dk_28 (dk_at dksX4_ask_0 19 rfl rfl)
theorem dX4_ask_20 : decode cX4_ask 20 = .ok (.putfield 7, 3) := dk_181 0 7 (dk_at dksX4_ask_0 20 rfl rfl)
theorem dX4_ask_23 : decode cX4_ask 23 = .ok (.goto 39, 3) := dk_167 0 39 (dk_at dksX4_ask_1 0 rfl rfl)
theorem dX4_ask_26 : decode cX4_ask 26 = .ok (.iload_n 1, 1) := dk_27 (dk_at dksX4_ask_1 3 rfl rfl)
theorem dX4_ask_27 : decode cX4_ask 27 = .ok (.iconst 1, 1) := dk_4 (dk_at dksX4_ask_1 4 rfl rfl)
theorem dX4_ask_28 : decode cX4_ask 28 = .ok (.if_icmp .ne 27, 3) := dk_160 0 27 (dk_at dksX4_ask_1 5 rfl rfl)
theorem dX4_ask_31 : decode cX4_ask 31 = .ok (.iload_n 2, 1) := dk_28 (dk_at dksX4_ask_1 8 rfl rfl)
theorem dX4_ask_32 : decode cX4_ask 32 = .ok (.iconst 1, 1) := dk_4 (dk_at dksX4_ask_1 9 rfl rfl)
theorem dX4_ask_33 : decode cX4_ask 33 = .ok (.if_icmp .lt 22, 3) := dk_161 0 22 (dk_at dksX4_ask_1 10 rfl rfl)
theorem dX4_ask_36 : decode cX4_ask 36 = .ok (.iload_n 2, 1) := dk_28 (dk_at dksX4_ask_1 13 rfl rfl)
theorem dX4_ask_37 : decode cX4_ask 37 = .ok (.bipush 9, 2) := dk_16 9 (dk_at dksX4_ask_1 14 rfl rfl)
theorem dX4_ask_39 : decode cX4_ask 39 = .ok (.if_icmp .gt 16, 3) := dk_163 0 16 (dk_at dksX4_ask_1 16 rfl rfl)
theorem dX4_ask_42 : decode cX4_ask 42 = .ok (.aload_n 0, 1) := dk_42 (dk_at dksX4_ask_1 19 rfl rfl)
theorem dX4_ask_43 : decode cX4_ask 43 = .ok (.getfield 13, 3) := dk_180 0 13 (dk_at dksX4_ask_1 20 rfl rfl)
theorem dX4_ask_46 : decode cX4_ask 46 = .ok (.istore_n 3, 1) := dk_62 (dk_at dksX4_ask_1 23 rfl rfl)
theorem dX4_ask_47 : decode cX4_ask 47 = .ok (.aload_n 0, 1) := dk_42 (dk_at dksX4_ask_2 0 rfl rfl)
theorem dX4_ask_48 : decode cX4_ask 48 = .ok (.iload_n 2, 1) := dk_28 (dk_at dksX4_ask_2 1 rfl rfl)
theorem dX4_ask_49 : decode cX4_ask 49 = .ok (.putfield 13, 3) := dk_181 0 13 (dk_at dksX4_ask_2 2 rfl rfl)
theorem dX4_ask_52 : decode cX4_ask 52 = .ok (.goto 10, 3) := dk_167 0 10 (dk_at dksX4_ask_2 5 rfl rfl)
theorem dX4_ask_55 : decode cX4_ask 55 = .ok (.aload_n 0, 1) := dk_42 (dk_at dksX4_ask_2 8 rfl rfl)
theorem dX4_ask_56 : decode cX4_ask 56 = .ok (.bipush (-6), 2) := dk_16 250 (dk_at dksX4_ask_2 9 rfl rfl)
theorem dX4_ask_58 : decode cX4_ask 58 = .ok (.invokevirtual 97, 3) := dk_182 0 97 (dk_at dksX4_ask_2 11 rfl rfl)
theorem dX4_ask_61 : decode cX4_ask 61 = .ok (.ireturn, 1) := dk_172 (dk_at dksX4_ask_2 14 rfl rfl)
theorem dX4_ask_62 : decode cX4_ask 62 = .ok (.iload_n 3, 1) := dk_29 (dk_at dksX4_ask_2 15 rfl rfl)
theorem dX4_ask_63 : decode cX4_ask 63 = .ok (.ireturn, 1) := dk_172 (dk_at dksX4_ask_2 16 rfl rfl)
abbrev cX4_shut : ByteArray := prog_21_method_26_code
def yX4_shut : MethodName := ⟨RX4, "shut", "(IIZ)I"⟩
def dkwX4_shut_3 : List UInt8 := [180, 0, 44, 27, 46, 160, 0, 7, 3, 167, 0, 4, 4, 172]
abbrev dktX4_shut_3 : List UInt8 := dkwX4_shut_3 ++ []
def dkwX4_shut_2 : List UInt8 := [153, 0, 12, 21, 5, 4, 28, 120, 128, 167, 0, 11, 21, 5, 4, 28, 120, 2, 130, 126, 79, 21, 5, 42]
abbrev dktX4_shut_2 : List UInt8 := dkwX4_shut_2 ++ dktX4_shut_3
def dkwX4_shut_1 : List UInt8 := [160, 0, 10, 42, 16, 250, 182, 0, 97, 172, 42, 180, 0, 44, 27, 46, 54, 5, 42, 180, 0, 44, 27, 29]
abbrev dktX4_shut_1 : List UInt8 := dkwX4_shut_1 ++ dktX4_shut_2
def dkwX4_shut_0 : List UInt8 := [42, 27, 28, 182, 0, 124, 54, 4, 21, 4, 153, 0, 10, 42, 21, 4, 182, 0, 97, 172, 27, 28]
abbrev dktX4_shut_0 : List UInt8 := dkwX4_shut_0 ++ dktX4_shut_1
theorem dksX4_shut_0 : cX4_shut.data.toList.drop 0 = dktX4_shut_0 := by decide +kernel
theorem dksX4_shut_1 : cX4_shut.data.toList.drop 22 = dktX4_shut_1 := dk_seg dksX4_shut_0 22 rfl rfl
theorem dksX4_shut_2 : cX4_shut.data.toList.drop 46 = dktX4_shut_2 := dk_seg dksX4_shut_1 24 rfl rfl
theorem dksX4_shut_3 : cX4_shut.data.toList.drop 70 = dktX4_shut_3 := dk_seg dksX4_shut_2 24 rfl rfl
theorem dX4_shut_0 : decode cX4_shut 0 = .ok (.aload_n 0, 1) := dk_42 (dk_at dksX4_shut_0 0 rfl rfl)
theorem dX4_shut_1 : decode cX4_shut 1 = .ok (.iload_n 1, 1) := dk_27 (dk_at dksX4_shut_0 1 rfl rfl)
theorem dX4_shut_2 : decode cX4_shut 2 = .ok (.iload_n 2, 1) := dk_28 (dk_at dksX4_shut_0 2 rfl rfl)
theorem dX4_shut_3 : decode cX4_shut 3 = .ok (.invokevirtual 124, 3) := dk_182 0 124 (dk_at dksX4_shut_0 3 rfl rfl)
theorem dX4_shut_6 : decode cX4_shut 6 = .ok (.istore 4, 2) := dk_54 4 (dk_at dksX4_shut_0 6 rfl rfl)
theorem dX4_shut_8 : decode cX4_shut 8 = .ok (.iload 4, 2) := dk_21 4 (dk_at dksX4_shut_0 8 rfl rfl)
theorem dX4_shut_10 : decode cX4_shut 10 = .ok (.ifCond .eq 10, 3) := dk_153 0 10 (dk_at dksX4_shut_0 10 rfl rfl)
theorem dX4_shut_13 : decode cX4_shut 13 = .ok (.aload_n 0, 1) := dk_42 (dk_at dksX4_shut_0 13 rfl rfl)
theorem dX4_shut_14 : decode cX4_shut 14 = .ok (.iload 4, 2) := dk_21 4 (dk_at dksX4_shut_0 14 rfl rfl)
theorem dX4_shut_16 : decode cX4_shut 16 = .ok (.invokevirtual 97, 3) := dk_182 0 97 (dk_at dksX4_shut_0 16 rfl rfl)
theorem dX4_shut_19 : decode cX4_shut 19 = .ok (.ireturn, 1) := dk_172 (dk_at dksX4_shut_0 19 rfl rfl)
theorem dX4_shut_20 : decode cX4_shut 20 = .ok (.iload_n 1, 1) := dk_27 (dk_at dksX4_shut_0 20 rfl rfl)
theorem dX4_shut_21 : decode cX4_shut 21 = .ok (.iload_n 2, 1) := dk_28 (dk_at dksX4_shut_0 21 rfl rfl)
theorem dX4_shut_22 : decode cX4_shut 22 = .ok (.if_icmp .ne 10, 3) := dk_160 0 10 (dk_at dksX4_shut_1 0 rfl rfl)
theorem dX4_shut_25 : decode cX4_shut 25 = .ok (.aload_n 0, 1) := dk_42 (dk_at dksX4_shut_1 3 rfl rfl)
theorem dX4_shut_26 : decode cX4_shut 26 = .ok (.bipush (-6), 2) := dk_16 250 (dk_at dksX4_shut_1 4 rfl rfl)
theorem dX4_shut_28 : decode cX4_shut 28 = .ok (.invokevirtual 97, 3) := dk_182 0 97 (dk_at dksX4_shut_1 6 rfl rfl)
theorem dX4_shut_31 : decode cX4_shut 31 = .ok (.ireturn, 1) := dk_172 (dk_at dksX4_shut_1 9 rfl rfl)
theorem dX4_shut_32 : decode cX4_shut 32 = .ok (.aload_n 0, 1) := dk_42 (dk_at dksX4_shut_1 10 rfl rfl)
theorem dX4_shut_33 : decode cX4_shut 33 = .ok (.getfield 44, 3) := dk_180 0 44 (dk_at dksX4_shut_1 11 rfl rfl)
theorem dX4_shut_36 : decode cX4_shut 36 = .ok (.iload_n 1, 1) := dk_27 (dk_at dksX4_shut_1 14 rfl rfl)
theorem dX4_shut_37 : decode cX4_shut 37 = .ok (.iaload, 1) := dk_46 (dk_at dksX4_shut_1 15 rfl rfl)
theorem dX4_shut_38 : decode cX4_shut 38 = .ok (.istore 5, 2) := dk_54 5 (dk_at dksX4_shut_1 16 rfl rfl)
theorem dX4_shut_40 : decode cX4_shut 40 = .ok (.aload_n 0, 1) := dk_42 (dk_at dksX4_shut_1 18 rfl rfl)
theorem dX4_shut_41 : decode cX4_shut 41 = .ok (.getfield 44, 3) := dk_180 0 44 (dk_at dksX4_shut_1 19 rfl rfl)
theorem dX4_shut_44 : decode cX4_shut 44 = .ok (.iload_n 1, 1) := dk_27 (dk_at dksX4_shut_1 22 rfl rfl)
theorem dX4_shut_45 : decode cX4_shut 45 = .ok (.iload_n 3, 1) := dk_29 (dk_at dksX4_shut_1 23 rfl rfl)
theorem dX4_shut_46 : decode cX4_shut 46 = .ok (.ifCond .eq 12, 3) := dk_153 0 12 (dk_at dksX4_shut_2 0 rfl rfl)
theorem dX4_shut_49 : decode cX4_shut 49 = .ok (.iload 5, 2) := dk_21 5 (dk_at dksX4_shut_2 3 rfl rfl)
theorem dX4_shut_51 : decode cX4_shut 51 = .ok (.iconst 1, 1) := dk_4 (dk_at dksX4_shut_2 5 rfl rfl)
theorem dX4_shut_52 : decode cX4_shut 52 = .ok (.iload_n 2, 1) := dk_28 (dk_at dksX4_shut_2 6 rfl rfl)
theorem dX4_shut_53 : decode cX4_shut 53 = .ok (.ishl, 1) := dk_120 (dk_at dksX4_shut_2 7 rfl rfl)
theorem dX4_shut_54 : decode cX4_shut 54 = .ok (.ior, 1) := dk_128 (dk_at dksX4_shut_2 8 rfl rfl)
theorem dX4_shut_55 : decode cX4_shut 55 = .ok (.goto 11, 3) := dk_167 0 11 (dk_at dksX4_shut_2 9 rfl rfl)
theorem dX4_shut_58 : decode cX4_shut 58 = .ok (.iload 5, 2) := dk_21 5 (dk_at dksX4_shut_2 12 rfl rfl)
theorem dX4_shut_60 : decode cX4_shut 60 = .ok (.iconst 1, 1) := dk_4 (dk_at dksX4_shut_2 14 rfl rfl)
theorem dX4_shut_61 : decode cX4_shut 61 = .ok (.iload_n 2, 1) := dk_28 (dk_at dksX4_shut_2 15 rfl rfl)
theorem dX4_shut_62 : decode cX4_shut 62 = .ok (.ishl, 1) := dk_120 (dk_at dksX4_shut_2 16 rfl rfl)
theorem dX4_shut_63 : decode cX4_shut 63 = .ok (.iconst (-1), 1) := dk_2 (dk_at dksX4_shut_2 17 rfl rfl)
theorem dX4_shut_64 : decode cX4_shut 64 = .ok (.ixor, 1) := dk_130 (dk_at dksX4_shut_2 18 rfl rfl)
theorem dX4_shut_65 : decode cX4_shut 65 = .ok (.iand, 1) := dk_126 (dk_at dksX4_shut_2 19 rfl rfl)
theorem dX4_shut_66 : decode cX4_shut 66 = .ok (.iastore, 1) := dk_79 (dk_at dksX4_shut_2 20 rfl rfl)
theorem dX4_shut_67 : decode cX4_shut 67 = .ok (.iload 5, 2) := dk_21 5 (dk_at dksX4_shut_2 21 rfl rfl)
theorem dX4_shut_69 : decode cX4_shut 69 = .ok (.aload_n 0, 1) := dk_42 (dk_at dksX4_shut_2 23 rfl rfl)
theorem dX4_shut_70 : decode cX4_shut 70 = .ok (.getfield 44, 3) := dk_180 0 44 (dk_at dksX4_shut_3 0 rfl rfl)
theorem dX4_shut_73 : decode cX4_shut 73 = .ok (.iload_n 1, 1) := dk_27 (dk_at dksX4_shut_3 3 rfl rfl)
theorem dX4_shut_74 : decode cX4_shut 74 = .ok (.iaload, 1) := dk_46 (dk_at dksX4_shut_3 4 rfl rfl)
theorem dX4_shut_75 : decode cX4_shut 75 = .ok (.if_icmp .ne 7, 3) := dk_160 0 7 (dk_at dksX4_shut_3 5 rfl rfl)
theorem dX4_shut_78 : decode cX4_shut 78 = .ok (.iconst 0, 1) := dk_3 (dk_at dksX4_shut_3 8 rfl rfl)
theorem dX4_shut_79 : decode cX4_shut 79 = .ok (.goto 4, 3) := dk_167 0 4 (dk_at dksX4_shut_3 9 rfl rfl)
theorem dX4_shut_82 : decode cX4_shut 82 = .ok (.iconst 1, 1) := dk_4 (dk_at dksX4_shut_3 12 rfl rfl)
theorem dX4_shut_83 : decode cX4_shut 83 = .ok (.ireturn, 1) := dk_172 (dk_at dksX4_shut_3 13 rfl rfl)
abbrev cX4_barredTwo : ByteArray := prog_21_method_9_code
def yX4_barredTwo : MethodName := ⟨RX4, "barredTwo", "(II)I"⟩
def dkwX4_barredTwo_1 : List UInt8 := [153, 0, 15, 42, 28, 182, 0, 91, 153, 0, 7, 3, 167, 0, 5, 16, 254, 172]
abbrev dktX4_barredTwo_1 : List UInt8 := dkwX4_barredTwo_1 ++ []
def dkwX4_barredTwo_0 : List UInt8 := [42, 27, 182, 0, 87, 153, 0, 11, 42, 28, 182, 0, 87, 154, 0, 5, 2, 172, 42, 27, 182, 0, 91]
abbrev dktX4_barredTwo_0 : List UInt8 := dkwX4_barredTwo_0 ++ dktX4_barredTwo_1
theorem dksX4_barredTwo_0 : cX4_barredTwo.data.toList.drop 0 = dktX4_barredTwo_0 := by decide +kernel
theorem dksX4_barredTwo_1 : cX4_barredTwo.data.toList.drop 23 = dktX4_barredTwo_1 := dk_seg dksX4_barredTwo_0 23 rfl rfl
theorem dX4_barredTwo_0 : decode cX4_barredTwo 0 = .ok (.aload_n 0, 1) := dk_42 (dk_at dksX4_barredTwo_0 0 rfl rfl)
theorem dX4_barredTwo_1 : decode cX4_barredTwo 1 = .ok (.iload_n 1, 1) := dk_27 (dk_at dksX4_barredTwo_0 1 rfl rfl)
theorem dX4_barredTwo_2 : decode cX4_barredTwo 2 = .ok (.invokevirtual 87, 3) := dk_182 0 87 (dk_at dksX4_barredTwo_0 2 rfl rfl)
theorem dX4_barredTwo_5 : decode cX4_barredTwo 5 = .ok (.ifCond .eq 11, 3) := dk_153 0 11 (dk_at dksX4_barredTwo_0 5 rfl rfl)
theorem dX4_barredTwo_8 : decode cX4_barredTwo 8 = .ok (.aload_n 0, 1) := dk_42 (dk_at dksX4_barredTwo_0 8 rfl rfl)
theorem dX4_barredTwo_9 : decode cX4_barredTwo 9 = .ok (.iload_n 2, 1) := dk_28 (dk_at dksX4_barredTwo_0 9 rfl rfl)
theorem dX4_barredTwo_10 : decode cX4_barredTwo 10 = .ok (.invokevirtual 87, 3) := dk_182 0 87 (dk_at dksX4_barredTwo_0 10 rfl rfl)
theorem dX4_barredTwo_13 : decode cX4_barredTwo 13 = .ok (.ifCond .ne 5, 3) := dk_154 0 5 (dk_at dksX4_barredTwo_0 13 rfl rfl)
theorem dX4_barredTwo_16 : decode cX4_barredTwo 16 = .ok (.iconst (-1), 1) := dk_2 (dk_at dksX4_barredTwo_0 16 rfl rfl)
theorem dX4_barredTwo_17 : decode cX4_barredTwo 17 = .ok (.ireturn, 1) := dk_172 (dk_at dksX4_barredTwo_0 17 rfl rfl)
theorem dX4_barredTwo_18 : decode cX4_barredTwo 18 = .ok (.aload_n 0, 1) := dk_42 (dk_at dksX4_barredTwo_0 18 rfl rfl)
theorem dX4_barredTwo_19 : decode cX4_barredTwo 19 = .ok (.iload_n 1, 1) := dk_27 (dk_at dksX4_barredTwo_0 19 rfl rfl)
theorem dX4_barredTwo_20 : decode cX4_barredTwo 20 = .ok (.invokevirtual 91, 3) := dk_182 0 91 (dk_at dksX4_barredTwo_0 20 rfl rfl)
theorem dX4_barredTwo_23 : decode cX4_barredTwo 23 = .ok (.ifCond .eq 15, 3) := dk_153 0 15 (dk_at dksX4_barredTwo_1 0 rfl rfl)
theorem dX4_barredTwo_26 : decode cX4_barredTwo 26 = .ok (.aload_n 0, 1) := dk_42 (dk_at dksX4_barredTwo_1 3 rfl rfl)
theorem dX4_barredTwo_27 : decode cX4_barredTwo 27 = .ok (.iload_n 2, 1) := dk_28 (dk_at dksX4_barredTwo_1 4 rfl rfl)
theorem dX4_barredTwo_28 : decode cX4_barredTwo 28 = .ok (.invokevirtual 91, 3) := dk_182 0 91 (dk_at dksX4_barredTwo_1 5 rfl rfl)
theorem dX4_barredTwo_31 : decode cX4_barredTwo 31 = .ok (.ifCond .eq 7, 3) := dk_153 0 7 (dk_at dksX4_barredTwo_1 8 rfl rfl)
theorem dX4_barredTwo_34 : decode cX4_barredTwo 34 = .ok (.iconst 0, 1) := dk_3 (dk_at dksX4_barredTwo_1 11 rfl rfl)
theorem dX4_barredTwo_35 : decode cX4_barredTwo 35 = .ok (.goto 5, 3) := dk_167 0 5 (dk_at dksX4_barredTwo_1 12 rfl rfl)
theorem dX4_barredTwo_38 : decode cX4_barredTwo 38 = .ok (.bipush (-2), 2) := dk_16 254 (dk_at dksX4_barredTwo_1 15 rfl rfl)
theorem dX4_barredTwo_40 : decode cX4_barredTwo 40 = .ok (.ireturn, 1) := dk_172 (dk_at dksX4_barredTwo_1 17 rfl rfl)
abbrev cX4_draw : ByteArray := prog_21_method_27_code
def yX4_draw : MethodName := ⟨RX4, "draw", "(IZ)I"⟩
def dkwX4_draw_2 : List UInt8 := [160, 0, 7, 3, 167, 0, 4, 4, 172]
abbrev dktX4_draw_2 : List UInt8 := dkwX4_draw_2 ++ []
def dkwX4_draw_1 : List UInt8 := [42, 180, 0, 41, 27, 28, 153, 0, 7, 4, 167, 0, 4, 3, 79, 21, 4, 42, 180, 0, 41, 27, 46]
abbrev dktX4_draw_1 : List UInt8 := dkwX4_draw_1 ++ dktX4_draw_2
def dkwX4_draw_0 : List UInt8 := [42, 27, 182, 0, 127, 62, 29, 153, 0, 9, 42, 29, 182, 0, 97, 172, 42, 180, 0, 41, 27, 46, 54, 4]
abbrev dktX4_draw_0 : List UInt8 := dkwX4_draw_0 ++ dktX4_draw_1
theorem dksX4_draw_0 : cX4_draw.data.toList.drop 0 = dktX4_draw_0 := by decide +kernel
theorem dksX4_draw_1 : cX4_draw.data.toList.drop 24 = dktX4_draw_1 := dk_seg dksX4_draw_0 24 rfl rfl
theorem dksX4_draw_2 : cX4_draw.data.toList.drop 47 = dktX4_draw_2 := dk_seg dksX4_draw_1 23 rfl rfl
theorem dX4_draw_0 : decode cX4_draw 0 = .ok (.aload_n 0, 1) := dk_42 (dk_at dksX4_draw_0 0 rfl rfl)
theorem dX4_draw_1 : decode cX4_draw 1 = .ok (.iload_n 1, 1) := dk_27 (dk_at dksX4_draw_0 1 rfl rfl)
theorem dX4_draw_2 : decode cX4_draw 2 = .ok (.invokevirtual 127, 3) := dk_182 0 127 (dk_at dksX4_draw_0 2 rfl rfl)
theorem dX4_draw_5 : decode cX4_draw 5 = .ok (.istore_n 3, 1) := dk_62 (dk_at dksX4_draw_0 5 rfl rfl)
theorem dX4_draw_6 : decode cX4_draw 6 = .ok (.iload_n 3, 1) := dk_29 (dk_at dksX4_draw_0 6 rfl rfl)
theorem dX4_draw_7 : decode cX4_draw 7 = .ok (.ifCond .eq 9, 3) := dk_153 0 9 (dk_at dksX4_draw_0 7 rfl rfl)
theorem dX4_draw_10 : decode cX4_draw 10 = .ok (.aload_n 0, 1) := dk_42 (dk_at dksX4_draw_0 10 rfl rfl)
theorem dX4_draw_11 : decode cX4_draw 11 = .ok (.iload_n 3, 1) := dk_29 (dk_at dksX4_draw_0 11 rfl rfl)
theorem dX4_draw_12 : decode cX4_draw 12 = .ok (.invokevirtual 97, 3) := dk_182 0 97 (dk_at dksX4_draw_0 12 rfl rfl)
theorem dX4_draw_15 : decode cX4_draw 15 = .ok (.ireturn, 1) := dk_172 (dk_at dksX4_draw_0 15 rfl rfl)
theorem dX4_draw_16 : decode cX4_draw 16 = .ok (.aload_n 0, 1) := dk_42 (dk_at dksX4_draw_0 16 rfl rfl)
theorem dX4_draw_17 : decode cX4_draw 17 = .ok (.getfield 41, 3) := dk_180 0 41 (dk_at dksX4_draw_0 17 rfl rfl)
theorem dX4_draw_20 : decode cX4_draw 20 = .ok (.iload_n 1, 1) := dk_27 (dk_at dksX4_draw_0 20 rfl rfl)
theorem dX4_draw_21 : decode cX4_draw 21 = .ok (.iaload, 1) := dk_46 (dk_at dksX4_draw_0 21 rfl rfl)
theorem dX4_draw_22 : decode cX4_draw 22 = .ok (.istore 4, 2) := dk_54 4 (dk_at dksX4_draw_0 22 rfl rfl)
theorem dX4_draw_24 : decode cX4_draw 24 = .ok (.aload_n 0, 1) := dk_42 (dk_at dksX4_draw_1 0 rfl rfl)
theorem dX4_draw_25 : decode cX4_draw 25 = .ok (.getfield 41, 3) := dk_180 0 41 (dk_at dksX4_draw_1 1 rfl rfl)
theorem dX4_draw_28 : decode cX4_draw 28 = .ok (.iload_n 1, 1) := dk_27 (dk_at dksX4_draw_1 4 rfl rfl)
theorem dX4_draw_29 : decode cX4_draw 29 = .ok (.iload_n 2, 1) := dk_28 (dk_at dksX4_draw_1 5 rfl rfl)
theorem dX4_draw_30 : decode cX4_draw 30 = .ok (.ifCond .eq 7, 3) := dk_153 0 7 (dk_at dksX4_draw_1 6 rfl rfl)
theorem dX4_draw_33 : decode cX4_draw 33 = .ok (.iconst 1, 1) := dk_4 (dk_at dksX4_draw_1 9 rfl rfl)
theorem dX4_draw_34 : decode cX4_draw 34 = .ok (.goto 4, 3) := dk_167 0 4 (dk_at dksX4_draw_1 10 rfl rfl)
theorem dX4_draw_37 : decode cX4_draw 37 = .ok (.iconst 0, 1) := dk_3 (dk_at dksX4_draw_1 13 rfl rfl)
theorem dX4_draw_38 : decode cX4_draw 38 = .ok (.iastore, 1) := dk_79 (dk_at dksX4_draw_1 14 rfl rfl)
theorem dX4_draw_39 : decode cX4_draw 39 = .ok (.iload 4, 2) := dk_21 4 (dk_at dksX4_draw_1 15 rfl rfl)
theorem dX4_draw_41 : decode cX4_draw 41 = .ok (.aload_n 0, 1) := dk_42 (dk_at dksX4_draw_1 17 rfl rfl)
theorem dX4_draw_42 : decode cX4_draw 42 = .ok (.getfield 41, 3) := dk_180 0 41 (dk_at dksX4_draw_1 18 rfl rfl)
theorem dX4_draw_45 : decode cX4_draw 45 = .ok (.iload_n 1, 1) := dk_27 (dk_at dksX4_draw_1 21 rfl rfl)
theorem dX4_draw_46 : decode cX4_draw 46 = .ok (.iaload, 1) := dk_46 (dk_at dksX4_draw_1 22 rfl rfl)
theorem dX4_draw_47 : decode cX4_draw 47 = .ok (.if_icmp .ne 7, 3) := dk_160 0 7 (dk_at dksX4_draw_2 0 rfl rfl)
theorem dX4_draw_50 : decode cX4_draw 50 = .ok (.iconst 0, 1) := dk_3 (dk_at dksX4_draw_2 3 rfl rfl)
theorem dX4_draw_51 : decode cX4_draw 51 = .ok (.goto 4, 3) := dk_167 0 4 (dk_at dksX4_draw_2 4 rfl rfl)
theorem dX4_draw_54 : decode cX4_draw 54 = .ok (.iconst 1, 1) := dk_4 (dk_at dksX4_draw_2 7 rfl rfl)
theorem dX4_draw_55 : decode cX4_draw 55 = .ok (.ireturn, 1) := dk_172 (dk_at dksX4_draw_2 8 rfl rfl)
abbrev cX4_barred : ByteArray := prog_21_method_8_code
def yX4_barred : MethodName := ⟨RX4, "barred", "(I)I"⟩
def dkwX4_barred_1 : List UInt8 := [16, 254, 172]
abbrev dktX4_barred_1 : List UInt8 := dkwX4_barred_1 ++ []
def dkwX4_barred_0 : List UInt8 := [42, 27, 182, 0, 87, 154, 0, 7, 2, 167, 0, 17, 42, 27, 182, 0, 91, 153, 0, 7, 3, 167, 0, 5]
abbrev dktX4_barred_0 : List UInt8 := dkwX4_barred_0 ++ dktX4_barred_1
theorem dksX4_barred_0 : cX4_barred.data.toList.drop 0 = dktX4_barred_0 := by decide +kernel
theorem dksX4_barred_1 : cX4_barred.data.toList.drop 24 = dktX4_barred_1 := dk_seg dksX4_barred_0 24 rfl rfl
theorem dX4_barred_0 : decode cX4_barred 0 = .ok (.aload_n 0, 1) := dk_42 (dk_at dksX4_barred_0 0 rfl rfl)
theorem dX4_barred_1 : decode cX4_barred 1 = .ok (.iload_n 1, 1) := dk_27 (dk_at dksX4_barred_0 1 rfl rfl)
theorem dX4_barred_2 : decode cX4_barred 2 = .ok (.invokevirtual 87, 3) := dk_182 0 87 (dk_at dksX4_barred_0 2 rfl rfl)
theorem dX4_barred_5 : decode cX4_barred 5 = .ok (.ifCond .ne 7, 3) := dk_154 0 7 (dk_at dksX4_barred_0 5 rfl rfl)
theorem dX4_barred_8 : decode cX4_barred 8 = .ok (.iconst (-1), 1) := dk_2 (dk_at dksX4_barred_0 8 rfl rfl)
theorem dX4_barred_9 : decode cX4_barred 9 = .ok (.goto 17, 3) := dk_167 0 17 (dk_at dksX4_barred_0 9 rfl rfl)
theorem dX4_barred_12 : decode cX4_barred 12 = .ok (.aload_n 0, 1) := dk_42 (dk_at dksX4_barred_0 12 rfl rfl)
theorem dX4_barred_13 : decode cX4_barred 13 = .ok (.iload_n 1, 1) := dk_27 (dk_at dksX4_barred_0 13 rfl rfl)
theorem dX4_barred_14 : decode cX4_barred 14 = .ok (.invokevirtual 91, 3) := dk_182 0 91 (dk_at dksX4_barred_0 14 rfl rfl)
theorem dX4_barred_17 : decode cX4_barred 17 = .ok (.ifCond .eq 7, 3) := dk_153 0 7 (dk_at dksX4_barred_0 17 rfl rfl)
theorem dX4_barred_20 : decode cX4_barred 20 = .ok (.iconst 0, 1) := dk_3 (dk_at dksX4_barred_0 20 rfl rfl)
theorem dX4_barred_21 : decode cX4_barred 21 = .ok (.goto 5, 3) := dk_167 0 5 (dk_at dksX4_barred_0 21 rfl rfl)
theorem dX4_barred_24 : decode cX4_barred 24 = .ok (.bipush (-2), 2) := dk_16 254 (dk_at dksX4_barred_1 0 rfl rfl)
theorem dX4_barred_26 : decode cX4_barred 26 = .ok (.ireturn, 1) := dk_172 (dk_at dksX4_barred_1 2 rfl rfl)
abbrev cX4_ground : ByteArray := prog_21_method_38_code
def yX4_ground : MethodName := ⟨RX4, "ground", "(I)I"⟩
def dkwX4_ground_6 : List UInt8 := [42, 42, 180, 0, 72, 4, 182, 0, 179, 42, 42, 180, 0, 130, 181, 0, 19, 42, 16, 250, 182, 0, 97, 172]
abbrev dktX4_ground_6 : List UInt8 := dkwX4_ground_6 ++ []
def dkwX4_ground_5 : List UInt8 := [4, 96, 181, 0, 133, 132, 3, 1, 42, 182, 0, 183, 54, 4, 167, 255, 188, 21, 4, 153, 0, 5, 29, 172]
abbrev dktX4_ground_5 : List UInt8 := dkwX4_ground_5 ++ dktX4_ground_6
def dkwX4_ground_4 : List UInt8 := [136, 16, 59, 159, 0, 16, 42, 42, 180, 0, 133, 182, 0, 149, 54, 4, 167, 255, 210, 42, 89, 180, 0, 133]
abbrev dktX4_ground_4 : List UInt8 := dkwX4_ground_4 ++ dktX4_ground_5
def dkwX4_ground_3 : List UInt8 := [180, 0, 133, 42, 180, 0, 136, 162, 0, 58, 42, 180, 0, 59, 42, 180, 0, 139, 42, 180, 0, 133, 96, 47]
abbrev dktX4_ground_3 : List UInt8 := dkwX4_ground_3 ++ dktX4_ground_4
def dkwX4_ground_2 : List UInt8 := [181, 0, 136, 42, 2, 181, 0, 19, 4, 62, 42, 182, 0, 183, 54, 4, 21, 4, 153, 0, 69, 42]
abbrev dktX4_ground_2 : List UInt8 := dkwX4_ground_2 ++ dktX4_ground_3
def dkwX4_ground_1 : List UInt8 := [182, 0, 179, 42, 17, 0, 160, 27, 104, 181, 0, 139, 42, 3, 181, 0, 133, 42, 42, 180, 0, 53, 27, 46]
abbrev dktX4_ground_1 : List UInt8 := dkwX4_ground_1 ++ dktX4_ground_2
def dkwX4_ground_0 : List UInt8 := [42, 27, 182, 0, 176, 61, 28, 153, 0, 9, 42, 28, 182, 0, 97, 172, 42, 42, 180, 0, 72, 3]
abbrev dktX4_ground_0 : List UInt8 := dkwX4_ground_0 ++ dktX4_ground_1
theorem dksX4_ground_0 : cX4_ground.data.toList.drop 0 = dktX4_ground_0 := by decide +kernel
theorem dksX4_ground_1 : cX4_ground.data.toList.drop 22 = dktX4_ground_1 := dk_seg dksX4_ground_0 22 rfl rfl
theorem dksX4_ground_2 : cX4_ground.data.toList.drop 46 = dktX4_ground_2 := dk_seg dksX4_ground_1 24 rfl rfl
theorem dksX4_ground_3 : cX4_ground.data.toList.drop 68 = dktX4_ground_3 := dk_seg dksX4_ground_2 22 rfl rfl
theorem dksX4_ground_4 : cX4_ground.data.toList.drop 92 = dktX4_ground_4 := dk_seg dksX4_ground_3 24 rfl rfl
theorem dksX4_ground_5 : cX4_ground.data.toList.drop 116 = dktX4_ground_5 := dk_seg dksX4_ground_4 24 rfl rfl
theorem dksX4_ground_6 : cX4_ground.data.toList.drop 140 = dktX4_ground_6 := dk_seg dksX4_ground_5 24 rfl rfl
theorem dX4_ground_0 : decode cX4_ground 0 = .ok (.aload_n 0, 1) := dk_42 (dk_at dksX4_ground_0 0 rfl rfl)
theorem dX4_ground_1 : decode cX4_ground 1 = .ok (.iload_n 1, 1) := dk_27 (dk_at dksX4_ground_0 1 rfl rfl)
theorem dX4_ground_2 : decode cX4_ground 2 = .ok (.invokevirtual 176, 3) := dk_182 0 176 (dk_at dksX4_ground_0 2 rfl rfl)
theorem dX4_ground_5 : decode cX4_ground 5 = .ok (.istore_n 2, 1) := dk_61 (dk_at dksX4_ground_0 5 rfl rfl)
theorem dX4_ground_6 : decode cX4_ground 6 = .ok (.iload_n 2, 1) := dk_28 (dk_at dksX4_ground_0 6 rfl rfl)
theorem dX4_ground_7 : decode cX4_ground 7 = .ok (.ifCond .eq 9, 3) := dk_153 0 9 (dk_at dksX4_ground_0 7 rfl rfl)
theorem dX4_ground_10 : decode cX4_ground 10 = .ok (.aload_n 0, 1) := dk_42 (dk_at dksX4_ground_0 10 rfl rfl)
theorem dX4_ground_11 : decode cX4_ground 11 = .ok (.iload_n 2, 1) := dk_28 (dk_at dksX4_ground_0 11 rfl rfl)
theorem dX4_ground_12 : decode cX4_ground 12 = .ok (.invokevirtual 97, 3) := dk_182 0 97 (dk_at dksX4_ground_0 12 rfl rfl)
theorem dX4_ground_15 : decode cX4_ground 15 = .ok (.ireturn, 1) := dk_172 (dk_at dksX4_ground_0 15 rfl rfl)
theorem dX4_ground_16 : decode cX4_ground 16 = .ok (.aload_n 0, 1) := dk_42 (dk_at dksX4_ground_0 16 rfl rfl)
theorem dX4_ground_17 : decode cX4_ground 17 = .ok (.aload_n 0, 1) := dk_42 (dk_at dksX4_ground_0 17 rfl rfl)
theorem dX4_ground_18 : decode cX4_ground 18 = .ok (.getfield 72, 3) := dk_180 0 72 (dk_at dksX4_ground_0 18 rfl rfl)
theorem dX4_ground_21 : decode cX4_ground 21 = .ok (.iconst 0, 1) := dk_3 (dk_at dksX4_ground_0 21 rfl rfl)
theorem dX4_ground_22 : decode cX4_ground 22 = .ok (.invokevirtual 179, 3) := dk_182 0 179 (dk_at dksX4_ground_1 0 rfl rfl)
theorem dX4_ground_25 : decode cX4_ground 25 = .ok (.aload_n 0, 1) := dk_42 (dk_at dksX4_ground_1 3 rfl rfl)
theorem dX4_ground_26 : decode cX4_ground 26 = .ok (.sipush 160, 3) := dk_17 0 160 (dk_at dksX4_ground_1 4 rfl rfl)
theorem dX4_ground_29 : decode cX4_ground 29 = .ok (.iload_n 1, 1) := dk_27 (dk_at dksX4_ground_1 7 rfl rfl)
theorem dX4_ground_30 : decode cX4_ground 30 = .ok (.imul, 1) := dk_104 (dk_at dksX4_ground_1 8 rfl rfl)
theorem dX4_ground_31 : decode cX4_ground 31 = .ok (.putfield 139, 3) := dk_181 0 139 (dk_at dksX4_ground_1 9 rfl rfl)
theorem dX4_ground_34 : decode cX4_ground 34 = .ok (.aload_n 0, 1) := dk_42 (dk_at dksX4_ground_1 12 rfl rfl)
theorem dX4_ground_35 : decode cX4_ground 35 = .ok (.iconst 0, 1) := dk_3 (dk_at dksX4_ground_1 13 rfl rfl)
theorem dX4_ground_36 : decode cX4_ground 36 = .ok (.putfield 133, 3) := dk_181 0 133 (dk_at dksX4_ground_1 14 rfl rfl)
theorem dX4_ground_39 : decode cX4_ground 39 = .ok (.aload_n 0, 1) := dk_42 (dk_at dksX4_ground_1 17 rfl rfl)
theorem dX4_ground_40 : decode cX4_ground 40 = .ok (.aload_n 0, 1) := dk_42 (dk_at dksX4_ground_1 18 rfl rfl)
theorem dX4_ground_41 : decode cX4_ground 41 = .ok (.getfield 53, 3) := dk_180 0 53 (dk_at dksX4_ground_1 19 rfl rfl)
theorem dX4_ground_44 : decode cX4_ground 44 = .ok (.iload_n 1, 1) := dk_27 (dk_at dksX4_ground_1 22 rfl rfl)
theorem dX4_ground_45 : decode cX4_ground 45 = .ok (.iaload, 1) := dk_46 (dk_at dksX4_ground_1 23 rfl rfl)
theorem dX4_ground_46 : decode cX4_ground 46 = .ok (.putfield 136, 3) := dk_181 0 136 (dk_at dksX4_ground_2 0 rfl rfl)
theorem dX4_ground_49 : decode cX4_ground 49 = .ok (.aload_n 0, 1) := dk_42 (dk_at dksX4_ground_2 3 rfl rfl)
theorem dX4_ground_50 : decode cX4_ground 50 = .ok (.iconst (-1), 1) := dk_2 (dk_at dksX4_ground_2 4 rfl rfl)
theorem dX4_ground_51 : decode cX4_ground 51 = .ok (.putfield 19, 3) := dk_181 0 19 (dk_at dksX4_ground_2 5 rfl rfl)
theorem dX4_ground_54 : decode cX4_ground 54 = .ok (.iconst 1, 1) := dk_4 (dk_at dksX4_ground_2 8 rfl rfl)
theorem dX4_ground_55 : decode cX4_ground 55 = .ok (.istore_n 3, 1) := dk_62 (dk_at dksX4_ground_2 9 rfl rfl)
theorem dX4_ground_56 : decode cX4_ground 56 = .ok (.aload_n 0, 1) := dk_42 (dk_at dksX4_ground_2 10 rfl rfl)
theorem dX4_ground_57 : decode cX4_ground 57 = .ok (.invokevirtual 183, 3) := dk_182 0 183 (dk_at dksX4_ground_2 11 rfl rfl)
theorem dX4_ground_60 : decode cX4_ground 60 = .ok (.istore 4, 2) := dk_54 4 (dk_at dksX4_ground_2 14 rfl rfl)
theorem dX4_ground_62 : decode cX4_ground 62 = .ok (.iload 4, 2) := dk_21 4 (dk_at dksX4_ground_2 16 rfl rfl)
theorem dX4_ground_64 : decode cX4_ground 64 = .ok (.ifCond .eq 69, 3) := dk_153 0 69 (dk_at dksX4_ground_2 18 rfl rfl)
theorem dX4_ground_67 : decode cX4_ground 67 = .ok (.aload_n 0, 1) := dk_42 (dk_at dksX4_ground_2 21 rfl rfl)
theorem dX4_ground_68 : decode cX4_ground 68 = .ok (.getfield 133, 3) := dk_180 0 133 (dk_at dksX4_ground_3 0 rfl rfl)
theorem dX4_ground_71 : decode cX4_ground 71 = .ok (.aload_n 0, 1) := dk_42 (dk_at dksX4_ground_3 3 rfl rfl)
theorem dX4_ground_72 : decode cX4_ground 72 = .ok (.getfield 136, 3) := dk_180 0 136 (dk_at dksX4_ground_3 4 rfl rfl)
theorem dX4_ground_75 : decode cX4_ground 75 = .ok (.if_icmp .ge 58, 3) := dk_162 0 58 (dk_at dksX4_ground_3 7 rfl rfl)
theorem dX4_ground_78 : decode cX4_ground 78 = .ok (.aload_n 0, 1) := dk_42 (dk_at dksX4_ground_3 10 rfl rfl)
theorem dX4_ground_79 : decode cX4_ground 79 = .ok (.getfield 59, 3) := dk_180 0 59 (dk_at dksX4_ground_3 11 rfl rfl)
theorem dX4_ground_82 : decode cX4_ground 82 = .ok (.aload_n 0, 1) := dk_42 (dk_at dksX4_ground_3 14 rfl rfl)
theorem dX4_ground_83 : decode cX4_ground 83 = .ok (.getfield 139, 3) := dk_180 0 139 (dk_at dksX4_ground_3 15 rfl rfl)
theorem dX4_ground_86 : decode cX4_ground 86 = .ok (.aload_n 0, 1) := dk_42 (dk_at dksX4_ground_3 18 rfl rfl)
theorem dX4_ground_87 : decode cX4_ground 87 = .ok (.getfield 133, 3) := dk_180 0 133 (dk_at dksX4_ground_3 19 rfl rfl)
theorem dX4_ground_90 : decode cX4_ground 90 = .ok (.iadd, 1) := dk_96 (dk_at dksX4_ground_3 22 rfl rfl)
theorem dX4_ground_91 : decode cX4_ground 91 = .ok (.laload, 1) := dk_47 (dk_at dksX4_ground_3 23 rfl rfl)
theorem dX4_ground_92 : decode cX4_ground 92 = .ok (.l2i, 1) := dk_136 (dk_at dksX4_ground_4 0 rfl rfl)
theorem dX4_ground_93 : decode cX4_ground 93 = .ok (.bipush 59, 2) := dk_16 59 (dk_at dksX4_ground_4 1 rfl rfl)
theorem dX4_ground_95 : decode cX4_ground 95 = .ok (.if_icmp .eq 16, 3) := dk_159 0 16 (dk_at dksX4_ground_4 3 rfl rfl)
theorem dX4_ground_98 : decode cX4_ground 98 = .ok (.aload_n 0, 1) := dk_42 (dk_at dksX4_ground_4 6 rfl rfl)
theorem dX4_ground_99 : decode cX4_ground 99 = .ok (.aload_n 0, 1) := dk_42 (dk_at dksX4_ground_4 7 rfl rfl)
theorem dX4_ground_100 : decode cX4_ground 100 = .ok (.getfield 133, 3) := dk_180 0 133 (dk_at dksX4_ground_4 8 rfl rfl)
theorem dX4_ground_103 : decode cX4_ground 103 = .ok (.invokevirtual 149, 3) := dk_182 0 149 (dk_at dksX4_ground_4 11 rfl rfl)
theorem dX4_ground_106 : decode cX4_ground 106 = .ok (.istore 4, 2) := dk_54 4 (dk_at dksX4_ground_4 14 rfl rfl)
theorem dX4_ground_108 : decode cX4_ground 108 = .ok (.goto (-46), 3) := dk_167 255 210 (dk_at dksX4_ground_4 16 rfl rfl)
theorem dX4_ground_111 : decode cX4_ground 111 = .ok (.aload_n 0, 1) := dk_42 (dk_at dksX4_ground_4 19 rfl rfl)
theorem dX4_ground_112 : decode cX4_ground 112 = .ok (.dup, 1) := dk_89 (dk_at dksX4_ground_4 20 rfl rfl)
theorem dX4_ground_113 : decode cX4_ground 113 = .ok (.getfield 133, 3) := dk_180 0 133 (dk_at dksX4_ground_4 21 rfl rfl)
theorem dX4_ground_116 : decode cX4_ground 116 = .ok (.iconst 1, 1) := dk_4 (dk_at dksX4_ground_5 0 rfl rfl)
theorem dX4_ground_117 : decode cX4_ground 117 = .ok (.iadd, 1) := dk_96 (dk_at dksX4_ground_5 1 rfl rfl)
theorem dX4_ground_118 : decode cX4_ground 118 = .ok (.putfield 133, 3) := dk_181 0 133 (dk_at dksX4_ground_5 2 rfl rfl)
theorem dX4_ground_121 : decode cX4_ground 121 = .ok (.iinc 3 1, 3) := dk_132 3 1 (dk_at dksX4_ground_5 5 rfl rfl)
theorem dX4_ground_124 : decode cX4_ground 124 = .ok (.aload_n 0, 1) := dk_42 (dk_at dksX4_ground_5 8 rfl rfl)
theorem dX4_ground_125 : decode cX4_ground 125 = .ok (.invokevirtual 183, 3) := dk_182 0 183 (dk_at dksX4_ground_5 9 rfl rfl)
theorem dX4_ground_128 : decode cX4_ground 128 = .ok (.istore 4, 2) := dk_54 4 (dk_at dksX4_ground_5 12 rfl rfl)
theorem dX4_ground_130 : decode cX4_ground 130 = .ok (.goto (-68), 3) := dk_167 255 188 (dk_at dksX4_ground_5 14 rfl rfl)
theorem dX4_ground_133 : decode cX4_ground 133 = .ok (.iload 4, 2) := dk_21 4 (dk_at dksX4_ground_5 17 rfl rfl)
theorem dX4_ground_135 : decode cX4_ground 135 = .ok (.ifCond .eq 5, 3) := dk_153 0 5 (dk_at dksX4_ground_5 19 rfl rfl)
theorem dX4_ground_138 : decode cX4_ground 138 = .ok (.iload_n 3, 1) := dk_29 (dk_at dksX4_ground_5 22 rfl rfl)
theorem dX4_ground_139 : decode cX4_ground 139 = .ok (.ireturn, 1) := dk_172 (dk_at dksX4_ground_5 23 rfl rfl)
theorem dX4_ground_140 : decode cX4_ground 140 = .ok (.aload_n 0, 1) := dk_42 (dk_at dksX4_ground_6 0 rfl rfl)
theorem dX4_ground_141 : decode cX4_ground 141 = .ok (.aload_n 0, 1) := dk_42 (dk_at dksX4_ground_6 1 rfl rfl)
theorem dX4_ground_142 : decode cX4_ground 142 = .ok (.getfield 72, 3) := dk_180 0 72 (dk_at dksX4_ground_6 2 rfl rfl)
theorem dX4_ground_145 : decode cX4_ground 145 = .ok (.iconst 1, 1) := dk_4 (dk_at dksX4_ground_6 5 rfl rfl)
theorem dX4_ground_146 : decode cX4_ground 146 = .ok (.invokevirtual 179, 3) := dk_182 0 179 (dk_at dksX4_ground_6 6 rfl rfl)
theorem dX4_ground_149 : decode cX4_ground 149 = .ok (.aload_n 0, 1) := dk_42 (dk_at dksX4_ground_6 9 rfl rfl)
theorem dX4_ground_150 : decode cX4_ground 150 = .ok (.aload_n 0, 1) := dk_42 (dk_at dksX4_ground_6 10 rfl rfl)
theorem dX4_ground_151 : decode cX4_ground 151 = .ok (.getfield 130, 3) := dk_180 0 130 (dk_at dksX4_ground_6 11 rfl rfl)
theorem dX4_ground_154 : decode cX4_ground 154 = .ok (.putfield 19, 3) := dk_181 0 19 (dk_at dksX4_ground_6 14 rfl rfl)
theorem dX4_ground_157 : decode cX4_ground 157 = .ok (.aload_n 0, 1) := dk_42 (dk_at dksX4_ground_6 17 rfl rfl)
theorem dX4_ground_158 : decode cX4_ground 158 = .ok (.bipush (-6), 2) := dk_16 250 (dk_at dksX4_ground_6 18 rfl rfl)
theorem dX4_ground_160 : decode cX4_ground 160 = .ok (.invokevirtual 97, 3) := dk_182 0 97 (dk_at dksX4_ground_6 20 rfl rfl)
theorem dX4_ground_163 : decode cX4_ground 163 = .ok (.ireturn, 1) := dk_172 (dk_at dksX4_ground_6 23 rfl rfl)
abbrev cX4_wants : ByteArray := prog_21_method_17_code
def yX4_wants : MethodName := ⟨RX4, "wants", "(I)I"⟩
def dkwX4_wants_1 : List UInt8 := [167, 0, 18, 42, 180, 0, 47, 27, 46, 154, 0, 8, 16, 253, 167, 0, 4, 3, 172]
abbrev dktX4_wants_1 : List UInt8 := dkwX4_wants_1 ++ []
def dkwX4_wants_0 : List UInt8 := [42, 27, 182, 0, 94, 154, 0, 7, 2, 167, 0, 33, 42, 180, 0, 47, 27, 46, 5, 160, 0, 8, 16, 254]
abbrev dktX4_wants_0 : List UInt8 := dkwX4_wants_0 ++ dktX4_wants_1
theorem dksX4_wants_0 : cX4_wants.data.toList.drop 0 = dktX4_wants_0 := by decide +kernel
theorem dksX4_wants_1 : cX4_wants.data.toList.drop 24 = dktX4_wants_1 := dk_seg dksX4_wants_0 24 rfl rfl
theorem dX4_wants_0 : decode cX4_wants 0 = .ok (.aload_n 0, 1) := dk_42 (dk_at dksX4_wants_0 0 rfl rfl)
theorem dX4_wants_1 : decode cX4_wants 1 = .ok (.iload_n 1, 1) := dk_27 (dk_at dksX4_wants_0 1 rfl rfl)
theorem dX4_wants_2 : decode cX4_wants 2 = .ok (.invokevirtual 94, 3) := dk_182 0 94 (dk_at dksX4_wants_0 2 rfl rfl)
theorem dX4_wants_5 : decode cX4_wants 5 = .ok (.ifCond .ne 7, 3) := dk_154 0 7 (dk_at dksX4_wants_0 5 rfl rfl)
theorem dX4_wants_8 : decode cX4_wants 8 = .ok (.iconst (-1), 1) := dk_2 (dk_at dksX4_wants_0 8 rfl rfl)
theorem dX4_wants_9 : decode cX4_wants 9 = .ok (.goto 33, 3) := dk_167 0 33 (dk_at dksX4_wants_0 9 rfl rfl)
theorem dX4_wants_12 : decode cX4_wants 12 = .ok (.aload_n 0, 1) := dk_42 (dk_at dksX4_wants_0 12 rfl rfl)
theorem dX4_wants_13 : decode cX4_wants 13 = .ok (.getfield 47, 3) := dk_180 0 47 (dk_at dksX4_wants_0 13 rfl rfl)
theorem dX4_wants_16 : decode cX4_wants 16 = .ok (.iload_n 1, 1) := dk_27 (dk_at dksX4_wants_0 16 rfl rfl)
theorem dX4_wants_17 : decode cX4_wants 17 = .ok (.iaload, 1) := dk_46 (dk_at dksX4_wants_0 17 rfl rfl)
theorem dX4_wants_18 : decode cX4_wants 18 = .ok (.iconst 2, 1) := dk_5 (dk_at dksX4_wants_0 18 rfl rfl)
theorem dX4_wants_19 : decode cX4_wants 19 = .ok (.if_icmp .ne 8, 3) := dk_160 0 8 (dk_at dksX4_wants_0 19 rfl rfl)
theorem dX4_wants_22 : decode cX4_wants 22 = .ok (.bipush (-2), 2) := dk_16 254 (dk_at dksX4_wants_0 22 rfl rfl)
theorem dX4_wants_24 : decode cX4_wants 24 = .ok (.goto 18, 3) := dk_167 0 18 (dk_at dksX4_wants_1 0 rfl rfl)
theorem dX4_wants_27 : decode cX4_wants 27 = .ok (.aload_n 0, 1) := dk_42 (dk_at dksX4_wants_1 3 rfl rfl)
theorem dX4_wants_28 : decode cX4_wants 28 = .ok (.getfield 47, 3) := dk_180 0 47 (dk_at dksX4_wants_1 4 rfl rfl)
theorem dX4_wants_31 : decode cX4_wants 31 = .ok (.iload_n 1, 1) := dk_27 (dk_at dksX4_wants_1 7 rfl rfl)
theorem dX4_wants_32 : decode cX4_wants 32 = .ok (.iaload, 1) := dk_46 (dk_at dksX4_wants_1 8 rfl rfl)
theorem dX4_wants_33 : decode cX4_wants 33 = .ok (.ifCond .ne 8, 3) := dk_154 0 8 (dk_at dksX4_wants_1 9 rfl rfl)
theorem dX4_wants_36 : decode cX4_wants 36 = .ok (.bipush (-3), 2) := dk_16 253 (dk_at dksX4_wants_1 12 rfl rfl)
theorem dX4_wants_38 : decode cX4_wants 38 = .ok (.goto 4, 3) := dk_167 0 4 (dk_at dksX4_wants_1 14 rfl rfl)
theorem dX4_wants_41 : decode cX4_wants 41 = .ok (.iconst 0, 1) := dk_3 (dk_at dksX4_wants_1 17 rfl rfl)
theorem dX4_wants_42 : decode cX4_wants 42 = .ok (.ireturn, 1) := dk_172 (dk_at dksX4_wants_1 18 rfl rfl)
abbrev cX4_all : ByteArray := prog_21_method_37_code
def yX4_all : MethodName := ⟨RX4, "all", "([IZ)V"⟩
def dkwX4_all_7 : List UInt8 := [79, 43, 29, 7, 96, 42, 180, 0, 16, 79, 177]
abbrev dktX4_all_7 : List UInt8 := dkwX4_all_7 ++ []
def dkwX4_all_6 : List UInt8 := [4, 96, 42, 180, 0, 7, 79, 43, 29, 5, 96, 42, 180, 0, 13, 79, 43, 29, 6, 96, 42, 180, 0, 173]
abbrev dktX4_all_6 : List UInt8 := dkwX4_all_6 ++ dktX4_all_7
def dkwX4_all_5 : List UInt8 := [181, 0, 173, 42, 43, 29, 7, 96, 46, 181, 0, 16, 167, 0, 46, 43, 29, 42, 180, 0, 84, 79, 43, 29]
abbrev dktX4_all_5 : List UInt8 := dkwX4_all_5 ++ dktX4_all_6
def dkwX4_all_4 : List UInt8 := [43, 29, 4, 96, 46, 181, 0, 7, 42, 43, 29, 5, 96, 46, 181, 0, 13, 42, 43, 29, 6, 96, 46]
abbrev dktX4_all_4 : List UInt8 := dkwX4_all_4 ++ dktX4_all_5
def dkwX4_all_3 : List UInt8 := [42, 42, 180, 0, 44, 43, 29, 28, 182, 0, 169, 62, 28, 153, 0, 49, 42, 43, 29, 46, 181, 0, 84, 42]
abbrev dktX4_all_3 : List UInt8 := dkwX4_all_3 ++ dktX4_all_4
def dkwX4_all_2 : List UInt8 := [42, 42, 180, 0, 38, 43, 29, 28, 182, 0, 169, 62, 42, 42, 180, 0, 41, 43, 29, 28, 182, 0, 169, 62]
abbrev dktX4_all_2 : List UInt8 := dkwX4_all_2 ++ dktX4_all_3
def dkwX4_all_1 : List UInt8 := [42, 42, 180, 0, 32, 43, 29, 28, 182, 0, 169, 62, 42, 42, 180, 0, 35, 43, 29, 28, 182, 0, 169, 62]
abbrev dktX4_all_1 : List UInt8 := dkwX4_all_1 ++ dktX4_all_2
def dkwX4_all_0 : List UInt8 := [42, 42, 180, 0, 26, 43, 3, 28, 182, 0, 169, 62, 42, 42, 180, 0, 29, 43, 29, 28, 182, 0, 169, 62]
abbrev dktX4_all_0 : List UInt8 := dkwX4_all_0 ++ dktX4_all_1
theorem dksX4_all_0 : cX4_all.data.toList.drop 0 = dktX4_all_0 := by decide +kernel
theorem dksX4_all_1 : cX4_all.data.toList.drop 24 = dktX4_all_1 := dk_seg dksX4_all_0 24 rfl rfl
theorem dksX4_all_2 : cX4_all.data.toList.drop 48 = dktX4_all_2 := dk_seg dksX4_all_1 24 rfl rfl
theorem dksX4_all_3 : cX4_all.data.toList.drop 72 = dktX4_all_3 := dk_seg dksX4_all_2 24 rfl rfl
theorem dksX4_all_4 : cX4_all.data.toList.drop 96 = dktX4_all_4 := dk_seg dksX4_all_3 24 rfl rfl
theorem dksX4_all_5 : cX4_all.data.toList.drop 119 = dktX4_all_5 := dk_seg dksX4_all_4 23 rfl rfl
theorem dksX4_all_6 : cX4_all.data.toList.drop 143 = dktX4_all_6 := dk_seg dksX4_all_5 24 rfl rfl
theorem dksX4_all_7 : cX4_all.data.toList.drop 167 = dktX4_all_7 := dk_seg dksX4_all_6 24 rfl rfl
theorem dX4_all_0 : decode cX4_all 0 = .ok (.aload_n 0, 1) := dk_42 (dk_at dksX4_all_0 0 rfl rfl)
theorem dX4_all_1 : decode cX4_all 1 = .ok (.aload_n 0, 1) := dk_42 (dk_at dksX4_all_0 1 rfl rfl)
theorem dX4_all_2 : decode cX4_all 2 = .ok (.getfield 26, 3) := dk_180 0 26 (dk_at dksX4_all_0 2 rfl rfl)
theorem dX4_all_5 : decode cX4_all 5 = .ok (.aload_n 1, 1) := dk_43 (dk_at dksX4_all_0 5 rfl rfl)
theorem dX4_all_6 : decode cX4_all 6 = .ok (.iconst 0, 1) := dk_3 (dk_at dksX4_all_0 6 rfl rfl)
theorem dX4_all_7 : decode cX4_all 7 = .ok (.iload_n 2, 1) := dk_28 (dk_at dksX4_all_0 7 rfl rfl)
theorem dX4_all_8 : decode cX4_all 8 = .ok (.invokevirtual 169, 3) := dk_182 0 169 (dk_at dksX4_all_0 8 rfl rfl)
theorem dX4_all_11 : decode cX4_all 11 = .ok (.istore_n 3, 1) := dk_62 (dk_at dksX4_all_0 11 rfl rfl)
theorem dX4_all_12 : decode cX4_all 12 = .ok (.aload_n 0, 1) := dk_42 (dk_at dksX4_all_0 12 rfl rfl)
theorem dX4_all_13 : decode cX4_all 13 = .ok (.aload_n 0, 1) := dk_42 (dk_at dksX4_all_0 13 rfl rfl)
theorem dX4_all_14 : decode cX4_all 14 = .ok (.getfield 29, 3) := dk_180 0 29 (dk_at dksX4_all_0 14 rfl rfl)
theorem dX4_all_17 : decode cX4_all 17 = .ok (.aload_n 1, 1) := dk_43 (dk_at dksX4_all_0 17 rfl rfl)
theorem dX4_all_18 : decode cX4_all 18 = .ok (.iload_n 3, 1) := dk_29 (dk_at dksX4_all_0 18 rfl rfl)
theorem dX4_all_19 : decode cX4_all 19 = .ok (.iload_n 2, 1) := dk_28 (dk_at dksX4_all_0 19 rfl rfl)
theorem dX4_all_20 : decode cX4_all 20 = .ok (.invokevirtual 169, 3) := dk_182 0 169 (dk_at dksX4_all_0 20 rfl rfl)
theorem dX4_all_23 : decode cX4_all 23 = .ok (.istore_n 3, 1) := dk_62 (dk_at dksX4_all_0 23 rfl rfl)
theorem dX4_all_24 : decode cX4_all 24 = .ok (.aload_n 0, 1) := dk_42 (dk_at dksX4_all_1 0 rfl rfl)
theorem dX4_all_25 : decode cX4_all 25 = .ok (.aload_n 0, 1) := dk_42 (dk_at dksX4_all_1 1 rfl rfl)
theorem dX4_all_26 : decode cX4_all 26 = .ok (.getfield 32, 3) := dk_180 0 32 (dk_at dksX4_all_1 2 rfl rfl)
theorem dX4_all_29 : decode cX4_all 29 = .ok (.aload_n 1, 1) := dk_43 (dk_at dksX4_all_1 5 rfl rfl)
theorem dX4_all_30 : decode cX4_all 30 = .ok (.iload_n 3, 1) := dk_29 (dk_at dksX4_all_1 6 rfl rfl)
theorem dX4_all_31 : decode cX4_all 31 = .ok (.iload_n 2, 1) := dk_28 (dk_at dksX4_all_1 7 rfl rfl)
theorem dX4_all_32 : decode cX4_all 32 = .ok (.invokevirtual 169, 3) := dk_182 0 169 (dk_at dksX4_all_1 8 rfl rfl)
theorem dX4_all_35 : decode cX4_all 35 = .ok (.istore_n 3, 1) := dk_62 (dk_at dksX4_all_1 11 rfl rfl)
theorem dX4_all_36 : decode cX4_all 36 = .ok (.aload_n 0, 1) := dk_42 (dk_at dksX4_all_1 12 rfl rfl)
theorem dX4_all_37 : decode cX4_all 37 = .ok (.aload_n 0, 1) := dk_42 (dk_at dksX4_all_1 13 rfl rfl)
theorem dX4_all_38 : decode cX4_all 38 = .ok (.getfield 35, 3) := dk_180 0 35 (dk_at dksX4_all_1 14 rfl rfl)
theorem dX4_all_41 : decode cX4_all 41 = .ok (.aload_n 1, 1) := dk_43 (dk_at dksX4_all_1 17 rfl rfl)
theorem dX4_all_42 : decode cX4_all 42 = .ok (.iload_n 3, 1) := dk_29 (dk_at dksX4_all_1 18 rfl rfl)
theorem dX4_all_43 : decode cX4_all 43 = .ok (.iload_n 2, 1) := dk_28 (dk_at dksX4_all_1 19 rfl rfl)
theorem dX4_all_44 : decode cX4_all 44 = .ok (.invokevirtual 169, 3) := dk_182 0 169 (dk_at dksX4_all_1 20 rfl rfl)
theorem dX4_all_47 : decode cX4_all 47 = .ok (.istore_n 3, 1) := dk_62 (dk_at dksX4_all_1 23 rfl rfl)
theorem dX4_all_48 : decode cX4_all 48 = .ok (.aload_n 0, 1) := dk_42 (dk_at dksX4_all_2 0 rfl rfl)
theorem dX4_all_49 : decode cX4_all 49 = .ok (.aload_n 0, 1) := dk_42 (dk_at dksX4_all_2 1 rfl rfl)
theorem dX4_all_50 : decode cX4_all 50 = .ok (.getfield 38, 3) := dk_180 0 38 (dk_at dksX4_all_2 2 rfl rfl)
theorem dX4_all_53 : decode cX4_all 53 = .ok (.aload_n 1, 1) := dk_43 (dk_at dksX4_all_2 5 rfl rfl)
theorem dX4_all_54 : decode cX4_all 54 = .ok (.iload_n 3, 1) := dk_29 (dk_at dksX4_all_2 6 rfl rfl)
theorem dX4_all_55 : decode cX4_all 55 = .ok (.iload_n 2, 1) := dk_28 (dk_at dksX4_all_2 7 rfl rfl)
theorem dX4_all_56 : decode cX4_all 56 = .ok (.invokevirtual 169, 3) := dk_182 0 169 (dk_at dksX4_all_2 8 rfl rfl)
theorem dX4_all_59 : decode cX4_all 59 = .ok (.istore_n 3, 1) := dk_62 (dk_at dksX4_all_2 11 rfl rfl)
theorem dX4_all_60 : decode cX4_all 60 = .ok (.aload_n 0, 1) := dk_42 (dk_at dksX4_all_2 12 rfl rfl)
theorem dX4_all_61 : decode cX4_all 61 = .ok (.aload_n 0, 1) := dk_42 (dk_at dksX4_all_2 13 rfl rfl)
theorem dX4_all_62 : decode cX4_all 62 = .ok (.getfield 41, 3) := dk_180 0 41 (dk_at dksX4_all_2 14 rfl rfl)
theorem dX4_all_65 : decode cX4_all 65 = .ok (.aload_n 1, 1) := dk_43 (dk_at dksX4_all_2 17 rfl rfl)
theorem dX4_all_66 : decode cX4_all 66 = .ok (.iload_n 3, 1) := dk_29 (dk_at dksX4_all_2 18 rfl rfl)
theorem dX4_all_67 : decode cX4_all 67 = .ok (.iload_n 2, 1) := dk_28 (dk_at dksX4_all_2 19 rfl rfl)
theorem dX4_all_68 : decode cX4_all 68 = .ok (.invokevirtual 169, 3) := dk_182 0 169 (dk_at dksX4_all_2 20 rfl rfl)
theorem dX4_all_71 : decode cX4_all 71 = .ok (.istore_n 3, 1) := dk_62 (dk_at dksX4_all_2 23 rfl rfl)
theorem dX4_all_72 : decode cX4_all 72 = .ok (.aload_n 0, 1) := dk_42 (dk_at dksX4_all_3 0 rfl rfl)
theorem dX4_all_73 : decode cX4_all 73 = .ok (.aload_n 0, 1) := dk_42 (dk_at dksX4_all_3 1 rfl rfl)
theorem dX4_all_74 : decode cX4_all 74 = .ok (.getfield 44, 3) := dk_180 0 44 (dk_at dksX4_all_3 2 rfl rfl)
theorem dX4_all_77 : decode cX4_all 77 = .ok (.aload_n 1, 1) := dk_43 (dk_at dksX4_all_3 5 rfl rfl)
theorem dX4_all_78 : decode cX4_all 78 = .ok (.iload_n 3, 1) := dk_29 (dk_at dksX4_all_3 6 rfl rfl)
theorem dX4_all_79 : decode cX4_all 79 = .ok (.iload_n 2, 1) := dk_28 (dk_at dksX4_all_3 7 rfl rfl)
theorem dX4_all_80 : decode cX4_all 80 = .ok (.invokevirtual 169, 3) := dk_182 0 169 (dk_at dksX4_all_3 8 rfl rfl)
theorem dX4_all_83 : decode cX4_all 83 = .ok (.istore_n 3, 1) := dk_62 (dk_at dksX4_all_3 11 rfl rfl)
theorem dX4_all_84 : decode cX4_all 84 = .ok (.iload_n 2, 1) := dk_28 (dk_at dksX4_all_3 12 rfl rfl)
theorem dX4_all_85 : decode cX4_all 85 = .ok (.ifCond .eq 49, 3) := dk_153 0 49 (dk_at dksX4_all_3 13 rfl rfl)
theorem dX4_all_88 : decode cX4_all 88 = .ok (.aload_n 0, 1) := dk_42 (dk_at dksX4_all_3 16 rfl rfl)
theorem dX4_all_89 : decode cX4_all 89 = .ok (.aload_n 1, 1) := dk_43 (dk_at dksX4_all_3 17 rfl rfl)
theorem dX4_all_90 : decode cX4_all 90 = .ok (.iload_n 3, 1) := dk_29 (dk_at dksX4_all_3 18 rfl rfl)
theorem dX4_all_91 : decode cX4_all 91 = .ok (.iaload, 1) := dk_46 (dk_at dksX4_all_3 19 rfl rfl)
theorem dX4_all_92 : decode cX4_all 92 = .ok (.putfield 84, 3) := dk_181 0 84 (dk_at dksX4_all_3 20 rfl rfl)
theorem dX4_all_95 : decode cX4_all 95 = .ok (.aload_n 0, 1) := dk_42 (dk_at dksX4_all_3 23 rfl rfl)
theorem dX4_all_96 : decode cX4_all 96 = .ok (.aload_n 1, 1) := dk_43 (dk_at dksX4_all_4 0 rfl rfl)
theorem dX4_all_97 : decode cX4_all 97 = .ok (.iload_n 3, 1) := dk_29 (dk_at dksX4_all_4 1 rfl rfl)
theorem dX4_all_98 : decode cX4_all 98 = .ok (.iconst 1, 1) := dk_4 (dk_at dksX4_all_4 2 rfl rfl)
theorem dX4_all_99 : decode cX4_all 99 = .ok (.iadd, 1) := dk_96 (dk_at dksX4_all_4 3 rfl rfl)
theorem dX4_all_100 : decode cX4_all 100 = .ok (.iaload, 1) := dk_46 (dk_at dksX4_all_4 4 rfl rfl)
theorem dX4_all_101 : decode cX4_all 101 = .ok (.putfield 7, 3) := dk_181 0 7 (dk_at dksX4_all_4 5 rfl rfl)
theorem dX4_all_104 : decode cX4_all 104 = .ok (.aload_n 0, 1) := dk_42 (dk_at dksX4_all_4 8 rfl rfl)
theorem dX4_all_105 : decode cX4_all 105 = .ok (.aload_n 1, 1) := dk_43 (dk_at dksX4_all_4 9 rfl rfl)
theorem dX4_all_106 : decode cX4_all 106 = .ok (.iload_n 3, 1) := dk_29 (dk_at dksX4_all_4 10 rfl rfl)
theorem dX4_all_107 : decode cX4_all 107 = .ok (.iconst 2, 1) := dk_5 (dk_at dksX4_all_4 11 rfl rfl)
theorem dX4_all_108 : decode cX4_all 108 = .ok (.iadd, 1) := dk_96 (dk_at dksX4_all_4 12 rfl rfl)
theorem dX4_all_109 : decode cX4_all 109 = .ok (.iaload, 1) := dk_46 (dk_at dksX4_all_4 13 rfl rfl)
theorem dX4_all_110 : decode cX4_all 110 = .ok (.putfield 13, 3) := dk_181 0 13 (dk_at dksX4_all_4 14 rfl rfl)
theorem dX4_all_113 : decode cX4_all 113 = .ok (.aload_n 0, 1) := dk_42 (dk_at dksX4_all_4 17 rfl rfl)
theorem dX4_all_114 : decode cX4_all 114 = .ok (.aload_n 1, 1) := dk_43 (dk_at dksX4_all_4 18 rfl rfl)
theorem dX4_all_115 : decode cX4_all 115 = .ok (.iload_n 3, 1) := dk_29 (dk_at dksX4_all_4 19 rfl rfl)
theorem dX4_all_116 : decode cX4_all 116 = .ok (.iconst 3, 1) := dk_6 (dk_at dksX4_all_4 20 rfl rfl)
theorem dX4_all_117 : decode cX4_all 117 = .ok (.iadd, 1) := dk_96 (dk_at dksX4_all_4 21 rfl rfl)
theorem dX4_all_118 : decode cX4_all 118 = .ok (.iaload, 1) := dk_46 (dk_at dksX4_all_4 22 rfl rfl)
theorem dX4_all_119 : decode cX4_all 119 = .ok (.putfield 173, 3) := dk_181 0 173 (dk_at dksX4_all_5 0 rfl rfl)
theorem dX4_all_122 : decode cX4_all 122 = .ok (.aload_n 0, 1) := dk_42 (dk_at dksX4_all_5 3 rfl rfl)
theorem dX4_all_123 : decode cX4_all 123 = .ok (.aload_n 1, 1) := dk_43 (dk_at dksX4_all_5 4 rfl rfl)
theorem dX4_all_124 : decode cX4_all 124 = .ok (.iload_n 3, 1) := dk_29 (dk_at dksX4_all_5 5 rfl rfl)
theorem dX4_all_125 : decode cX4_all 125 = .ok (.iconst 4, 1) := dk_7 (dk_at dksX4_all_5 6 rfl rfl)
theorem dX4_all_126 : decode cX4_all 126 = .ok (.iadd, 1) := dk_96 (dk_at dksX4_all_5 7 rfl rfl)
theorem dX4_all_127 : decode cX4_all 127 = .ok (.iaload, 1) := dk_46 (dk_at dksX4_all_5 8 rfl rfl)
theorem dX4_all_128 : decode cX4_all 128 = .ok (.putfield 16, 3) := dk_181 0 16 (dk_at dksX4_all_5 9 rfl rfl)
theorem dX4_all_131 : decode cX4_all 131 = .ok (.goto 46, 3) := dk_167 0 46 (dk_at dksX4_all_5 12 rfl rfl)
theorem dX4_all_134 : decode cX4_all 134 = .ok (.aload_n 1, 1) := dk_43 (dk_at dksX4_all_5 15 rfl rfl)
theorem dX4_all_135 : decode cX4_all 135 = .ok (.iload_n 3, 1) := dk_29 (dk_at dksX4_all_5 16 rfl rfl)
theorem dX4_all_136 : decode cX4_all 136 = .ok (.aload_n 0, 1) := dk_42 (dk_at dksX4_all_5 17 rfl rfl)
theorem dX4_all_137 : decode cX4_all 137 = .ok (.getfield 84, 3) := dk_180 0 84 (dk_at dksX4_all_5 18 rfl rfl)
theorem dX4_all_140 : decode cX4_all 140 = .ok (.iastore, 1) := dk_79 (dk_at dksX4_all_5 21 rfl rfl)
theorem dX4_all_141 : decode cX4_all 141 = .ok (.aload_n 1, 1) := dk_43 (dk_at dksX4_all_5 22 rfl rfl)
theorem dX4_all_142 : decode cX4_all 142 = .ok (.iload_n 3, 1) := dk_29 (dk_at dksX4_all_5 23 rfl rfl)
theorem dX4_all_143 : decode cX4_all 143 = .ok (.iconst 1, 1) := dk_4 (dk_at dksX4_all_6 0 rfl rfl)
theorem dX4_all_144 : decode cX4_all 144 = .ok (.iadd, 1) := dk_96 (dk_at dksX4_all_6 1 rfl rfl)
theorem dX4_all_145 : decode cX4_all 145 = .ok (.aload_n 0, 1) := dk_42 (dk_at dksX4_all_6 2 rfl rfl)
theorem dX4_all_146 : decode cX4_all 146 = .ok (.getfield 7, 3) := dk_180 0 7 (dk_at dksX4_all_6 3 rfl rfl)
theorem dX4_all_149 : decode cX4_all 149 = .ok (.iastore, 1) := dk_79 (dk_at dksX4_all_6 6 rfl rfl)
theorem dX4_all_150 : decode cX4_all 150 = .ok (.aload_n 1, 1) := dk_43 (dk_at dksX4_all_6 7 rfl rfl)
theorem dX4_all_151 : decode cX4_all 151 = .ok (.iload_n 3, 1) := dk_29 (dk_at dksX4_all_6 8 rfl rfl)
theorem dX4_all_152 : decode cX4_all 152 = .ok (.iconst 2, 1) := dk_5 (dk_at dksX4_all_6 9 rfl rfl)
theorem dX4_all_153 : decode cX4_all 153 = .ok (.iadd, 1) := dk_96 (dk_at dksX4_all_6 10 rfl rfl)
theorem dX4_all_154 : decode cX4_all 154 = .ok (.aload_n 0, 1) := dk_42 (dk_at dksX4_all_6 11 rfl rfl)
theorem dX4_all_155 : decode cX4_all 155 = .ok (.getfield 13, 3) := dk_180 0 13 (dk_at dksX4_all_6 12 rfl rfl)
theorem dX4_all_158 : decode cX4_all 158 = .ok (.iastore, 1) := dk_79 (dk_at dksX4_all_6 15 rfl rfl)
theorem dX4_all_159 : decode cX4_all 159 = .ok (.aload_n 1, 1) := dk_43 (dk_at dksX4_all_6 16 rfl rfl)
theorem dX4_all_160 : decode cX4_all 160 = .ok (.iload_n 3, 1) := dk_29 (dk_at dksX4_all_6 17 rfl rfl)
theorem dX4_all_161 : decode cX4_all 161 = .ok (.iconst 3, 1) := dk_6 (dk_at dksX4_all_6 18 rfl rfl)
theorem dX4_all_162 : decode cX4_all 162 = .ok (.iadd, 1) := dk_96 (dk_at dksX4_all_6 19 rfl rfl)
theorem dX4_all_163 : decode cX4_all 163 = .ok (.aload_n 0, 1) := dk_42 (dk_at dksX4_all_6 20 rfl rfl)
theorem dX4_all_164 : decode cX4_all 164 = .ok (.getfield 173, 3) := dk_180 0 173 (dk_at dksX4_all_6 21 rfl rfl)
theorem dX4_all_167 : decode cX4_all 167 = .ok (.iastore, 1) := dk_79 (dk_at dksX4_all_7 0 rfl rfl)
theorem dX4_all_168 : decode cX4_all 168 = .ok (.aload_n 1, 1) := dk_43 (dk_at dksX4_all_7 1 rfl rfl)
theorem dX4_all_169 : decode cX4_all 169 = .ok (.iload_n 3, 1) := dk_29 (dk_at dksX4_all_7 2 rfl rfl)
theorem dX4_all_170 : decode cX4_all 170 = .ok (.iconst 4, 1) := dk_7 (dk_at dksX4_all_7 3 rfl rfl)
theorem dX4_all_171 : decode cX4_all 171 = .ok (.iadd, 1) := dk_96 (dk_at dksX4_all_7 4 rfl rfl)
theorem dX4_all_172 : decode cX4_all 172 = .ok (.aload_n 0, 1) := dk_42 (dk_at dksX4_all_7 5 rfl rfl)
theorem dX4_all_173 : decode cX4_all 173 = .ok (.getfield 16, 3) := dk_180 0 16 (dk_at dksX4_all_7 6 rfl rfl)
theorem dX4_all_176 : decode cX4_all 176 = .ok (.iastore, 1) := dk_79 (dk_at dksX4_all_7 9 rfl rfl)
theorem dX4_all_177 : decode cX4_all 177 = .ok (.return_, 1) := dk_177 (dk_at dksX4_all_7 10 rfl rfl)
abbrev cX4_carries : ByteArray := prog_21_method_36_code
def yX4_carries : MethodName := ⟨RX4, "carries", "([I[IIZ)I"⟩
def dkwX4_carries_2 : List UInt8 := [172]
abbrev dktX4_carries_2 : List UInt8 := dkwX4_carries_2 ++ []
def dkwX4_carries_1 : List UInt8 := [79, 167, 0, 13, 44, 29, 21, 5, 96, 43, 21, 5, 46, 79, 132, 5, 1, 167, 255, 218, 29, 16, 8, 96]
abbrev dktX4_carries_1 : List UInt8 := dkwX4_carries_1 ++ dktX4_carries_2
def dkwX4_carries_0 : List UInt8 := [3, 54, 5, 21, 5, 16, 8, 162, 0, 37, 21, 4, 153, 0, 16, 43, 21, 5, 44, 29, 21, 5, 96, 46]
abbrev dktX4_carries_0 : List UInt8 := dkwX4_carries_0 ++ dktX4_carries_1
theorem dksX4_carries_0 : cX4_carries.data.toList.drop 0 = dktX4_carries_0 := by decide +kernel
theorem dksX4_carries_1 : cX4_carries.data.toList.drop 24 = dktX4_carries_1 := dk_seg dksX4_carries_0 24 rfl rfl
theorem dksX4_carries_2 : cX4_carries.data.toList.drop 48 = dktX4_carries_2 := dk_seg dksX4_carries_1 24 rfl rfl
theorem dX4_carries_0 : decode cX4_carries 0 = .ok (.iconst 0, 1) := dk_3 (dk_at dksX4_carries_0 0 rfl rfl)
theorem dX4_carries_1 : decode cX4_carries 1 = .ok (.istore 5, 2) := dk_54 5 (dk_at dksX4_carries_0 1 rfl rfl)
theorem dX4_carries_3 : decode cX4_carries 3 = .ok (.iload 5, 2) := dk_21 5 (dk_at dksX4_carries_0 3 rfl rfl)
theorem dX4_carries_5 : decode cX4_carries 5 = .ok (.bipush 8, 2) := dk_16 8 (dk_at dksX4_carries_0 5 rfl rfl)
theorem dX4_carries_7 : decode cX4_carries 7 = .ok (.if_icmp .ge 37, 3) := dk_162 0 37 (dk_at dksX4_carries_0 7 rfl rfl)
theorem dX4_carries_10 : decode cX4_carries 10 = .ok (.iload 4, 2) := dk_21 4 (dk_at dksX4_carries_0 10 rfl rfl)
theorem dX4_carries_12 : decode cX4_carries 12 = .ok (.ifCond .eq 16, 3) := dk_153 0 16 (dk_at dksX4_carries_0 12 rfl rfl)
theorem dX4_carries_15 : decode cX4_carries 15 = .ok (.aload_n 1, 1) := dk_43 (dk_at dksX4_carries_0 15 rfl rfl)
theorem dX4_carries_16 : decode cX4_carries 16 = .ok (.iload 5, 2) := dk_21 5 (dk_at dksX4_carries_0 16 rfl rfl)
theorem dX4_carries_18 : decode cX4_carries 18 = .ok (.aload_n 2, 1) := dk_44 (dk_at dksX4_carries_0 18 rfl rfl)
theorem dX4_carries_19 : decode cX4_carries 19 = .ok (.iload_n 3, 1) := dk_29 (dk_at dksX4_carries_0 19 rfl rfl)
theorem dX4_carries_20 : decode cX4_carries 20 = .ok (.iload 5, 2) := dk_21 5 (dk_at dksX4_carries_0 20 rfl rfl)
theorem dX4_carries_22 : decode cX4_carries 22 = .ok (.iadd, 1) := dk_96 (dk_at dksX4_carries_0 22 rfl rfl)
theorem dX4_carries_23 : decode cX4_carries 23 = .ok (.iaload, 1) := dk_46 (dk_at dksX4_carries_0 23 rfl rfl)
theorem dX4_carries_24 : decode cX4_carries 24 = .ok (.iastore, 1) := dk_79 (dk_at dksX4_carries_1 0 rfl rfl)
theorem dX4_carries_25 : decode cX4_carries 25 = .ok (.goto 13, 3) := dk_167 0 13 (dk_at dksX4_carries_1 1 rfl rfl)
theorem dX4_carries_28 : decode cX4_carries 28 = .ok (.aload_n 2, 1) := dk_44 (dk_at dksX4_carries_1 4 rfl rfl)
theorem dX4_carries_29 : decode cX4_carries 29 = .ok (.iload_n 3, 1) := dk_29 (dk_at dksX4_carries_1 5 rfl rfl)
theorem dX4_carries_30 : decode cX4_carries 30 = .ok (.iload 5, 2) := dk_21 5 (dk_at dksX4_carries_1 6 rfl rfl)
theorem dX4_carries_32 : decode cX4_carries 32 = .ok (.iadd, 1) := dk_96 (dk_at dksX4_carries_1 8 rfl rfl)
theorem dX4_carries_33 : decode cX4_carries 33 = .ok (.aload_n 1, 1) := dk_43 (dk_at dksX4_carries_1 9 rfl rfl)
theorem dX4_carries_34 : decode cX4_carries 34 = .ok (.iload 5, 2) := dk_21 5 (dk_at dksX4_carries_1 10 rfl rfl)
theorem dX4_carries_36 : decode cX4_carries 36 = .ok (.iaload, 1) := dk_46 (dk_at dksX4_carries_1 12 rfl rfl)
theorem dX4_carries_37 : decode cX4_carries 37 = .ok (.iastore, 1) := dk_79 (dk_at dksX4_carries_1 13 rfl rfl)
theorem dX4_carries_38 : decode cX4_carries 38 = .ok (.iinc 5 1, 3) := dk_132 5 1 (dk_at dksX4_carries_1 14 rfl rfl)
theorem dX4_carries_41 : decode cX4_carries 41 = .ok (.goto (-38), 3) := dk_167 255 218 (dk_at dksX4_carries_1 17 rfl rfl)
theorem dX4_carries_44 : decode cX4_carries 44 = .ok (.iload_n 3, 1) := dk_29 (dk_at dksX4_carries_1 20 rfl rfl)
theorem dX4_carries_45 : decode cX4_carries 45 = .ok (.bipush 8, 2) := dk_16 8 (dk_at dksX4_carries_1 21 rfl rfl)
theorem dX4_carries_47 : decode cX4_carries 47 = .ok (.iadd, 1) := dk_96 (dk_at dksX4_carries_1 23 rfl rfl)
theorem dX4_carries_48 : decode cX4_carries 48 = .ok (.ireturn, 1) := dk_172 (dk_at dksX4_carries_2 0 rfl rfl)
abbrev cX4_item : ByteArray := prog_21_method_35_code
def yX4_item : MethodName := ⟨RX4, "item", "()Z"⟩
def dkwX4_item_14 : List UInt8 := [180, 0, 69, 3, 46, 4, 79, 4, 172]
abbrev dktX4_item_14 : List UInt8 := dkwX4_item_14 ++ []
def dkwX4_item_13 : List UInt8 := [3, 46, 92, 46, 4, 42, 180, 0, 69, 4, 46, 120, 128, 79, 167, 0, 15, 42, 180, 0, 41, 42]
abbrev dktX4_item_13 : List UInt8 := dkwX4_item_13 ++ dktX4_item_14
def dkwX4_item_12 : List UInt8 := [167, 0, 53, 42, 42, 180, 0, 69, 3, 46, 181, 0, 13, 167, 0, 40, 42, 180, 0, 44, 42, 180, 0, 69]
abbrev dktX4_item_12 : List UInt8 := dkwX4_item_12 ++ dktX4_item_13
def dkwX4_item_11 : List UInt8 := [46, 42, 180, 0, 69, 7, 46, 182, 0, 120, 87, 167, 0, 66, 42, 42, 180, 0, 69, 3, 46, 181, 0, 7]
abbrev dktX4_item_11 : List UInt8 := dkwX4_item_11 ++ dktX4_item_12
def dkwX4_item_10 : List UInt8 := [42, 42, 180, 0, 69, 3, 46, 42, 180, 0, 69, 4, 46, 42, 180, 0, 69, 5, 46, 42, 180, 0, 69, 6]
abbrev dktX4_item_10 : List UInt8 := dkwX4_item_10 ++ dktX4_item_11
def dkwX4_item_9 : List UInt8 := [170, 0, 0, 0, 118, 0, 0, 0, 0, 0, 0, 0, 3, 0, 0, 0, 29, 0, 0, 0, 67, 0, 0, 0, 80, 0, 0, 0, 93]
abbrev dktX4_item_9 : List UInt8 := dkwX4_item_9 ++ dktX4_item_10
def dkwX4_item_8 : List UInt8 := [172, 42, 180, 0, 69, 21, 4, 42, 180, 0, 142, 79, 132, 4, 1, 167, 255, 149, 28]
abbrev dktX4_item_8 : List UInt8 := dkwX4_item_8 ++ dktX4_item_9
def dkwX4_item_7 : List UInt8 := [182, 0, 162, 154, 0, 5, 3, 172, 42, 28, 21, 4, 182, 0, 165, 154, 0, 10, 42, 21, 5, 182, 0, 149]
abbrev dktX4_item_7 : List UInt8 := dkwX4_item_7 ++ dktX4_item_8
def dkwX4_item_6 : List UInt8 := [180, 0, 133, 182, 0, 149, 172, 42, 89, 180, 0, 133, 4, 96, 181, 0, 133, 42, 180, 0, 133, 54, 5, 42]
abbrev dktX4_item_6 : List UInt8 := dkwX4_item_6 ++ dktX4_item_7
def dkwX4_item_5 : List UInt8 := [42, 180, 0, 59, 42, 180, 0, 139, 42, 180, 0, 133, 96, 47, 136, 16, 32, 159, 0, 12, 42, 42]
abbrev dktX4_item_5 : List UInt8 := dkwX4_item_5 ++ dktX4_item_6
def dkwX4_item_4 : List UInt8 := [54, 4, 21, 4, 29, 162, 0, 107, 21, 4, 158, 0, 53, 42, 180, 0, 133, 42, 180, 0, 136, 162, 0, 23]
abbrev dktX4_item_4 : List UInt8 := dkwX4_item_4 ++ dktX4_item_5
def dkwX4_item_3 : List UInt8 := [182, 0, 149, 172, 28, 154, 0, 7, 8, 167, 0, 13, 28, 6, 160, 0, 7, 5, 167, 0, 4, 4, 62, 3]
abbrev dktX4_item_3 : List UInt8 := dkwX4_item_3 ++ dktX4_item_4
def dkwX4_item_2 : List UInt8 := [28, 2, 160, 0, 5, 3, 172, 28, 154, 0, 18, 42, 180, 0, 84, 16, 8, 160, 0, 9, 42, 27]
abbrev dktX4_item_2 : List UInt8 := dkwX4_item_2 ++ dktX4_item_3
def dkwX4_item_1 : List UInt8 := [42, 180, 0, 133, 182, 0, 149, 172, 132, 1, 1, 167, 255, 223, 42, 180, 0, 133, 60, 42, 182, 0, 158, 61]
abbrev dktX4_item_1 : List UInt8 := dkwX4_item_1 ++ dktX4_item_2
def dkwX4_item_0 : List UInt8 := [3, 60, 27, 8, 162, 0, 34, 42, 27, 182, 0, 152, 153, 0, 20, 42, 27, 182, 0, 155, 153, 0, 12, 42]
abbrev dktX4_item_0 : List UInt8 := dkwX4_item_0 ++ dktX4_item_1
theorem dksX4_item_0 : cX4_item.data.toList.drop 0 = dktX4_item_0 := by decide +kernel
theorem dksX4_item_1 : cX4_item.data.toList.drop 24 = dktX4_item_1 := dk_seg dksX4_item_0 24 rfl rfl
theorem dksX4_item_2 : cX4_item.data.toList.drop 48 = dktX4_item_2 := dk_seg dksX4_item_1 24 rfl rfl
theorem dksX4_item_3 : cX4_item.data.toList.drop 70 = dktX4_item_3 := dk_seg dksX4_item_2 22 rfl rfl
theorem dksX4_item_4 : cX4_item.data.toList.drop 94 = dktX4_item_4 := dk_seg dksX4_item_3 24 rfl rfl
theorem dksX4_item_5 : cX4_item.data.toList.drop 118 = dktX4_item_5 := dk_seg dksX4_item_4 24 rfl rfl
theorem dksX4_item_6 : cX4_item.data.toList.drop 140 = dktX4_item_6 := dk_seg dksX4_item_5 22 rfl rfl
theorem dksX4_item_7 : cX4_item.data.toList.drop 164 = dktX4_item_7 := dk_seg dksX4_item_6 24 rfl rfl
theorem dksX4_item_8 : cX4_item.data.toList.drop 188 = dktX4_item_8 := dk_seg dksX4_item_7 24 rfl rfl
theorem dksX4_item_9 : cX4_item.data.toList.drop 207 = dktX4_item_9 := dk_seg dksX4_item_8 19 rfl rfl
theorem dksX4_item_10 : cX4_item.data.toList.drop 236 = dktX4_item_10 := dk_seg dksX4_item_9 29 rfl rfl
theorem dksX4_item_11 : cX4_item.data.toList.drop 260 = dktX4_item_11 := dk_seg dksX4_item_10 24 rfl rfl
theorem dksX4_item_12 : cX4_item.data.toList.drop 284 = dktX4_item_12 := dk_seg dksX4_item_11 24 rfl rfl
theorem dksX4_item_13 : cX4_item.data.toList.drop 308 = dktX4_item_13 := dk_seg dksX4_item_12 24 rfl rfl
theorem dksX4_item_14 : cX4_item.data.toList.drop 330 = dktX4_item_14 := dk_seg dksX4_item_13 22 rfl rfl
theorem dX4_item_0 : decode cX4_item 0 = .ok (.iconst 0, 1) := dk_3 (dk_at dksX4_item_0 0 rfl rfl)
theorem dX4_item_1 : decode cX4_item 1 = .ok (.istore_n 1, 1) := dk_60 (dk_at dksX4_item_0 1 rfl rfl)
theorem dX4_item_2 : decode cX4_item 2 = .ok (.iload_n 1, 1) := dk_27 (dk_at dksX4_item_0 2 rfl rfl)
theorem dX4_item_3 : decode cX4_item 3 = .ok (.iconst 5, 1) := dk_8 (dk_at dksX4_item_0 3 rfl rfl)
theorem dX4_item_4 : decode cX4_item 4 = .ok (.if_icmp .ge 34, 3) := dk_162 0 34 (dk_at dksX4_item_0 4 rfl rfl)
theorem dX4_item_7 : decode cX4_item 7 = .ok (.aload_n 0, 1) := dk_42 (dk_at dksX4_item_0 7 rfl rfl)
theorem dX4_item_8 : decode cX4_item 8 = .ok (.iload_n 1, 1) := dk_27 (dk_at dksX4_item_0 8 rfl rfl)
theorem dX4_item_9 : decode cX4_item 9 = .ok (.invokevirtual 152, 3) := dk_182 0 152 (dk_at dksX4_item_0 9 rfl rfl)
theorem dX4_item_12 : decode cX4_item 12 = .ok (.ifCond .eq 20, 3) := dk_153 0 20 (dk_at dksX4_item_0 12 rfl rfl)
theorem dX4_item_15 : decode cX4_item 15 = .ok (.aload_n 0, 1) := dk_42 (dk_at dksX4_item_0 15 rfl rfl)
theorem dX4_item_16 : decode cX4_item 16 = .ok (.iload_n 1, 1) := dk_27 (dk_at dksX4_item_0 16 rfl rfl)
theorem dX4_item_17 : decode cX4_item 17 = .ok (.invokevirtual 155, 3) := dk_182 0 155 (dk_at dksX4_item_0 17 rfl rfl)
theorem dX4_item_20 : decode cX4_item 20 = .ok (.ifCond .eq 12, 3) := dk_153 0 12 (dk_at dksX4_item_0 20 rfl rfl)
theorem dX4_item_23 : decode cX4_item 23 = .ok (.aload_n 0, 1) := dk_42 (dk_at dksX4_item_0 23 rfl rfl)
theorem dX4_item_24 : decode cX4_item 24 = .ok (.aload_n 0, 1) := dk_42 (dk_at dksX4_item_1 0 rfl rfl)
theorem dX4_item_25 : decode cX4_item 25 = .ok (.getfield 133, 3) := dk_180 0 133 (dk_at dksX4_item_1 1 rfl rfl)
theorem dX4_item_28 : decode cX4_item 28 = .ok (.invokevirtual 149, 3) := dk_182 0 149 (dk_at dksX4_item_1 4 rfl rfl)
theorem dX4_item_31 : decode cX4_item 31 = .ok (.ireturn, 1) := dk_172 (dk_at dksX4_item_1 7 rfl rfl)
theorem dX4_item_32 : decode cX4_item 32 = .ok (.iinc 1 1, 3) := dk_132 1 1 (dk_at dksX4_item_1 8 rfl rfl)
theorem dX4_item_35 : decode cX4_item 35 = .ok (.goto (-33), 3) := dk_167 255 223 (dk_at dksX4_item_1 11 rfl rfl)
theorem dX4_item_38 : decode cX4_item 38 = .ok (.aload_n 0, 1) := dk_42 (dk_at dksX4_item_1 14 rfl rfl)
theorem dX4_item_39 : decode cX4_item 39 = .ok (.getfield 133, 3) := dk_180 0 133 (dk_at dksX4_item_1 15 rfl rfl)
theorem dX4_item_42 : decode cX4_item 42 = .ok (.istore_n 1, 1) := dk_60 (dk_at dksX4_item_1 18 rfl rfl)
theorem dX4_item_43 : decode cX4_item 43 = .ok (.aload_n 0, 1) := dk_42 (dk_at dksX4_item_1 19 rfl rfl)
theorem dX4_item_44 : decode cX4_item 44 = .ok (.invokevirtual 158, 3) := dk_182 0 158 (dk_at dksX4_item_1 20 rfl rfl)
theorem dX4_item_47 : decode cX4_item 47 = .ok (.istore_n 2, 1) := dk_61 (dk_at dksX4_item_1 23 rfl rfl)
theorem dX4_item_48 : decode cX4_item 48 = .ok (.iload_n 2, 1) := dk_28 (dk_at dksX4_item_2 0 rfl rfl)
theorem dX4_item_49 : decode cX4_item 49 = .ok (.iconst (-1), 1) := dk_2 (dk_at dksX4_item_2 1 rfl rfl)
theorem dX4_item_50 : decode cX4_item 50 = .ok (.if_icmp .ne 5, 3) := dk_160 0 5 (dk_at dksX4_item_2 2 rfl rfl)
theorem dX4_item_53 : decode cX4_item 53 = .ok (.iconst 0, 1) := dk_3 (dk_at dksX4_item_2 5 rfl rfl)
theorem dX4_item_54 : decode cX4_item 54 = .ok (.ireturn, 1) := dk_172 (dk_at dksX4_item_2 6 rfl rfl)
theorem dX4_item_55 : decode cX4_item 55 = .ok (.iload_n 2, 1) := dk_28 (dk_at dksX4_item_2 7 rfl rfl)
theorem dX4_item_56 : decode cX4_item 56 = .ok (.ifCond .ne 18, 3) := dk_154 0 18 (dk_at dksX4_item_2 8 rfl rfl)
theorem dX4_item_59 : decode cX4_item 59 = .ok (.aload_n 0, 1) := dk_42 (dk_at dksX4_item_2 11 rfl rfl)
theorem dX4_item_60 : decode cX4_item 60 = .ok (.getfield 84, 3) := dk_180 0 84 (dk_at dksX4_item_2 12 rfl rfl)
theorem dX4_item_63 : decode cX4_item 63 = .ok (.bipush 8, 2) := dk_16 8 (dk_at dksX4_item_2 15 rfl rfl)
theorem dX4_item_65 : decode cX4_item 65 = .ok (.if_icmp .ne 9, 3) := dk_160 0 9 (dk_at dksX4_item_2 17 rfl rfl)
theorem dX4_item_68 : decode cX4_item 68 = .ok (.aload_n 0, 1) := dk_42 (dk_at dksX4_item_2 20 rfl rfl)
theorem dX4_item_69 : decode cX4_item 69 = .ok (.iload_n 1, 1) := dk_27 (dk_at dksX4_item_2 21 rfl rfl)
theorem dX4_item_70 : decode cX4_item 70 = .ok (.invokevirtual 149, 3) := dk_182 0 149 (dk_at dksX4_item_3 0 rfl rfl)
theorem dX4_item_73 : decode cX4_item 73 = .ok (.ireturn, 1) := dk_172 (dk_at dksX4_item_3 3 rfl rfl)
theorem dX4_item_74 : decode cX4_item 74 = .ok (.iload_n 2, 1) := dk_28 (dk_at dksX4_item_3 4 rfl rfl)
theorem dX4_item_75 : decode cX4_item 75 = .ok (.ifCond .ne 7, 3) := dk_154 0 7 (dk_at dksX4_item_3 5 rfl rfl)
theorem dX4_item_78 : decode cX4_item 78 = .ok (.iconst 5, 1) := dk_8 (dk_at dksX4_item_3 8 rfl rfl)
theorem dX4_item_79 : decode cX4_item 79 = .ok (.goto 13, 3) := dk_167 0 13 (dk_at dksX4_item_3 9 rfl rfl)
theorem dX4_item_82 : decode cX4_item 82 = .ok (.iload_n 2, 1) := dk_28 (dk_at dksX4_item_3 12 rfl rfl)
theorem dX4_item_83 : decode cX4_item 83 = .ok (.iconst 3, 1) := dk_6 (dk_at dksX4_item_3 13 rfl rfl)
theorem dX4_item_84 : decode cX4_item 84 = .ok (.if_icmp .ne 7, 3) := dk_160 0 7 (dk_at dksX4_item_3 14 rfl rfl)
theorem dX4_item_87 : decode cX4_item 87 = .ok (.iconst 2, 1) := dk_5 (dk_at dksX4_item_3 17 rfl rfl)
theorem dX4_item_88 : decode cX4_item 88 = .ok (.goto 4, 3) := dk_167 0 4 (dk_at dksX4_item_3 18 rfl rfl)
theorem dX4_item_91 : decode cX4_item 91 = .ok (.iconst 1, 1) := dk_4 (dk_at dksX4_item_3 21 rfl rfl)
theorem dX4_item_92 : decode cX4_item 92 = .ok (.istore_n 3, 1) := dk_62 (dk_at dksX4_item_3 22 rfl rfl)
theorem dX4_item_93 : decode cX4_item 93 = .ok (.iconst 0, 1) := dk_3 (dk_at dksX4_item_3 23 rfl rfl)
theorem dX4_item_94 : decode cX4_item 94 = .ok (.istore 4, 2) := dk_54 4 (dk_at dksX4_item_4 0 rfl rfl)
theorem dX4_item_96 : decode cX4_item 96 = .ok (.iload 4, 2) := dk_21 4 (dk_at dksX4_item_4 2 rfl rfl)
theorem dX4_item_98 : decode cX4_item 98 = .ok (.iload_n 3, 1) := dk_29 (dk_at dksX4_item_4 4 rfl rfl)
theorem dX4_item_99 : decode cX4_item 99 = .ok (.if_icmp .ge 107, 3) := dk_162 0 107 (dk_at dksX4_item_4 5 rfl rfl)
theorem dX4_item_102 : decode cX4_item 102 = .ok (.iload 4, 2) := dk_21 4 (dk_at dksX4_item_4 8 rfl rfl)
theorem dX4_item_104 : decode cX4_item 104 = .ok (.ifCond .le 53, 3) := dk_158 0 53 (dk_at dksX4_item_4 10 rfl rfl)
theorem dX4_item_107 : decode cX4_item 107 = .ok (.aload_n 0, 1) := dk_42 (dk_at dksX4_item_4 13 rfl rfl)
theorem dX4_item_108 : decode cX4_item 108 = .ok (.getfield 133, 3) := dk_180 0 133 (dk_at dksX4_item_4 14 rfl rfl)
theorem dX4_item_111 : decode cX4_item 111 = .ok (.aload_n 0, 1) := dk_42 (dk_at dksX4_item_4 17 rfl rfl)
theorem dX4_item_112 : decode cX4_item 112 = .ok (.getfield 136, 3) := dk_180 0 136 (dk_at dksX4_item_4 18 rfl rfl)
theorem dX4_item_115 : decode cX4_item 115 = .ok (.if_icmp .ge 23, 3) := dk_162 0 23 (dk_at dksX4_item_4 21 rfl rfl)
theorem dX4_item_118 : decode cX4_item 118 = .ok (.aload_n 0, 1) := dk_42 (dk_at dksX4_item_5 0 rfl rfl)
theorem dX4_item_119 : decode cX4_item 119 = .ok (.getfield 59, 3) := dk_180 0 59 (dk_at dksX4_item_5 1 rfl rfl)
theorem dX4_item_122 : decode cX4_item 122 = .ok (.aload_n 0, 1) := dk_42 (dk_at dksX4_item_5 4 rfl rfl)
theorem dX4_item_123 : decode cX4_item 123 = .ok (.getfield 139, 3) := dk_180 0 139 (dk_at dksX4_item_5 5 rfl rfl)
theorem dX4_item_126 : decode cX4_item 126 = .ok (.aload_n 0, 1) := dk_42 (dk_at dksX4_item_5 8 rfl rfl)
theorem dX4_item_127 : decode cX4_item 127 = .ok (.getfield 133, 3) := dk_180 0 133 (dk_at dksX4_item_5 9 rfl rfl)
theorem dX4_item_130 : decode cX4_item 130 = .ok (.iadd, 1) := dk_96 (dk_at dksX4_item_5 12 rfl rfl)
theorem dX4_item_131 : decode cX4_item 131 = .ok (.laload, 1) := dk_47 (dk_at dksX4_item_5 13 rfl rfl)
theorem dX4_item_132 : decode cX4_item 132 = .ok (.l2i, 1) := dk_136 (dk_at dksX4_item_5 14 rfl rfl)
theorem dX4_item_133 : decode cX4_item 133 = .ok (.bipush 32, 2) := dk_16 32 (dk_at dksX4_item_5 15 rfl rfl)
theorem dX4_item_135 : decode cX4_item 135 = .ok (.if_icmp .eq 12, 3) := dk_159 0 12 (dk_at dksX4_item_5 17 rfl rfl)
theorem dX4_item_138 : decode cX4_item 138 = .ok (.aload_n 0, 1) := dk_42 (dk_at dksX4_item_5 20 rfl rfl)
theorem dX4_item_139 : decode cX4_item 139 = .ok (.aload_n 0, 1) := dk_42 (dk_at dksX4_item_5 21 rfl rfl)
theorem dX4_item_140 : decode cX4_item 140 = .ok (.getfield 133, 3) := dk_180 0 133 (dk_at dksX4_item_6 0 rfl rfl)
theorem dX4_item_143 : decode cX4_item 143 = .ok (.invokevirtual 149, 3) := dk_182 0 149 (dk_at dksX4_item_6 3 rfl rfl)
theorem dX4_item_146 : decode cX4_item 146 = .ok (.ireturn, 1) := dk_172 (dk_at dksX4_item_6 6 rfl rfl)
theorem dX4_item_147 : decode cX4_item 147 = .ok (.aload_n 0, 1) := dk_42 (dk_at dksX4_item_6 7 rfl rfl)
theorem dX4_item_148 : decode cX4_item 148 = .ok (.dup, 1) := dk_89 (dk_at dksX4_item_6 8 rfl rfl)
theorem dX4_item_149 : decode cX4_item 149 = .ok (.getfield 133, 3) := dk_180 0 133 (dk_at dksX4_item_6 9 rfl rfl)
theorem dX4_item_152 : decode cX4_item 152 = .ok (.iconst 1, 1) := dk_4 (dk_at dksX4_item_6 12 rfl rfl)
theorem dX4_item_153 : decode cX4_item 153 = .ok (.iadd, 1) := dk_96 (dk_at dksX4_item_6 13 rfl rfl)
theorem dX4_item_154 : decode cX4_item 154 = .ok (.putfield 133, 3) := dk_181 0 133 (dk_at dksX4_item_6 14 rfl rfl)
theorem dX4_item_157 : decode cX4_item 157 = .ok (.aload_n 0, 1) := dk_42 (dk_at dksX4_item_6 17 rfl rfl)
theorem dX4_item_158 : decode cX4_item 158 = .ok (.getfield 133, 3) := dk_180 0 133 (dk_at dksX4_item_6 18 rfl rfl)
theorem dX4_item_161 : decode cX4_item 161 = .ok (.istore 5, 2) := dk_54 5 (dk_at dksX4_item_6 21 rfl rfl)
theorem dX4_item_163 : decode cX4_item 163 = .ok (.aload_n 0, 1) := dk_42 (dk_at dksX4_item_6 23 rfl rfl)
theorem dX4_item_164 : decode cX4_item 164 = .ok (.invokevirtual 162, 3) := dk_182 0 162 (dk_at dksX4_item_7 0 rfl rfl)
theorem dX4_item_167 : decode cX4_item 167 = .ok (.ifCond .ne 5, 3) := dk_154 0 5 (dk_at dksX4_item_7 3 rfl rfl)
theorem dX4_item_170 : decode cX4_item 170 = .ok (.iconst 0, 1) := dk_3 (dk_at dksX4_item_7 6 rfl rfl)
theorem dX4_item_171 : decode cX4_item 171 = .ok (.ireturn, 1) := dk_172 (dk_at dksX4_item_7 7 rfl rfl)
theorem dX4_item_172 : decode cX4_item 172 = .ok (.aload_n 0, 1) := dk_42 (dk_at dksX4_item_7 8 rfl rfl)
theorem dX4_item_173 : decode cX4_item 173 = .ok (.iload_n 2, 1) := dk_28 (dk_at dksX4_item_7 9 rfl rfl)
theorem dX4_item_174 : decode cX4_item 174 = .ok (.iload 4, 2) := dk_21 4 (dk_at dksX4_item_7 10 rfl rfl)
theorem dX4_item_176 : decode cX4_item 176 = .ok (.invokevirtual 165, 3) := dk_182 0 165 (dk_at dksX4_item_7 12 rfl rfl)
theorem dX4_item_179 : decode cX4_item 179 = .ok (.ifCond .ne 10, 3) := dk_154 0 10 (dk_at dksX4_item_7 15 rfl rfl)
theorem dX4_item_182 : decode cX4_item 182 = .ok (.aload_n 0, 1) := dk_42 (dk_at dksX4_item_7 18 rfl rfl)
theorem dX4_item_183 : decode cX4_item 183 = .ok (.iload 5, 2) := dk_21 5 (dk_at dksX4_item_7 19 rfl rfl)
theorem dX4_item_185 : decode cX4_item 185 = .ok (.invokevirtual 149, 3) := dk_182 0 149 (dk_at dksX4_item_7 21 rfl rfl)
theorem dX4_item_188 : decode cX4_item 188 = .ok (.ireturn, 1) := dk_172 (dk_at dksX4_item_8 0 rfl rfl)
theorem dX4_item_189 : decode cX4_item 189 = .ok (.aload_n 0, 1) := dk_42 (dk_at dksX4_item_8 1 rfl rfl)
theorem dX4_item_190 : decode cX4_item 190 = .ok (.getfield 69, 3) := dk_180 0 69 (dk_at dksX4_item_8 2 rfl rfl)
theorem dX4_item_193 : decode cX4_item 193 = .ok (.iload 4, 2) := dk_21 4 (dk_at dksX4_item_8 5 rfl rfl)
theorem dX4_item_195 : decode cX4_item 195 = .ok (.aload_n 0, 1) := dk_42 (dk_at dksX4_item_8 7 rfl rfl)
theorem dX4_item_196 : decode cX4_item 196 = .ok (.getfield 142, 3) := dk_180 0 142 (dk_at dksX4_item_8 8 rfl rfl)
theorem dX4_item_199 : decode cX4_item 199 = .ok (.iastore, 1) := dk_79 (dk_at dksX4_item_8 11 rfl rfl)
theorem dX4_item_200 : decode cX4_item 200 = .ok (.iinc 4 1, 3) := dk_132 4 1 (dk_at dksX4_item_8 12 rfl rfl)
theorem dX4_item_203 : decode cX4_item 203 = .ok (.goto (-107), 3) := dk_167 255 149 (dk_at dksX4_item_8 15 rfl rfl)
theorem dX4_item_206 : decode cX4_item 206 = .ok (.iload_n 2, 1) := dk_28 (dk_at dksX4_item_8 18 rfl rfl)
theorem dX4_item_207 : decode cX4_item 207 = .ok (.tableswitch 118 0 3 #[29, 67, 80, 93], 29) := by decide +kernel
theorem dX4_item_236 : decode cX4_item 236 = .ok (.aload_n 0, 1) := dk_42 (dk_at dksX4_item_10 0 rfl rfl)
theorem dX4_item_237 : decode cX4_item 237 = .ok (.aload_n 0, 1) := dk_42 (dk_at dksX4_item_10 1 rfl rfl)
theorem dX4_item_238 : decode cX4_item 238 = .ok (.getfield 69, 3) := dk_180 0 69 (dk_at dksX4_item_10 2 rfl rfl)
theorem dX4_item_241 : decode cX4_item 241 = .ok (.iconst 0, 1) := dk_3 (dk_at dksX4_item_10 5 rfl rfl)
theorem dX4_item_242 : decode cX4_item 242 = .ok (.iaload, 1) := dk_46 (dk_at dksX4_item_10 6 rfl rfl)
theorem dX4_item_243 : decode cX4_item 243 = .ok (.aload_n 0, 1) := dk_42 (dk_at dksX4_item_10 7 rfl rfl)
theorem dX4_item_244 : decode cX4_item 244 = .ok (.getfield 69, 3) := dk_180 0 69 (dk_at dksX4_item_10 8 rfl rfl)
theorem dX4_item_247 : decode cX4_item 247 = .ok (.iconst 1, 1) := dk_4 (dk_at dksX4_item_10 11 rfl rfl)
theorem dX4_item_248 : decode cX4_item 248 = .ok (.iaload, 1) := dk_46 (dk_at dksX4_item_10 12 rfl rfl)
theorem dX4_item_249 : decode cX4_item 249 = .ok (.aload_n 0, 1) := dk_42 (dk_at dksX4_item_10 13 rfl rfl)
theorem dX4_item_250 : decode cX4_item 250 = .ok (.getfield 69, 3) := dk_180 0 69 (dk_at dksX4_item_10 14 rfl rfl)
theorem dX4_item_253 : decode cX4_item 253 = .ok (.iconst 2, 1) := dk_5 (dk_at dksX4_item_10 17 rfl rfl)
theorem dX4_item_254 : decode cX4_item 254 = .ok (.iaload, 1) := dk_46 (dk_at dksX4_item_10 18 rfl rfl)
theorem dX4_item_255 : decode cX4_item 255 = .ok (.aload_n 0, 1) := dk_42 (dk_at dksX4_item_10 19 rfl rfl)
theorem dX4_item_256 : decode cX4_item 256 = .ok (.getfield 69, 3) := dk_180 0 69 (dk_at dksX4_item_10 20 rfl rfl)
theorem dX4_item_259 : decode cX4_item 259 = .ok (.iconst 3, 1) := dk_6 (dk_at dksX4_item_10 23 rfl rfl)
theorem dX4_item_260 : decode cX4_item 260 = .ok (.iaload, 1) := dk_46 (dk_at dksX4_item_11 0 rfl rfl)
theorem dX4_item_261 : decode cX4_item 261 = .ok (.aload_n 0, 1) := dk_42 (dk_at dksX4_item_11 1 rfl rfl)
theorem dX4_item_262 : decode cX4_item 262 = .ok (.getfield 69, 3) := dk_180 0 69 (dk_at dksX4_item_11 2 rfl rfl)
theorem dX4_item_265 : decode cX4_item 265 = .ok (.iconst 4, 1) := dk_7 (dk_at dksX4_item_11 5 rfl rfl)
theorem dX4_item_266 : decode cX4_item 266 = .ok (.iaload, 1) := dk_46 (dk_at dksX4_item_11 6 rfl rfl)
theorem dX4_item_267 : decode cX4_item 267 = .ok (.invokevirtual 120, 3) := dk_182 0 120 (dk_at dksX4_item_11 7 rfl rfl)
theorem dX4_item_270 : decode cX4_item 270 = .ok (.pop, 1) := dk_87 (dk_at dksX4_item_11 10 rfl rfl)
theorem dX4_item_271 : decode cX4_item 271 = .ok (.goto 66, 3) := dk_167 0 66 (dk_at dksX4_item_11 11 rfl rfl)
theorem dX4_item_274 : decode cX4_item 274 = .ok (.aload_n 0, 1) := dk_42 (dk_at dksX4_item_11 14 rfl rfl)
theorem dX4_item_275 : decode cX4_item 275 = .ok (.aload_n 0, 1) := dk_42 (dk_at dksX4_item_11 15 rfl rfl)
theorem dX4_item_276 : decode cX4_item 276 = .ok (.getfield 69, 3) := dk_180 0 69 (dk_at dksX4_item_11 16 rfl rfl)
theorem dX4_item_279 : decode cX4_item 279 = .ok (.iconst 0, 1) := dk_3 (dk_at dksX4_item_11 19 rfl rfl)
theorem dX4_item_280 : decode cX4_item 280 = .ok (.iaload, 1) := dk_46 (dk_at dksX4_item_11 20 rfl rfl)
theorem dX4_item_281 : decode cX4_item 281 = .ok (.putfield 7, 3) := dk_181 0 7 (dk_at dksX4_item_11 21 rfl rfl)
theorem dX4_item_284 : decode cX4_item 284 = .ok (.goto 53, 3) := dk_167 0 53 (dk_at dksX4_item_12 0 rfl rfl)
theorem dX4_item_287 : decode cX4_item 287 = .ok (.aload_n 0, 1) := dk_42 (dk_at dksX4_item_12 3 rfl rfl)
theorem dX4_item_288 : decode cX4_item 288 = .ok (.aload_n 0, 1) := dk_42 (dk_at dksX4_item_12 4 rfl rfl)
theorem dX4_item_289 : decode cX4_item 289 = .ok (.getfield 69, 3) := dk_180 0 69 (dk_at dksX4_item_12 5 rfl rfl)
theorem dX4_item_292 : decode cX4_item 292 = .ok (.iconst 0, 1) := dk_3 (dk_at dksX4_item_12 8 rfl rfl)
theorem dX4_item_293 : decode cX4_item 293 = .ok (.iaload, 1) := dk_46 (dk_at dksX4_item_12 9 rfl rfl)
theorem dX4_item_294 : decode cX4_item 294 = .ok (.putfield 13, 3) := dk_181 0 13 (dk_at dksX4_item_12 10 rfl rfl)
theorem dX4_item_297 : decode cX4_item 297 = .ok (.goto 40, 3) := dk_167 0 40 (dk_at dksX4_item_12 13 rfl rfl)
theorem dX4_item_300 : decode cX4_item 300 = .ok (.aload_n 0, 1) := dk_42 (dk_at dksX4_item_12 16 rfl rfl)
theorem dX4_item_301 : decode cX4_item 301 = .ok (.getfield 44, 3) := dk_180 0 44 (dk_at dksX4_item_12 17 rfl rfl)
theorem dX4_item_304 : decode cX4_item 304 = .ok (.aload_n 0, 1) := dk_42 (dk_at dksX4_item_12 20 rfl rfl)
theorem dX4_item_305 : decode cX4_item 305 = .ok (.getfield 69, 3) := dk_180 0 69 (dk_at dksX4_item_12 21 rfl rfl)
theorem dX4_item_308 : decode cX4_item 308 = .ok (.iconst 0, 1) := dk_3 (dk_at dksX4_item_13 0 rfl rfl)
theorem dX4_item_309 : decode cX4_item 309 = .ok (.iaload, 1) := dk_46 (dk_at dksX4_item_13 1 rfl rfl)
theorem dX4_item_310 : decode cX4_item 310 = .ok (.dup2, 1) := dk_92 (dk_at dksX4_item_13 2 rfl rfl)
theorem dX4_item_311 : decode cX4_item 311 = .ok (.iaload, 1) := dk_46 (dk_at dksX4_item_13 3 rfl rfl)
theorem dX4_item_312 : decode cX4_item 312 = .ok (.iconst 1, 1) := dk_4 (dk_at dksX4_item_13 4 rfl rfl)
theorem dX4_item_313 : decode cX4_item 313 = .ok (.aload_n 0, 1) := dk_42 (dk_at dksX4_item_13 5 rfl rfl)
theorem dX4_item_314 : decode cX4_item 314 = .ok (.getfield 69, 3) := dk_180 0 69 (dk_at dksX4_item_13 6 rfl rfl)
theorem dX4_item_317 : decode cX4_item 317 = .ok (.iconst 1, 1) := dk_4 (dk_at dksX4_item_13 9 rfl rfl)
theorem dX4_item_318 : decode cX4_item 318 = .ok (.iaload, 1) := dk_46 (dk_at dksX4_item_13 10 rfl rfl)
theorem dX4_item_319 : decode cX4_item 319 = .ok (.ishl, 1) := dk_120 (dk_at dksX4_item_13 11 rfl rfl)
theorem dX4_item_320 : decode cX4_item 320 = .ok (.ior, 1) := dk_128 (dk_at dksX4_item_13 12 rfl rfl)
theorem dX4_item_321 : decode cX4_item 321 = .ok (.iastore, 1) := dk_79 (dk_at dksX4_item_13 13 rfl rfl)
theorem dX4_item_322 : decode cX4_item 322 = .ok (.goto 15, 3) := dk_167 0 15 (dk_at dksX4_item_13 14 rfl rfl)
theorem dX4_item_325 : decode cX4_item 325 = .ok (.aload_n 0, 1) := dk_42 (dk_at dksX4_item_13 17 rfl rfl)
theorem dX4_item_326 : decode cX4_item 326 = .ok (.getfield 41, 3) := dk_180 0 41 (dk_at dksX4_item_13 18 rfl rfl)
theorem dX4_item_329 : decode cX4_item 329 = .ok (.aload_n 0, 1) := dk_42 (dk_at dksX4_item_13 21 rfl rfl)
theorem dX4_item_330 : decode cX4_item 330 = .ok (.getfield 69, 3) := dk_180 0 69 (dk_at dksX4_item_14 0 rfl rfl)
theorem dX4_item_333 : decode cX4_item 333 = .ok (.iconst 0, 1) := dk_3 (dk_at dksX4_item_14 3 rfl rfl)
theorem dX4_item_334 : decode cX4_item 334 = .ok (.iaload, 1) := dk_46 (dk_at dksX4_item_14 4 rfl rfl)
theorem dX4_item_335 : decode cX4_item 335 = .ok (.iconst 1, 1) := dk_4 (dk_at dksX4_item_14 5 rfl rfl)
theorem dX4_item_336 : decode cX4_item 336 = .ok (.iastore, 1) := dk_79 (dk_at dksX4_item_14 6 rfl rfl)
theorem dX4_item_337 : decode cX4_item 337 = .ok (.iconst 1, 1) := dk_4 (dk_at dksX4_item_14 7 rfl rfl)
theorem dX4_item_338 : decode cX4_item 338 = .ok (.ireturn, 1) := dk_172 (dk_at dksX4_item_14 8 rfl rfl)
abbrev cX4_isWordAt : ByteArray := prog_21_method_34_code
def yX4_isWordAt : MethodName := ⟨RX4, "isWordAt", "(I)Z"⟩
def dkwX4_isWordAt_4 : List UInt8 := [163, 0, 7, 4, 167, 0, 4, 3, 172]
abbrev dktX4_isWordAt_4 : List UInt8 := dkwX4_isWordAt_4 ++ []
def dkwX4_isWordAt_3 : List UInt8 := [28, 46, 160, 0, 12, 132, 3, 1, 132, 2, 1, 167, 255, 210, 42, 180, 0, 66, 28, 46, 16, 32]
abbrev dktX4_isWordAt_3 : List UInt8 := dkwX4_isWordAt_3 ++ dktX4_isWordAt_4
def dkwX4_isWordAt_2 : List UInt8 := [29, 42, 180, 0, 136, 162, 0, 33, 42, 180, 0, 59, 42, 180, 0, 139, 29, 96, 47, 136, 42, 180, 0, 66]
abbrev dktX4_isWordAt_2 : List UInt8 := dkwX4_isWordAt_2 ++ dktX4_isWordAt_3
def dkwX4_isWordAt_1 : List UInt8 := [96, 62, 132, 2, 1, 167, 255, 231, 42, 180, 0, 133, 62, 42, 180, 0, 66, 28, 46, 16, 32, 164, 0, 41]
abbrev dktX4_isWordAt_1 : List UInt8 := dkwX4_isWordAt_1 ++ dktX4_isWordAt_2
def dkwX4_isWordAt_0 : List UInt8 := [3, 61, 3, 62, 29, 27, 162, 0, 26, 29, 42, 180, 0, 66, 28, 46, 154, 0, 7, 4, 167, 0, 4, 3]
abbrev dktX4_isWordAt_0 : List UInt8 := dkwX4_isWordAt_0 ++ dktX4_isWordAt_1
theorem dksX4_isWordAt_0 : cX4_isWordAt.data.toList.drop 0 = dktX4_isWordAt_0 := by decide +kernel
theorem dksX4_isWordAt_1 : cX4_isWordAt.data.toList.drop 24 = dktX4_isWordAt_1 := dk_seg dksX4_isWordAt_0 24 rfl rfl
theorem dksX4_isWordAt_2 : cX4_isWordAt.data.toList.drop 48 = dktX4_isWordAt_2 := dk_seg dksX4_isWordAt_1 24 rfl rfl
theorem dksX4_isWordAt_3 : cX4_isWordAt.data.toList.drop 72 = dktX4_isWordAt_3 := dk_seg dksX4_isWordAt_2 24 rfl rfl
theorem dksX4_isWordAt_4 : cX4_isWordAt.data.toList.drop 94 = dktX4_isWordAt_4 := dk_seg dksX4_isWordAt_3 22 rfl rfl
theorem dX4_isWordAt_0 : decode cX4_isWordAt 0 = .ok (.iconst 0, 1) := dk_3 (dk_at dksX4_isWordAt_0 0 rfl rfl)
theorem dX4_isWordAt_1 : decode cX4_isWordAt 1 = .ok (.istore_n 2, 1) := dk_61 (dk_at dksX4_isWordAt_0 1 rfl rfl)
theorem dX4_isWordAt_2 : decode cX4_isWordAt 2 = .ok (.iconst 0, 1) := dk_3 (dk_at dksX4_isWordAt_0 2 rfl rfl)
theorem dX4_isWordAt_3 : decode cX4_isWordAt 3 = .ok (.istore_n 3, 1) := dk_62 (dk_at dksX4_isWordAt_0 3 rfl rfl)
theorem dX4_isWordAt_4 : decode cX4_isWordAt 4 = .ok (.iload_n 3, 1) := dk_29 (dk_at dksX4_isWordAt_0 4 rfl rfl)
theorem dX4_isWordAt_5 : decode cX4_isWordAt 5 = .ok (.iload_n 1, 1) := dk_27 (dk_at dksX4_isWordAt_0 5 rfl rfl)
theorem dX4_isWordAt_6 : decode cX4_isWordAt 6 = .ok (.if_icmp .ge 26, 3) := dk_162 0 26 (dk_at dksX4_isWordAt_0 6 rfl rfl)
theorem dX4_isWordAt_9 : decode cX4_isWordAt 9 = .ok (.iload_n 3, 1) := dk_29 (dk_at dksX4_isWordAt_0 9 rfl rfl)
theorem dX4_isWordAt_10 : decode cX4_isWordAt 10 = .ok (.aload_n 0, 1) := dk_42 (dk_at dksX4_isWordAt_0 10 rfl rfl)
theorem dX4_isWordAt_11 : decode cX4_isWordAt 11 = .ok (.getfield 66, 3) := dk_180 0 66 (dk_at dksX4_isWordAt_0 11 rfl rfl)
theorem dX4_isWordAt_14 : decode cX4_isWordAt 14 = .ok (.iload_n 2, 1) := dk_28 (dk_at dksX4_isWordAt_0 14 rfl rfl)
theorem dX4_isWordAt_15 : decode cX4_isWordAt 15 = .ok (.iaload, 1) := dk_46 (dk_at dksX4_isWordAt_0 15 rfl rfl)
theorem dX4_isWordAt_16 : decode cX4_isWordAt 16 = .ok (.ifCond .ne 7, 3) := dk_154 0 7 (dk_at dksX4_isWordAt_0 16 rfl rfl)
theorem dX4_isWordAt_19 : decode cX4_isWordAt 19 = .ok (.iconst 1, 1) := dk_4 (dk_at dksX4_isWordAt_0 19 rfl rfl)
theorem dX4_isWordAt_20 : decode cX4_isWordAt 20 = .ok (.goto 4, 3) := dk_167 0 4 (dk_at dksX4_isWordAt_0 20 rfl rfl)
theorem dX4_isWordAt_23 : decode cX4_isWordAt 23 = .ok (.iconst 0, 1) := dk_3 (dk_at dksX4_isWordAt_0 23 rfl rfl)
theorem dX4_isWordAt_24 : decode cX4_isWordAt 24 = .ok (.iadd, 1) := dk_96 (dk_at dksX4_isWordAt_1 0 rfl rfl)
theorem dX4_isWordAt_25 : decode cX4_isWordAt 25 = .ok (.istore_n 3, 1) := dk_62 (dk_at dksX4_isWordAt_1 1 rfl rfl)
theorem dX4_isWordAt_26 : decode cX4_isWordAt 26 = .ok (.iinc 2 1, 3) := dk_132 2 1 (dk_at dksX4_isWordAt_1 2 rfl rfl)
theorem dX4_isWordAt_29 : decode cX4_isWordAt 29 = .ok (.goto (-25), 3) := dk_167 255 231 (dk_at dksX4_isWordAt_1 5 rfl rfl)
theorem dX4_isWordAt_32 : decode cX4_isWordAt 32 = .ok (.aload_n 0, 1) := dk_42 (dk_at dksX4_isWordAt_1 8 rfl rfl)
theorem dX4_isWordAt_33 : decode cX4_isWordAt 33 = .ok (.getfield 133, 3) := dk_180 0 133 (dk_at dksX4_isWordAt_1 9 rfl rfl)
theorem dX4_isWordAt_36 : decode cX4_isWordAt 36 = .ok (.istore_n 3, 1) := dk_62 (dk_at dksX4_isWordAt_1 12 rfl rfl)
theorem dX4_isWordAt_37 : decode cX4_isWordAt 37 = .ok (.aload_n 0, 1) := dk_42 (dk_at dksX4_isWordAt_1 13 rfl rfl)
theorem dX4_isWordAt_38 : decode cX4_isWordAt 38 = .ok (.getfield 66, 3) := dk_180 0 66 (dk_at dksX4_isWordAt_1 14 rfl rfl)
theorem dX4_isWordAt_41 : decode cX4_isWordAt 41 = .ok (.iload_n 2, 1) := dk_28 (dk_at dksX4_isWordAt_1 17 rfl rfl)
theorem dX4_isWordAt_42 : decode cX4_isWordAt 42 = .ok (.iaload, 1) := dk_46 (dk_at dksX4_isWordAt_1 18 rfl rfl)
theorem dX4_isWordAt_43 : decode cX4_isWordAt 43 = .ok (.bipush 32, 2) := dk_16 32 (dk_at dksX4_isWordAt_1 19 rfl rfl)
theorem dX4_isWordAt_45 : decode cX4_isWordAt 45 = .ok (.if_icmp .le 41, 3) := dk_164 0 41 (dk_at dksX4_isWordAt_1 21 rfl rfl)
theorem dX4_isWordAt_48 : decode cX4_isWordAt 48 = .ok (.iload_n 3, 1) := dk_29 (dk_at dksX4_isWordAt_2 0 rfl rfl)
theorem dX4_isWordAt_49 : decode cX4_isWordAt 49 = .ok (.aload_n 0, 1) := dk_42 (dk_at dksX4_isWordAt_2 1 rfl rfl)
theorem dX4_isWordAt_50 : decode cX4_isWordAt 50 = .ok (.getfield 136, 3) := dk_180 0 136 (dk_at dksX4_isWordAt_2 2 rfl rfl)
theorem dX4_isWordAt_53 : decode cX4_isWordAt 53 = .ok (.if_icmp .ge 33, 3) := dk_162 0 33 (dk_at dksX4_isWordAt_2 5 rfl rfl)
theorem dX4_isWordAt_56 : decode cX4_isWordAt 56 = .ok (.aload_n 0, 1) := dk_42 (dk_at dksX4_isWordAt_2 8 rfl rfl)
theorem dX4_isWordAt_57 : decode cX4_isWordAt 57 = .ok (.getfield 59, 3) := dk_180 0 59 (dk_at dksX4_isWordAt_2 9 rfl rfl)
theorem dX4_isWordAt_60 : decode cX4_isWordAt 60 = .ok (.aload_n 0, 1) := dk_42 (dk_at dksX4_isWordAt_2 12 rfl rfl)
theorem dX4_isWordAt_61 : decode cX4_isWordAt 61 = .ok (.getfield 139, 3) := dk_180 0 139 (dk_at dksX4_isWordAt_2 13 rfl rfl)
theorem dX4_isWordAt_64 : decode cX4_isWordAt 64 = .ok (.iload_n 3, 1) := dk_29 (dk_at dksX4_isWordAt_2 16 rfl rfl)
theorem dX4_isWordAt_65 : decode cX4_isWordAt 65 = .ok (.iadd, 1) := dk_96 (dk_at dksX4_isWordAt_2 17 rfl rfl)
theorem dX4_isWordAt_66 : decode cX4_isWordAt 66 = .ok (.laload, 1) := dk_47 (dk_at dksX4_isWordAt_2 18 rfl rfl)
theorem dX4_isWordAt_67 : decode cX4_isWordAt 67 = .ok (.l2i, 1) := dk_136 (dk_at dksX4_isWordAt_2 19 rfl rfl)
theorem dX4_isWordAt_68 : decode cX4_isWordAt 68 = .ok (.aload_n 0, 1) := dk_42 (dk_at dksX4_isWordAt_2 20 rfl rfl)
theorem dX4_isWordAt_69 : decode cX4_isWordAt 69 = .ok (.getfield 66, 3) := dk_180 0 66 (dk_at dksX4_isWordAt_2 21 rfl rfl)
theorem dX4_isWordAt_72 : decode cX4_isWordAt 72 = .ok (.iload_n 2, 1) := dk_28 (dk_at dksX4_isWordAt_3 0 rfl rfl)
theorem dX4_isWordAt_73 : decode cX4_isWordAt 73 = .ok (.iaload, 1) := dk_46 (dk_at dksX4_isWordAt_3 1 rfl rfl)
theorem dX4_isWordAt_74 : decode cX4_isWordAt 74 = .ok (.if_icmp .ne 12, 3) := dk_160 0 12 (dk_at dksX4_isWordAt_3 2 rfl rfl)
theorem dX4_isWordAt_77 : decode cX4_isWordAt 77 = .ok (.iinc 3 1, 3) := dk_132 3 1 (dk_at dksX4_isWordAt_3 5 rfl rfl)
theorem dX4_isWordAt_80 : decode cX4_isWordAt 80 = .ok (.iinc 2 1, 3) := dk_132 2 1 (dk_at dksX4_isWordAt_3 8 rfl rfl)
theorem dX4_isWordAt_83 : decode cX4_isWordAt 83 = .ok (.goto (-46), 3) := dk_167 255 210 (dk_at dksX4_isWordAt_3 11 rfl rfl)
theorem dX4_isWordAt_86 : decode cX4_isWordAt 86 = .ok (.aload_n 0, 1) := dk_42 (dk_at dksX4_isWordAt_3 14 rfl rfl)
theorem dX4_isWordAt_87 : decode cX4_isWordAt 87 = .ok (.getfield 66, 3) := dk_180 0 66 (dk_at dksX4_isWordAt_3 15 rfl rfl)
theorem dX4_isWordAt_90 : decode cX4_isWordAt 90 = .ok (.iload_n 2, 1) := dk_28 (dk_at dksX4_isWordAt_3 18 rfl rfl)
theorem dX4_isWordAt_91 : decode cX4_isWordAt 91 = .ok (.iaload, 1) := dk_46 (dk_at dksX4_isWordAt_3 19 rfl rfl)
theorem dX4_isWordAt_92 : decode cX4_isWordAt 92 = .ok (.bipush 32, 2) := dk_16 32 (dk_at dksX4_isWordAt_3 20 rfl rfl)
theorem dX4_isWordAt_94 : decode cX4_isWordAt 94 = .ok (.if_icmp .gt 7, 3) := dk_163 0 7 (dk_at dksX4_isWordAt_4 0 rfl rfl)
theorem dX4_isWordAt_97 : decode cX4_isWordAt 97 = .ok (.iconst 1, 1) := dk_4 (dk_at dksX4_isWordAt_4 3 rfl rfl)
theorem dX4_isWordAt_98 : decode cX4_isWordAt 98 = .ok (.goto 4, 3) := dk_167 0 4 (dk_at dksX4_isWordAt_4 4 rfl rfl)
theorem dX4_isWordAt_101 : decode cX4_isWordAt 101 = .ok (.iconst 0, 1) := dk_3 (dk_at dksX4_isWordAt_4 7 rfl rfl)
theorem dX4_isWordAt_102 : decode cX4_isWordAt 102 = .ok (.ireturn, 1) := dk_172 (dk_at dksX4_isWordAt_4 8 rfl rfl)
abbrev cX4_isFull : ByteArray := prog_21_method_33_code
def yX4_isFull : MethodName := ⟨RX4, "isFull", "(I)Z"⟩
def dkwX4_isFull_0 : List UInt8 := [27, 154, 0, 16, 42, 180, 0, 84, 16, 8, 160, 0, 7, 4, 167, 0, 4, 3, 172]
abbrev dktX4_isFull_0 : List UInt8 := dkwX4_isFull_0 ++ []
theorem dksX4_isFull_0 : cX4_isFull.data.toList.drop 0 = dktX4_isFull_0 := by decide +kernel
theorem dX4_isFull_0 : decode cX4_isFull 0 = .ok (.iload_n 1, 1) := dk_27 (dk_at dksX4_isFull_0 0 rfl rfl)
theorem dX4_isFull_1 : decode cX4_isFull 1 = .ok (.ifCond .ne 16, 3) := dk_154 0 16 (dk_at dksX4_isFull_0 1 rfl rfl)
theorem dX4_isFull_4 : decode cX4_isFull 4 = .ok (.aload_n 0, 1) := dk_42 (dk_at dksX4_isFull_0 4 rfl rfl)
theorem dX4_isFull_5 : decode cX4_isFull 5 = .ok (.getfield 84, 3) := dk_180 0 84 (dk_at dksX4_isFull_0 5 rfl rfl)
theorem dX4_isFull_8 : decode cX4_isFull 8 = .ok (.bipush 8, 2) := dk_16 8 (dk_at dksX4_isFull_0 8 rfl rfl)
theorem dX4_isFull_10 : decode cX4_isFull 10 = .ok (.if_icmp .ne 7, 3) := dk_160 0 7 (dk_at dksX4_isFull_0 10 rfl rfl)
theorem dX4_isFull_13 : decode cX4_isFull 13 = .ok (.iconst 1, 1) := dk_4 (dk_at dksX4_isFull_0 13 rfl rfl)
theorem dX4_isFull_14 : decode cX4_isFull 14 = .ok (.goto 4, 3) := dk_167 0 4 (dk_at dksX4_isFull_0 14 rfl rfl)
theorem dX4_isFull_17 : decode cX4_isFull 17 = .ok (.iconst 0, 1) := dk_3 (dk_at dksX4_isFull_0 17 rfl rfl)
theorem dX4_isFull_18 : decode cX4_isFull 18 = .ok (.ireturn, 1) := dk_172 (dk_at dksX4_isFull_0 18 rfl rfl)
abbrev cX4_wrong : ByteArray := prog_21_method_28_code
def yX4_wrong : MethodName := ⟨RX4, "wrong", "(I)Z"⟩
def dkwX4_wrong_0 : List UInt8 := [42, 27, 181, 0, 130, 3, 172]
abbrev dktX4_wrong_0 : List UInt8 := dkwX4_wrong_0 ++ []
theorem dksX4_wrong_0 : cX4_wrong.data.toList.drop 0 = dktX4_wrong_0 := by decide +kernel
theorem dX4_wrong_0 : decode cX4_wrong 0 = .ok (.aload_n 0, 1) := dk_42 (dk_at dksX4_wrong_0 0 rfl rfl)
theorem dX4_wrong_1 : decode cX4_wrong 1 = .ok (.iload_n 1, 1) := dk_27 (dk_at dksX4_wrong_0 1 rfl rfl)
theorem dX4_wrong_2 : decode cX4_wrong 2 = .ok (.putfield 130, 3) := dk_181 0 130 (dk_at dksX4_wrong_0 2 rfl rfl)
theorem dX4_wrong_5 : decode cX4_wrong 5 = .ok (.iconst 0, 1) := dk_3 (dk_at dksX4_wrong_0 5 rfl rfl)
theorem dX4_wrong_6 : decode cX4_wrong 6 = .ok (.ireturn, 1) := dk_172 (dk_at dksX4_wrong_0 6 rfl rfl)
abbrev cX4_word : ByteArray := prog_21_method_29_code
def yX4_word : MethodName := ⟨RX4, "word", "()I"⟩
def dkwX4_word_5 : List UInt8 := [167, 255, 244, 132, 1, 1, 132, 3, 1, 167, 255, 139, 42, 28, 181, 0, 130, 2, 172]
abbrev dktX4_word_5 : List UInt8 := dkwX4_word_5 ++ []
def dkwX4_word_4 : List UInt8 := [164, 0, 8, 21, 4, 167, 0, 4, 28, 61, 42, 180, 0, 66, 27, 46, 153, 0, 9, 132, 1, 1]
abbrev dktX4_word_4 : List UInt8 := dkwX4_word_4 ++ dktX4_word_5
def dkwX4_word_3 : List UInt8 := [167, 255, 208, 42, 180, 0, 66, 21, 5, 46, 154, 0, 11, 42, 21, 4, 181, 0, 133, 29, 172, 21, 4, 28]
abbrev dktX4_word_3 : List UInt8 := dkwX4_word_3 ++ dktX4_word_4
def dkwX4_word_2 : List UInt8 := [180, 0, 139, 21, 4, 96, 47, 136, 42, 180, 0, 66, 21, 5, 46, 160, 0, 12, 132, 4, 1, 132, 5, 1]
abbrev dktX4_word_2 : List UInt8 := dkwX4_word_2 ++ dktX4_word_3
def dkwX4_word_1 : List UInt8 := [180, 0, 66, 21, 5, 46, 153, 0, 44, 21, 4, 42, 180, 0, 136, 162, 0, 35, 42, 180, 0, 59, 42]
abbrev dktX4_word_1 : List UInt8 := dkwX4_word_1 ++ dktX4_word_2
def dkwX4_word_0 : List UInt8 := [3, 60, 42, 180, 0, 133, 61, 3, 62, 29, 8, 162, 0, 118, 42, 180, 0, 133, 54, 4, 27, 54, 5, 42]
abbrev dktX4_word_0 : List UInt8 := dkwX4_word_0 ++ dktX4_word_1
theorem dksX4_word_0 : cX4_word.data.toList.drop 0 = dktX4_word_0 := by decide +kernel
theorem dksX4_word_1 : cX4_word.data.toList.drop 24 = dktX4_word_1 := dk_seg dksX4_word_0 24 rfl rfl
theorem dksX4_word_2 : cX4_word.data.toList.drop 47 = dktX4_word_2 := dk_seg dksX4_word_1 23 rfl rfl
theorem dksX4_word_3 : cX4_word.data.toList.drop 71 = dktX4_word_3 := dk_seg dksX4_word_2 24 rfl rfl
theorem dksX4_word_4 : cX4_word.data.toList.drop 95 = dktX4_word_4 := dk_seg dksX4_word_3 24 rfl rfl
theorem dksX4_word_5 : cX4_word.data.toList.drop 117 = dktX4_word_5 := dk_seg dksX4_word_4 22 rfl rfl
theorem dX4_word_0 : decode cX4_word 0 = .ok (.iconst 0, 1) := dk_3 (dk_at dksX4_word_0 0 rfl rfl)
theorem dX4_word_1 : decode cX4_word 1 = .ok (.istore_n 1, 1) := dk_60 (dk_at dksX4_word_0 1 rfl rfl)
theorem dX4_word_2 : decode cX4_word 2 = .ok (.aload_n 0, 1) := dk_42 (dk_at dksX4_word_0 2 rfl rfl)
theorem dX4_word_3 : decode cX4_word 3 = .ok (.getfield 133, 3) := dk_180 0 133 (dk_at dksX4_word_0 3 rfl rfl)
theorem dX4_word_6 : decode cX4_word 6 = .ok (.istore_n 2, 1) := dk_61 (dk_at dksX4_word_0 6 rfl rfl)
theorem dX4_word_7 : decode cX4_word 7 = .ok (.iconst 0, 1) := dk_3 (dk_at dksX4_word_0 7 rfl rfl)
theorem dX4_word_8 : decode cX4_word 8 = .ok (.istore_n 3, 1) := dk_62 (dk_at dksX4_word_0 8 rfl rfl)
theorem dX4_word_9 : decode cX4_word 9 = .ok (.iload_n 3, 1) := dk_29 (dk_at dksX4_word_0 9 rfl rfl)
theorem dX4_word_10 : decode cX4_word 10 = .ok (.iconst 5, 1) := dk_8 (dk_at dksX4_word_0 10 rfl rfl)
theorem dX4_word_11 : decode cX4_word 11 = .ok (.if_icmp .ge 118, 3) := dk_162 0 118 (dk_at dksX4_word_0 11 rfl rfl)
theorem dX4_word_14 : decode cX4_word 14 = .ok (.aload_n 0, 1) := dk_42 (dk_at dksX4_word_0 14 rfl rfl)
theorem dX4_word_15 : decode cX4_word 15 = .ok (.getfield 133, 3) := dk_180 0 133 (dk_at dksX4_word_0 15 rfl rfl)
theorem dX4_word_18 : decode cX4_word 18 = .ok (.istore 4, 2) := dk_54 4 (dk_at dksX4_word_0 18 rfl rfl)
theorem dX4_word_20 : decode cX4_word 20 = .ok (.iload_n 1, 1) := dk_27 (dk_at dksX4_word_0 20 rfl rfl)
theorem dX4_word_21 : decode cX4_word 21 = .ok (.istore 5, 2) := dk_54 5 (dk_at dksX4_word_0 21 rfl rfl)
theorem dX4_word_23 : decode cX4_word 23 = .ok (.aload_n 0, 1) := dk_42 (dk_at dksX4_word_0 23 rfl rfl)
theorem dX4_word_24 : decode cX4_word 24 = .ok (.getfield 66, 3) := dk_180 0 66 (dk_at dksX4_word_1 0 rfl rfl)
theorem dX4_word_27 : decode cX4_word 27 = .ok (.iload 5, 2) := dk_21 5 (dk_at dksX4_word_1 3 rfl rfl)
theorem dX4_word_29 : decode cX4_word 29 = .ok (.iaload, 1) := dk_46 (dk_at dksX4_word_1 5 rfl rfl)
theorem dX4_word_30 : decode cX4_word 30 = .ok (.ifCond .eq 44, 3) := dk_153 0 44 (dk_at dksX4_word_1 6 rfl rfl)
theorem dX4_word_33 : decode cX4_word 33 = .ok (.iload 4, 2) := dk_21 4 (dk_at dksX4_word_1 9 rfl rfl)
theorem dX4_word_35 : decode cX4_word 35 = .ok (.aload_n 0, 1) := dk_42 (dk_at dksX4_word_1 11 rfl rfl)
theorem dX4_word_36 : decode cX4_word 36 = .ok (.getfield 136, 3) := dk_180 0 136 (dk_at dksX4_word_1 12 rfl rfl)
theorem dX4_word_39 : decode cX4_word 39 = .ok (.if_icmp .ge 35, 3) := dk_162 0 35 (dk_at dksX4_word_1 15 rfl rfl)
theorem dX4_word_42 : decode cX4_word 42 = .ok (.aload_n 0, 1) := dk_42 (dk_at dksX4_word_1 18 rfl rfl)
theorem dX4_word_43 : decode cX4_word 43 = .ok (.getfield 59, 3) := dk_180 0 59 (dk_at dksX4_word_1 19 rfl rfl)
theorem dX4_word_46 : decode cX4_word 46 = .ok (.aload_n 0, 1) := dk_42 (dk_at dksX4_word_1 22 rfl rfl)
theorem dX4_word_47 : decode cX4_word 47 = .ok (.getfield 139, 3) := dk_180 0 139 (dk_at dksX4_word_2 0 rfl rfl)
theorem dX4_word_50 : decode cX4_word 50 = .ok (.iload 4, 2) := dk_21 4 (dk_at dksX4_word_2 3 rfl rfl)
theorem dX4_word_52 : decode cX4_word 52 = .ok (.iadd, 1) := dk_96 (dk_at dksX4_word_2 5 rfl rfl)
theorem dX4_word_53 : decode cX4_word 53 = .ok (.laload, 1) := dk_47 (dk_at dksX4_word_2 6 rfl rfl)
theorem dX4_word_54 : decode cX4_word 54 = .ok (.l2i, 1) := dk_136 (dk_at dksX4_word_2 7 rfl rfl)
theorem dX4_word_55 : decode cX4_word 55 = .ok (.aload_n 0, 1) := dk_42 (dk_at dksX4_word_2 8 rfl rfl)
theorem dX4_word_56 : decode cX4_word 56 = .ok (.getfield 66, 3) := dk_180 0 66 (dk_at dksX4_word_2 9 rfl rfl)
theorem dX4_word_59 : decode cX4_word 59 = .ok (.iload 5, 2) := dk_21 5 (dk_at dksX4_word_2 12 rfl rfl)
theorem dX4_word_61 : decode cX4_word 61 = .ok (.iaload, 1) := dk_46 (dk_at dksX4_word_2 14 rfl rfl)
theorem dX4_word_62 : decode cX4_word 62 = .ok (.if_icmp .ne 12, 3) := dk_160 0 12 (dk_at dksX4_word_2 15 rfl rfl)
theorem dX4_word_65 : decode cX4_word 65 = .ok (.iinc 4 1, 3) := dk_132 4 1 (dk_at dksX4_word_2 18 rfl rfl)
theorem dX4_word_68 : decode cX4_word 68 = .ok (.iinc 5 1, 3) := dk_132 5 1 (dk_at dksX4_word_2 21 rfl rfl)
theorem dX4_word_71 : decode cX4_word 71 = .ok (.goto (-48), 3) := dk_167 255 208 (dk_at dksX4_word_3 0 rfl rfl)
theorem dX4_word_74 : decode cX4_word 74 = .ok (.aload_n 0, 1) := dk_42 (dk_at dksX4_word_3 3 rfl rfl)
theorem dX4_word_75 : decode cX4_word 75 = .ok (.getfield 66, 3) := dk_180 0 66 (dk_at dksX4_word_3 4 rfl rfl)
theorem dX4_word_78 : decode cX4_word 78 = .ok (.iload 5, 2) := dk_21 5 (dk_at dksX4_word_3 7 rfl rfl)
theorem dX4_word_80 : decode cX4_word 80 = .ok (.iaload, 1) := dk_46 (dk_at dksX4_word_3 9 rfl rfl)
theorem dX4_word_81 : decode cX4_word 81 = .ok (.ifCond .ne 11, 3) := dk_154 0 11 (dk_at dksX4_word_3 10 rfl rfl)
theorem dX4_word_84 : decode cX4_word 84 = .ok (.aload_n 0, 1) := dk_42 (dk_at dksX4_word_3 13 rfl rfl)
theorem dX4_word_85 : decode cX4_word 85 = .ok (.iload 4, 2) := dk_21 4 (dk_at dksX4_word_3 14 rfl rfl)
theorem dX4_word_87 : decode cX4_word 87 = .ok (.putfield 133, 3) := dk_181 0 133 (dk_at dksX4_word_3 16 rfl rfl)
theorem dX4_word_90 : decode cX4_word 90 = .ok (.iload_n 3, 1) := dk_29 (dk_at dksX4_word_3 19 rfl rfl)
theorem dX4_word_91 : decode cX4_word 91 = .ok (.ireturn, 1) := dk_172 (dk_at dksX4_word_3 20 rfl rfl)
theorem dX4_word_92 : decode cX4_word 92 = .ok (.iload 4, 2) := dk_21 4 (dk_at dksX4_word_3 21 rfl rfl)
theorem dX4_word_94 : decode cX4_word 94 = .ok (.iload_n 2, 1) := dk_28 (dk_at dksX4_word_3 23 rfl rfl)
theorem dX4_word_95 : decode cX4_word 95 = .ok (.if_icmp .le 8, 3) := dk_164 0 8 (dk_at dksX4_word_4 0 rfl rfl)
theorem dX4_word_98 : decode cX4_word 98 = .ok (.iload 4, 2) := dk_21 4 (dk_at dksX4_word_4 3 rfl rfl)
theorem dX4_word_100 : decode cX4_word 100 = .ok (.goto 4, 3) := dk_167 0 4 (dk_at dksX4_word_4 5 rfl rfl)
theorem dX4_word_103 : decode cX4_word 103 = .ok (.iload_n 2, 1) := dk_28 (dk_at dksX4_word_4 8 rfl rfl)
theorem dX4_word_104 : decode cX4_word 104 = .ok (.istore_n 2, 1) := dk_61 (dk_at dksX4_word_4 9 rfl rfl)
theorem dX4_word_105 : decode cX4_word 105 = .ok (.aload_n 0, 1) := dk_42 (dk_at dksX4_word_4 10 rfl rfl)
theorem dX4_word_106 : decode cX4_word 106 = .ok (.getfield 66, 3) := dk_180 0 66 (dk_at dksX4_word_4 11 rfl rfl)
theorem dX4_word_109 : decode cX4_word 109 = .ok (.iload_n 1, 1) := dk_27 (dk_at dksX4_word_4 14 rfl rfl)
theorem dX4_word_110 : decode cX4_word 110 = .ok (.iaload, 1) := dk_46 (dk_at dksX4_word_4 15 rfl rfl)
theorem dX4_word_111 : decode cX4_word 111 = .ok (.ifCond .eq 9, 3) := dk_153 0 9 (dk_at dksX4_word_4 16 rfl rfl)
theorem dX4_word_114 : decode cX4_word 114 = .ok (.iinc 1 1, 3) := dk_132 1 1 (dk_at dksX4_word_4 19 rfl rfl)
theorem dX4_word_117 : decode cX4_word 117 = .ok (.goto (-12), 3) := dk_167 255 244 (dk_at dksX4_word_5 0 rfl rfl)
theorem dX4_word_120 : decode cX4_word 120 = .ok (.iinc 1 1, 3) := dk_132 1 1 (dk_at dksX4_word_5 3 rfl rfl)
theorem dX4_word_123 : decode cX4_word 123 = .ok (.iinc 3 1, 3) := dk_132 3 1 (dk_at dksX4_word_5 6 rfl rfl)
theorem dX4_word_126 : decode cX4_word 126 = .ok (.goto (-117), 3) := dk_167 255 139 (dk_at dksX4_word_5 9 rfl rfl)
theorem dX4_word_129 : decode cX4_word 129 = .ok (.aload_n 0, 1) := dk_42 (dk_at dksX4_word_5 12 rfl rfl)
theorem dX4_word_130 : decode cX4_word 130 = .ok (.iload_n 2, 1) := dk_28 (dk_at dksX4_word_5 13 rfl rfl)
theorem dX4_word_131 : decode cX4_word 131 = .ok (.putfield 130, 3) := dk_181 0 130 (dk_at dksX4_word_5 14 rfl rfl)
theorem dX4_word_134 : decode cX4_word 134 = .ok (.iconst (-1), 1) := dk_2 (dk_at dksX4_word_5 17 rfl rfl)
theorem dX4_word_135 : decode cX4_word 135 = .ok (.ireturn, 1) := dk_172 (dk_at dksX4_word_5 18 rfl rfl)
abbrev cX4_number : ByteArray := prog_21_method_31_code
def yX4_number : MethodName := ⟨RX4, "number", "()Z"⟩
def dkwX4_number_4 : List UInt8 := [180, 0, 133, 4, 96, 181, 0, 133, 4, 172]
abbrev dktX4_number_4 : List UInt8 := dkwX4_number_4 ++ []
def dkwX4_number_3 : List UInt8 := [180, 0, 59, 42, 180, 0, 139, 42, 180, 0, 133, 96, 47, 136, 96, 16, 48, 100, 181, 0, 142, 42, 89]
abbrev dktX4_number_3 : List UInt8 := dkwX4_number_3 ++ dktX4_number_4
def dkwX4_number_2 : List UInt8 := [180, 0, 133, 4, 96, 181, 0, 133, 42, 182, 0, 145, 153, 0, 43, 42, 16, 10, 42, 180, 0, 142, 104, 42]
abbrev dktX4_number_2 : List UInt8 := dkwX4_number_2 ++ dktX4_number_3
def dkwX4_number_1 : List UInt8 := [180, 0, 59, 42, 180, 0, 139, 42, 180, 0, 133, 96, 47, 136, 16, 48, 100, 181, 0, 142, 42, 89]
abbrev dktX4_number_1 : List UInt8 := dkwX4_number_1 ++ dktX4_number_2
def dkwX4_number_0 : List UInt8 := [42, 3, 181, 0, 142, 42, 182, 0, 145, 154, 0, 12, 42, 42, 180, 0, 133, 182, 0, 149, 172, 42, 42]
abbrev dktX4_number_0 : List UInt8 := dkwX4_number_0 ++ dktX4_number_1
theorem dksX4_number_0 : cX4_number.data.toList.drop 0 = dktX4_number_0 := by decide +kernel
theorem dksX4_number_1 : cX4_number.data.toList.drop 23 = dktX4_number_1 := dk_seg dksX4_number_0 23 rfl rfl
theorem dksX4_number_2 : cX4_number.data.toList.drop 45 = dktX4_number_2 := dk_seg dksX4_number_1 22 rfl rfl
theorem dksX4_number_3 : cX4_number.data.toList.drop 69 = dktX4_number_3 := dk_seg dksX4_number_2 24 rfl rfl
theorem dksX4_number_4 : cX4_number.data.toList.drop 92 = dktX4_number_4 := dk_seg dksX4_number_3 23 rfl rfl
theorem dX4_number_0 : decode cX4_number 0 = .ok (.aload_n 0, 1) := dk_42 (dk_at dksX4_number_0 0 rfl rfl)
theorem dX4_number_1 : decode cX4_number 1 = .ok (.iconst 0, 1) := dk_3 (dk_at dksX4_number_0 1 rfl rfl)
theorem dX4_number_2 : decode cX4_number 2 = .ok (.putfield 142, 3) := dk_181 0 142 (dk_at dksX4_number_0 2 rfl rfl)
theorem dX4_number_5 : decode cX4_number 5 = .ok (.aload_n 0, 1) := dk_42 (dk_at dksX4_number_0 5 rfl rfl)
theorem dX4_number_6 : decode cX4_number 6 = .ok (.invokevirtual 145, 3) := dk_182 0 145 (dk_at dksX4_number_0 6 rfl rfl)
theorem dX4_number_9 : decode cX4_number 9 = .ok (.ifCond .ne 12, 3) := dk_154 0 12 (dk_at dksX4_number_0 9 rfl rfl)
theorem dX4_number_12 : decode cX4_number 12 = .ok (.aload_n 0, 1) := dk_42 (dk_at dksX4_number_0 12 rfl rfl)
theorem dX4_number_13 : decode cX4_number 13 = .ok (.aload_n 0, 1) := dk_42 (dk_at dksX4_number_0 13 rfl rfl)
theorem dX4_number_14 : decode cX4_number 14 = .ok (.getfield 133, 3) := dk_180 0 133 (dk_at dksX4_number_0 14 rfl rfl)
theorem dX4_number_17 : decode cX4_number 17 = .ok (.invokevirtual 149, 3) := dk_182 0 149 (dk_at dksX4_number_0 17 rfl rfl)
theorem dX4_number_20 : decode cX4_number 20 = .ok (.ireturn, 1) := dk_172 (dk_at dksX4_number_0 20 rfl rfl)
theorem dX4_number_21 : decode cX4_number 21 = .ok (.aload_n 0, 1) := dk_42 (dk_at dksX4_number_0 21 rfl rfl)
theorem dX4_number_22 : decode cX4_number 22 = .ok (.aload_n 0, 1) := dk_42 (dk_at dksX4_number_0 22 rfl rfl)
theorem dX4_number_23 : decode cX4_number 23 = .ok (.getfield 59, 3) := dk_180 0 59 (dk_at dksX4_number_1 0 rfl rfl)
theorem dX4_number_26 : decode cX4_number 26 = .ok (.aload_n 0, 1) := dk_42 (dk_at dksX4_number_1 3 rfl rfl)
theorem dX4_number_27 : decode cX4_number 27 = .ok (.getfield 139, 3) := dk_180 0 139 (dk_at dksX4_number_1 4 rfl rfl)
theorem dX4_number_30 : decode cX4_number 30 = .ok (.aload_n 0, 1) := dk_42 (dk_at dksX4_number_1 7 rfl rfl)
theorem dX4_number_31 : decode cX4_number 31 = .ok (.getfield 133, 3) := dk_180 0 133 (dk_at dksX4_number_1 8 rfl rfl)
theorem dX4_number_34 : decode cX4_number 34 = .ok (.iadd, 1) := dk_96 (dk_at dksX4_number_1 11 rfl rfl)
theorem dX4_number_35 : decode cX4_number 35 = .ok (.laload, 1) := dk_47 (dk_at dksX4_number_1 12 rfl rfl)
theorem dX4_number_36 : decode cX4_number 36 = .ok (.l2i, 1) := dk_136 (dk_at dksX4_number_1 13 rfl rfl)
theorem dX4_number_37 : decode cX4_number 37 = .ok (.bipush 48, 2) := dk_16 48 (dk_at dksX4_number_1 14 rfl rfl)
theorem dX4_number_39 : decode cX4_number 39 = .ok (.isub, 1) := dk_100 (dk_at dksX4_number_1 16 rfl rfl)
theorem dX4_number_40 : decode cX4_number 40 = .ok (.putfield 142, 3) := dk_181 0 142 (dk_at dksX4_number_1 17 rfl rfl)
theorem dX4_number_43 : decode cX4_number 43 = .ok (.aload_n 0, 1) := dk_42 (dk_at dksX4_number_1 20 rfl rfl)
theorem dX4_number_44 : decode cX4_number 44 = .ok (.dup, 1) := dk_89 (dk_at dksX4_number_1 21 rfl rfl)
theorem dX4_number_45 : decode cX4_number 45 = .ok (.getfield 133, 3) := dk_180 0 133 (dk_at dksX4_number_2 0 rfl rfl)
theorem dX4_number_48 : decode cX4_number 48 = .ok (.iconst 1, 1) := dk_4 (dk_at dksX4_number_2 3 rfl rfl)
theorem dX4_number_49 : decode cX4_number 49 = .ok (.iadd, 1) := dk_96 (dk_at dksX4_number_2 4 rfl rfl)
theorem dX4_number_50 : decode cX4_number 50 = .ok (.putfield 133, 3) := dk_181 0 133 (dk_at dksX4_number_2 5 rfl rfl)
theorem dX4_number_53 : decode cX4_number 53 = .ok (.aload_n 0, 1) := dk_42 (dk_at dksX4_number_2 8 rfl rfl)
theorem dX4_number_54 : decode cX4_number 54 = .ok (.invokevirtual 145, 3) := dk_182 0 145 (dk_at dksX4_number_2 9 rfl rfl)
theorem dX4_number_57 : decode cX4_number 57 = .ok (.ifCond .eq 43, 3) := dk_153 0 43 (dk_at dksX4_number_2 12 rfl rfl)
theorem dX4_number_60 : decode cX4_number 60 = .ok (.aload_n 0, 1) := dk_42 (dk_at dksX4_number_2 15 rfl rfl)
theorem dX4_number_61 : decode cX4_number 61 = .ok (.bipush 10, 2) := dk_16 10 (dk_at dksX4_number_2 16 rfl rfl)
theorem dX4_number_63 : decode cX4_number 63 = .ok (.aload_n 0, 1) := dk_42 (dk_at dksX4_number_2 18 rfl rfl)
theorem dX4_number_64 : decode cX4_number 64 = .ok (.getfield 142, 3) := dk_180 0 142 (dk_at dksX4_number_2 19 rfl rfl)
theorem dX4_number_67 : decode cX4_number 67 = .ok (.imul, 1) := dk_104 (dk_at dksX4_number_2 22 rfl rfl)
theorem dX4_number_68 : decode cX4_number 68 = .ok (.aload_n 0, 1) := dk_42 (dk_at dksX4_number_2 23 rfl rfl)
theorem dX4_number_69 : decode cX4_number 69 = .ok (.getfield 59, 3) := dk_180 0 59 (dk_at dksX4_number_3 0 rfl rfl)
theorem dX4_number_72 : decode cX4_number 72 = .ok (.aload_n 0, 1) := dk_42 (dk_at dksX4_number_3 3 rfl rfl)
theorem dX4_number_73 : decode cX4_number 73 = .ok (.getfield 139, 3) := dk_180 0 139 (dk_at dksX4_number_3 4 rfl rfl)
theorem dX4_number_76 : decode cX4_number 76 = .ok (.aload_n 0, 1) := dk_42 (dk_at dksX4_number_3 7 rfl rfl)
theorem dX4_number_77 : decode cX4_number 77 = .ok (.getfield 133, 3) := dk_180 0 133 (dk_at dksX4_number_3 8 rfl rfl)
theorem dX4_number_80 : decode cX4_number 80 = .ok (.iadd, 1) := dk_96 (dk_at dksX4_number_3 11 rfl rfl)
theorem dX4_number_81 : decode cX4_number 81 = .ok (.laload, 1) := dk_47 (dk_at dksX4_number_3 12 rfl rfl)
theorem dX4_number_82 : decode cX4_number 82 = .ok (.l2i, 1) := dk_136 (dk_at dksX4_number_3 13 rfl rfl)
theorem dX4_number_83 : decode cX4_number 83 = .ok (.iadd, 1) := dk_96 (dk_at dksX4_number_3 14 rfl rfl)
theorem dX4_number_84 : decode cX4_number 84 = .ok (.bipush 48, 2) := dk_16 48 (dk_at dksX4_number_3 15 rfl rfl)
theorem dX4_number_86 : decode cX4_number 86 = .ok (.isub, 1) := dk_100 (dk_at dksX4_number_3 17 rfl rfl)
theorem dX4_number_87 : decode cX4_number 87 = .ok (.putfield 142, 3) := dk_181 0 142 (dk_at dksX4_number_3 18 rfl rfl)
theorem dX4_number_90 : decode cX4_number 90 = .ok (.aload_n 0, 1) := dk_42 (dk_at dksX4_number_3 21 rfl rfl)
theorem dX4_number_91 : decode cX4_number 91 = .ok (.dup, 1) := dk_89 (dk_at dksX4_number_3 22 rfl rfl)
theorem dX4_number_92 : decode cX4_number 92 = .ok (.getfield 133, 3) := dk_180 0 133 (dk_at dksX4_number_4 0 rfl rfl)
theorem dX4_number_95 : decode cX4_number 95 = .ok (.iconst 1, 1) := dk_4 (dk_at dksX4_number_4 3 rfl rfl)
theorem dX4_number_96 : decode cX4_number 96 = .ok (.iadd, 1) := dk_96 (dk_at dksX4_number_4 4 rfl rfl)
theorem dX4_number_97 : decode cX4_number 97 = .ok (.putfield 133, 3) := dk_181 0 133 (dk_at dksX4_number_4 5 rfl rfl)
theorem dX4_number_100 : decode cX4_number 100 = .ok (.iconst 1, 1) := dk_4 (dk_at dksX4_number_4 8 rfl rfl)
theorem dX4_number_101 : decode cX4_number 101 = .ok (.ireturn, 1) := dk_172 (dk_at dksX4_number_4 9 rfl rfl)
abbrev cX4_isDigit : ByteArray := prog_21_method_30_code
def yX4_isDigit : MethodName := ⟨RX4, "isDigit", "()Z"⟩
def dkwX4_isDigit_2 : List UInt8 := [163, 0, 7, 4, 167, 0, 4, 3, 172]
abbrev dktX4_isDigit_2 : List UInt8 := dkwX4_isDigit_2 ++ []
def dkwX4_isDigit_1 : List UInt8 := [47, 136, 16, 48, 161, 0, 27, 42, 180, 0, 59, 42, 180, 0, 139, 42, 180, 0, 133, 96, 47, 136, 16, 57]
abbrev dktX4_isDigit_1 : List UInt8 := dkwX4_isDigit_1 ++ dktX4_isDigit_2
def dkwX4_isDigit_0 : List UInt8 := [42, 180, 0, 133, 42, 180, 0, 136, 162, 0, 47, 42, 180, 0, 59, 42, 180, 0, 139, 42, 180, 0, 133, 96]
abbrev dktX4_isDigit_0 : List UInt8 := dkwX4_isDigit_0 ++ dktX4_isDigit_1
theorem dksX4_isDigit_0 : cX4_isDigit.data.toList.drop 0 = dktX4_isDigit_0 := by decide +kernel
theorem dksX4_isDigit_1 : cX4_isDigit.data.toList.drop 24 = dktX4_isDigit_1 := dk_seg dksX4_isDigit_0 24 rfl rfl
theorem dksX4_isDigit_2 : cX4_isDigit.data.toList.drop 48 = dktX4_isDigit_2 := dk_seg dksX4_isDigit_1 24 rfl rfl
theorem dX4_isDigit_0 : decode cX4_isDigit 0 = .ok (.aload_n 0, 1) := dk_42 (dk_at dksX4_isDigit_0 0 rfl rfl)
theorem dX4_isDigit_1 : decode cX4_isDigit 1 = .ok (.getfield 133, 3) := dk_180 0 133 (dk_at dksX4_isDigit_0 1 rfl rfl)
theorem dX4_isDigit_4 : decode cX4_isDigit 4 = .ok (.aload_n 0, 1) := dk_42 (dk_at dksX4_isDigit_0 4 rfl rfl)
theorem dX4_isDigit_5 : decode cX4_isDigit 5 = .ok (.getfield 136, 3) := dk_180 0 136 (dk_at dksX4_isDigit_0 5 rfl rfl)
theorem dX4_isDigit_8 : decode cX4_isDigit 8 = .ok (.if_icmp .ge 47, 3) := dk_162 0 47 (dk_at dksX4_isDigit_0 8 rfl rfl)
theorem dX4_isDigit_11 : decode cX4_isDigit 11 = .ok (.aload_n 0, 1) := dk_42 (dk_at dksX4_isDigit_0 11 rfl rfl)
theorem dX4_isDigit_12 : decode cX4_isDigit 12 = .ok (.getfield 59, 3) := dk_180 0 59 (dk_at dksX4_isDigit_0 12 rfl rfl)
theorem dX4_isDigit_15 : decode cX4_isDigit 15 = .ok (.aload_n 0, 1) := dk_42 (dk_at dksX4_isDigit_0 15 rfl rfl)
theorem dX4_isDigit_16 : decode cX4_isDigit 16 = .ok (.getfield 139, 3) := dk_180 0 139 (dk_at dksX4_isDigit_0 16 rfl rfl)
theorem dX4_isDigit_19 : decode cX4_isDigit 19 = .ok (.aload_n 0, 1) := dk_42 (dk_at dksX4_isDigit_0 19 rfl rfl)
theorem dX4_isDigit_20 : decode cX4_isDigit 20 = .ok (.getfield 133, 3) := dk_180 0 133 (dk_at dksX4_isDigit_0 20 rfl rfl)
theorem dX4_isDigit_23 : decode cX4_isDigit 23 = .ok (.iadd, 1) := dk_96 (dk_at dksX4_isDigit_0 23 rfl rfl)
theorem dX4_isDigit_24 : decode cX4_isDigit 24 = .ok (.laload, 1) := dk_47 (dk_at dksX4_isDigit_1 0 rfl rfl)
theorem dX4_isDigit_25 : decode cX4_isDigit 25 = .ok (.l2i, 1) := dk_136 (dk_at dksX4_isDigit_1 1 rfl rfl)
theorem dX4_isDigit_26 : decode cX4_isDigit 26 = .ok (.bipush 48, 2) := dk_16 48 (dk_at dksX4_isDigit_1 2 rfl rfl)
theorem dX4_isDigit_28 : decode cX4_isDigit 28 = .ok (.if_icmp .lt 27, 3) := dk_161 0 27 (dk_at dksX4_isDigit_1 4 rfl rfl)
theorem dX4_isDigit_31 : decode cX4_isDigit 31 = .ok (.aload_n 0, 1) := dk_42 (dk_at dksX4_isDigit_1 7 rfl rfl)
theorem dX4_isDigit_32 : decode cX4_isDigit 32 = .ok (.getfield 59, 3) := dk_180 0 59 (dk_at dksX4_isDigit_1 8 rfl rfl)
theorem dX4_isDigit_35 : decode cX4_isDigit 35 = .ok (.aload_n 0, 1) := dk_42 (dk_at dksX4_isDigit_1 11 rfl rfl)
theorem dX4_isDigit_36 : decode cX4_isDigit 36 = .ok (.getfield 139, 3) := dk_180 0 139 (dk_at dksX4_isDigit_1 12 rfl rfl)
theorem dX4_isDigit_39 : decode cX4_isDigit 39 = .ok (.aload_n 0, 1) := dk_42 (dk_at dksX4_isDigit_1 15 rfl rfl)
theorem dX4_isDigit_40 : decode cX4_isDigit 40 = .ok (.getfield 133, 3) := dk_180 0 133 (dk_at dksX4_isDigit_1 16 rfl rfl)
theorem dX4_isDigit_43 : decode cX4_isDigit 43 = .ok (.iadd, 1) := dk_96 (dk_at dksX4_isDigit_1 19 rfl rfl)
theorem dX4_isDigit_44 : decode cX4_isDigit 44 = .ok (.laload, 1) := dk_47 (dk_at dksX4_isDigit_1 20 rfl rfl)
theorem dX4_isDigit_45 : decode cX4_isDigit 45 = .ok (.l2i, 1) := dk_136 (dk_at dksX4_isDigit_1 21 rfl rfl)
theorem dX4_isDigit_46 : decode cX4_isDigit 46 = .ok (.bipush 57, 2) := dk_16 57 (dk_at dksX4_isDigit_1 22 rfl rfl)
theorem dX4_isDigit_48 : decode cX4_isDigit 48 = .ok (.if_icmp .gt 7, 3) := dk_163 0 7 (dk_at dksX4_isDigit_2 0 rfl rfl)
theorem dX4_isDigit_51 : decode cX4_isDigit 51 = .ok (.iconst 1, 1) := dk_4 (dk_at dksX4_isDigit_2 3 rfl rfl)
theorem dX4_isDigit_52 : decode cX4_isDigit 52 = .ok (.goto 4, 3) := dk_167 0 4 (dk_at dksX4_isDigit_2 4 rfl rfl)
theorem dX4_isDigit_55 : decode cX4_isDigit 55 = .ok (.iconst 0, 1) := dk_3 (dk_at dksX4_isDigit_2 7 rfl rfl)
theorem dX4_isDigit_56 : decode cX4_isDigit 56 = .ok (.ireturn, 1) := dk_172 (dk_at dksX4_isDigit_2 8 rfl rfl)
abbrev cX4_isSo : ByteArray := prog_21_method_32_code
def yX4_isSo : MethodName := ⟨RX4, "isSo", "(II)Z"⟩
def dkwX4_isSo_8 : List UInt8 := [153, 0, 16, 42, 180, 0, 142, 42, 180, 0, 69, 3, 46, 159, 0, 7, 4, 167, 0, 4, 3, 172]
abbrev dktX4_isSo_8 : List UInt8 := dkwX4_isSo_8 ++ []
def dkwX4_isSo_7 : List UInt8 := [42, 180, 0, 142, 182, 0, 87, 153, 0, 35, 42, 42, 180, 0, 142, 182, 0, 91, 153, 0, 24, 28]
abbrev dktX4_isSo_7 : List UInt8 := dkwX4_isSo_7 ++ dktX4_isSo_8
def dkwX4_isSo_6 : List UInt8 := [42, 180, 0, 142, 4, 161, 0, 16, 42, 180, 0, 142, 16, 9, 163, 0, 7, 4, 167, 0, 4, 3, 172, 42]
abbrev dktX4_isSo_6 : List UInt8 := dkwX4_isSo_6 ++ dktX4_isSo_7
def dkwX4_isSo_5 : List UInt8 := [2, 160, 0, 7, 4, 167, 0, 4, 3, 172, 42, 180, 0, 142, 4, 163, 0, 7, 4, 167, 0, 4, 3, 172]
abbrev dktX4_isSo_5 : List UInt8 := dkwX4_isSo_5 ++ dktX4_isSo_6
def dkwX4_isSo_4 : List UInt8 := [16, 9, 163, 0, 30, 28, 5, 160, 0, 21, 42, 42, 180, 0, 69, 4, 46, 42, 180, 0, 142, 182, 0, 116]
abbrev dktX4_isSo_4 : List UInt8 := dkwX4_isSo_4 ++ dktX4_isSo_5
def dkwX4_isSo_3 : List UInt8 := [160, 0, 20, 42, 180, 0, 142, 16, 20, 163, 0, 7, 4, 167, 0, 44, 3, 167, 0, 40, 42, 180, 0, 142]
abbrev dktX4_isSo_3 : List UInt8 := dkwX4_isSo_3 ++ dktX4_isSo_4
def dkwX4_isSo_2 : List UInt8 := [28, 154, 0, 20, 42, 180, 0, 142, 16, 6, 163, 0, 7, 4, 167, 0, 66, 3, 167, 0, 62, 28, 6]
abbrev dktX4_isSo_2 : List UInt8 := dkwX4_isSo_2 ++ dktX4_isSo_3
def dkwX4_isSo_1 : List UInt8 := [170, 0, 0, 0, 0, 0, 145, 0, 0, 0, 0, 0, 0, 0, 2, 0, 0, 0, 27, 0, 0, 0, 108, 0, 0, 0, 122]
abbrev dktX4_isSo_1 : List UInt8 := dkwX4_isSo_1 ++ dktX4_isSo_2
def dkwX4_isSo_0 : List UInt8 := [27]
abbrev dktX4_isSo_0 : List UInt8 := dkwX4_isSo_0 ++ dktX4_isSo_1
theorem dksX4_isSo_0 : cX4_isSo.data.toList.drop 0 = dktX4_isSo_0 := by decide +kernel
theorem dksX4_isSo_1 : cX4_isSo.data.toList.drop 1 = dktX4_isSo_1 := dk_seg dksX4_isSo_0 1 rfl rfl
theorem dksX4_isSo_2 : cX4_isSo.data.toList.drop 28 = dktX4_isSo_2 := dk_seg dksX4_isSo_1 27 rfl rfl
theorem dksX4_isSo_3 : cX4_isSo.data.toList.drop 51 = dktX4_isSo_3 := dk_seg dksX4_isSo_2 23 rfl rfl
theorem dksX4_isSo_4 : cX4_isSo.data.toList.drop 75 = dktX4_isSo_4 := dk_seg dksX4_isSo_3 24 rfl rfl
theorem dksX4_isSo_5 : cX4_isSo.data.toList.drop 99 = dktX4_isSo_5 := dk_seg dksX4_isSo_4 24 rfl rfl
theorem dksX4_isSo_6 : cX4_isSo.data.toList.drop 123 = dktX4_isSo_6 := dk_seg dksX4_isSo_5 24 rfl rfl
theorem dksX4_isSo_7 : cX4_isSo.data.toList.drop 147 = dktX4_isSo_7 := dk_seg dksX4_isSo_6 24 rfl rfl
theorem dksX4_isSo_8 : cX4_isSo.data.toList.drop 169 = dktX4_isSo_8 := dk_seg dksX4_isSo_7 22 rfl rfl
theorem dX4_isSo_0 : decode cX4_isSo 0 = .ok (.iload_n 1, 1) := dk_27 (dk_at dksX4_isSo_0 0 rfl rfl)
theorem dX4_isSo_1 : decode cX4_isSo 1 = .ok (.tableswitch 145 0 2 #[27, 108, 122], 27) := by decide +kernel
theorem dX4_isSo_28 : decode cX4_isSo 28 = .ok (.iload_n 2, 1) := dk_28 (dk_at dksX4_isSo_2 0 rfl rfl)
theorem dX4_isSo_29 : decode cX4_isSo 29 = .ok (.ifCond .ne 20, 3) := dk_154 0 20 (dk_at dksX4_isSo_2 1 rfl rfl)
theorem dX4_isSo_32 : decode cX4_isSo 32 = .ok (.aload_n 0, 1) := dk_42 (dk_at dksX4_isSo_2 4 rfl rfl)
theorem dX4_isSo_33 : decode cX4_isSo 33 = .ok (.getfield 142, 3) := dk_180 0 142 (dk_at dksX4_isSo_2 5 rfl rfl)
theorem dX4_isSo_36 : decode cX4_isSo 36 = .ok (.bipush 6, 2) := dk_16 6 (dk_at dksX4_isSo_2 8 rfl rfl)
theorem dX4_isSo_38 : decode cX4_isSo 38 = .ok (.if_icmp .gt 7, 3) := dk_163 0 7 (dk_at dksX4_isSo_2 10 rfl rfl)
theorem dX4_isSo_41 : decode cX4_isSo 41 = .ok (.iconst 1, 1) := dk_4 (dk_at dksX4_isSo_2 13 rfl rfl)
theorem dX4_isSo_42 : decode cX4_isSo 42 = .ok (.goto 66, 3) := dk_167 0 66 (dk_at dksX4_isSo_2 14 rfl rfl)
theorem dX4_isSo_45 : decode cX4_isSo 45 = .ok (.iconst 0, 1) := dk_3 (dk_at dksX4_isSo_2 17 rfl rfl)
theorem dX4_isSo_46 : decode cX4_isSo 46 = .ok (.goto 62, 3) := dk_167 0 62 (dk_at dksX4_isSo_2 18 rfl rfl)
theorem dX4_isSo_49 : decode cX4_isSo 49 = .ok (.iload_n 2, 1) := dk_28 (dk_at dksX4_isSo_2 21 rfl rfl)
theorem dX4_isSo_50 : decode cX4_isSo 50 = .ok (.iconst 3, 1) := dk_6 (dk_at dksX4_isSo_2 22 rfl rfl)
theorem dX4_isSo_51 : decode cX4_isSo 51 = .ok (.if_icmp .ne 20, 3) := dk_160 0 20 (dk_at dksX4_isSo_3 0 rfl rfl)
theorem dX4_isSo_54 : decode cX4_isSo 54 = .ok (.aload_n 0, 1) := dk_42 (dk_at dksX4_isSo_3 3 rfl rfl)
theorem dX4_isSo_55 : decode cX4_isSo 55 = .ok (.getfield 142, 3) := dk_180 0 142 (dk_at dksX4_isSo_3 4 rfl rfl)
theorem dX4_isSo_58 : decode cX4_isSo 58 = .ok (.bipush 20, 2) := dk_16 20 (dk_at dksX4_isSo_3 7 rfl rfl)
theorem dX4_isSo_60 : decode cX4_isSo 60 = .ok (.if_icmp .gt 7, 3) := dk_163 0 7 (dk_at dksX4_isSo_3 9 rfl rfl)
theorem dX4_isSo_63 : decode cX4_isSo 63 = .ok (.iconst 1, 1) := dk_4 (dk_at dksX4_isSo_3 12 rfl rfl)
theorem dX4_isSo_64 : decode cX4_isSo 64 = .ok (.goto 44, 3) := dk_167 0 44 (dk_at dksX4_isSo_3 13 rfl rfl)
theorem dX4_isSo_67 : decode cX4_isSo 67 = .ok (.iconst 0, 1) := dk_3 (dk_at dksX4_isSo_3 16 rfl rfl)
theorem dX4_isSo_68 : decode cX4_isSo 68 = .ok (.goto 40, 3) := dk_167 0 40 (dk_at dksX4_isSo_3 17 rfl rfl)
theorem dX4_isSo_71 : decode cX4_isSo 71 = .ok (.aload_n 0, 1) := dk_42 (dk_at dksX4_isSo_3 20 rfl rfl)
theorem dX4_isSo_72 : decode cX4_isSo 72 = .ok (.getfield 142, 3) := dk_180 0 142 (dk_at dksX4_isSo_3 21 rfl rfl)
theorem dX4_isSo_75 : decode cX4_isSo 75 = .ok (.bipush 9, 2) := dk_16 9 (dk_at dksX4_isSo_4 0 rfl rfl)
theorem dX4_isSo_77 : decode cX4_isSo 77 = .ok (.if_icmp .gt 30, 3) := dk_163 0 30 (dk_at dksX4_isSo_4 2 rfl rfl)
theorem dX4_isSo_80 : decode cX4_isSo 80 = .ok (.iload_n 2, 1) := dk_28 (dk_at dksX4_isSo_4 5 rfl rfl)
theorem dX4_isSo_81 : decode cX4_isSo 81 = .ok (.iconst 2, 1) := dk_5 (dk_at dksX4_isSo_4 6 rfl rfl)
theorem dX4_isSo_82 : decode cX4_isSo 82 = .ok (.if_icmp .ne 21, 3) := dk_160 0 21 (dk_at dksX4_isSo_4 7 rfl rfl)
theorem dX4_isSo_85 : decode cX4_isSo 85 = .ok (.aload_n 0, 1) := dk_42 (dk_at dksX4_isSo_4 10 rfl rfl)
theorem dX4_isSo_86 : decode cX4_isSo 86 = .ok (.aload_n 0, 1) := dk_42 (dk_at dksX4_isSo_4 11 rfl rfl)
theorem dX4_isSo_87 : decode cX4_isSo 87 = .ok (.getfield 69, 3) := dk_180 0 69 (dk_at dksX4_isSo_4 12 rfl rfl)
theorem dX4_isSo_90 : decode cX4_isSo 90 = .ok (.iconst 1, 1) := dk_4 (dk_at dksX4_isSo_4 15 rfl rfl)
theorem dX4_isSo_91 : decode cX4_isSo 91 = .ok (.iaload, 1) := dk_46 (dk_at dksX4_isSo_4 16 rfl rfl)
theorem dX4_isSo_92 : decode cX4_isSo 92 = .ok (.aload_n 0, 1) := dk_42 (dk_at dksX4_isSo_4 17 rfl rfl)
theorem dX4_isSo_93 : decode cX4_isSo 93 = .ok (.getfield 142, 3) := dk_180 0 142 (dk_at dksX4_isSo_4 18 rfl rfl)
theorem dX4_isSo_96 : decode cX4_isSo 96 = .ok (.invokevirtual 116, 3) := dk_182 0 116 (dk_at dksX4_isSo_4 21 rfl rfl)
theorem dX4_isSo_99 : decode cX4_isSo 99 = .ok (.iconst (-1), 1) := dk_2 (dk_at dksX4_isSo_5 0 rfl rfl)
theorem dX4_isSo_100 : decode cX4_isSo 100 = .ok (.if_icmp .ne 7, 3) := dk_160 0 7 (dk_at dksX4_isSo_5 1 rfl rfl)
theorem dX4_isSo_103 : decode cX4_isSo 103 = .ok (.iconst 1, 1) := dk_4 (dk_at dksX4_isSo_5 4 rfl rfl)
theorem dX4_isSo_104 : decode cX4_isSo 104 = .ok (.goto 4, 3) := dk_167 0 4 (dk_at dksX4_isSo_5 5 rfl rfl)
theorem dX4_isSo_107 : decode cX4_isSo 107 = .ok (.iconst 0, 1) := dk_3 (dk_at dksX4_isSo_5 8 rfl rfl)
theorem dX4_isSo_108 : decode cX4_isSo 108 = .ok (.ireturn, 1) := dk_172 (dk_at dksX4_isSo_5 9 rfl rfl)
theorem dX4_isSo_109 : decode cX4_isSo 109 = .ok (.aload_n 0, 1) := dk_42 (dk_at dksX4_isSo_5 10 rfl rfl)
theorem dX4_isSo_110 : decode cX4_isSo 110 = .ok (.getfield 142, 3) := dk_180 0 142 (dk_at dksX4_isSo_5 11 rfl rfl)
theorem dX4_isSo_113 : decode cX4_isSo 113 = .ok (.iconst 1, 1) := dk_4 (dk_at dksX4_isSo_5 14 rfl rfl)
theorem dX4_isSo_114 : decode cX4_isSo 114 = .ok (.if_icmp .gt 7, 3) := dk_163 0 7 (dk_at dksX4_isSo_5 15 rfl rfl)
theorem dX4_isSo_117 : decode cX4_isSo 117 = .ok (.iconst 1, 1) := dk_4 (dk_at dksX4_isSo_5 18 rfl rfl)
theorem dX4_isSo_118 : decode cX4_isSo 118 = .ok (.goto 4, 3) := dk_167 0 4 (dk_at dksX4_isSo_5 19 rfl rfl)
theorem dX4_isSo_121 : decode cX4_isSo 121 = .ok (.iconst 0, 1) := dk_3 (dk_at dksX4_isSo_5 22 rfl rfl)
theorem dX4_isSo_122 : decode cX4_isSo 122 = .ok (.ireturn, 1) := dk_172 (dk_at dksX4_isSo_5 23 rfl rfl)
theorem dX4_isSo_123 : decode cX4_isSo 123 = .ok (.aload_n 0, 1) := dk_42 (dk_at dksX4_isSo_6 0 rfl rfl)
theorem dX4_isSo_124 : decode cX4_isSo 124 = .ok (.getfield 142, 3) := dk_180 0 142 (dk_at dksX4_isSo_6 1 rfl rfl)
theorem dX4_isSo_127 : decode cX4_isSo 127 = .ok (.iconst 1, 1) := dk_4 (dk_at dksX4_isSo_6 4 rfl rfl)
theorem dX4_isSo_128 : decode cX4_isSo 128 = .ok (.if_icmp .lt 16, 3) := dk_161 0 16 (dk_at dksX4_isSo_6 5 rfl rfl)
theorem dX4_isSo_131 : decode cX4_isSo 131 = .ok (.aload_n 0, 1) := dk_42 (dk_at dksX4_isSo_6 8 rfl rfl)
theorem dX4_isSo_132 : decode cX4_isSo 132 = .ok (.getfield 142, 3) := dk_180 0 142 (dk_at dksX4_isSo_6 9 rfl rfl)
theorem dX4_isSo_135 : decode cX4_isSo 135 = .ok (.bipush 9, 2) := dk_16 9 (dk_at dksX4_isSo_6 12 rfl rfl)
theorem dX4_isSo_137 : decode cX4_isSo 137 = .ok (.if_icmp .gt 7, 3) := dk_163 0 7 (dk_at dksX4_isSo_6 14 rfl rfl)
theorem dX4_isSo_140 : decode cX4_isSo 140 = .ok (.iconst 1, 1) := dk_4 (dk_at dksX4_isSo_6 17 rfl rfl)
theorem dX4_isSo_141 : decode cX4_isSo 141 = .ok (.goto 4, 3) := dk_167 0 4 (dk_at dksX4_isSo_6 18 rfl rfl)
theorem dX4_isSo_144 : decode cX4_isSo 144 = .ok (.iconst 0, 1) := dk_3 (dk_at dksX4_isSo_6 21 rfl rfl)
theorem dX4_isSo_145 : decode cX4_isSo 145 = .ok (.ireturn, 1) := dk_172 (dk_at dksX4_isSo_6 22 rfl rfl)
theorem dX4_isSo_146 : decode cX4_isSo 146 = .ok (.aload_n 0, 1) := dk_42 (dk_at dksX4_isSo_6 23 rfl rfl)
theorem dX4_isSo_147 : decode cX4_isSo 147 = .ok (.aload_n 0, 1) := dk_42 (dk_at dksX4_isSo_7 0 rfl rfl)
theorem dX4_isSo_148 : decode cX4_isSo 148 = .ok (.getfield 142, 3) := dk_180 0 142 (dk_at dksX4_isSo_7 1 rfl rfl)
theorem dX4_isSo_151 : decode cX4_isSo 151 = .ok (.invokevirtual 87, 3) := dk_182 0 87 (dk_at dksX4_isSo_7 4 rfl rfl)
theorem dX4_isSo_154 : decode cX4_isSo 154 = .ok (.ifCond .eq 35, 3) := dk_153 0 35 (dk_at dksX4_isSo_7 7 rfl rfl)
theorem dX4_isSo_157 : decode cX4_isSo 157 = .ok (.aload_n 0, 1) := dk_42 (dk_at dksX4_isSo_7 10 rfl rfl)
theorem dX4_isSo_158 : decode cX4_isSo 158 = .ok (.aload_n 0, 1) := dk_42 (dk_at dksX4_isSo_7 11 rfl rfl)
theorem dX4_isSo_159 : decode cX4_isSo 159 = .ok (.getfield 142, 3) := dk_180 0 142 (dk_at dksX4_isSo_7 12 rfl rfl)
theorem dX4_isSo_162 : decode cX4_isSo 162 = .ok (.invokevirtual 91, 3) := dk_182 0 91 (dk_at dksX4_isSo_7 15 rfl rfl)
theorem dX4_isSo_165 : decode cX4_isSo 165 = .ok (.ifCond .eq 24, 3) := dk_153 0 24 (dk_at dksX4_isSo_7 18 rfl rfl)
theorem dX4_isSo_168 : decode cX4_isSo 168 = .ok (.iload_n 2, 1) := dk_28 (dk_at dksX4_isSo_7 21 rfl rfl)
theorem dX4_isSo_169 : decode cX4_isSo 169 = .ok (.ifCond .eq 16, 3) := dk_153 0 16 (dk_at dksX4_isSo_8 0 rfl rfl)
theorem dX4_isSo_172 : decode cX4_isSo 172 = .ok (.aload_n 0, 1) := dk_42 (dk_at dksX4_isSo_8 3 rfl rfl)
theorem dX4_isSo_173 : decode cX4_isSo 173 = .ok (.getfield 142, 3) := dk_180 0 142 (dk_at dksX4_isSo_8 4 rfl rfl)
theorem dX4_isSo_176 : decode cX4_isSo 176 = .ok (.aload_n 0, 1) := dk_42 (dk_at dksX4_isSo_8 7 rfl rfl)
theorem dX4_isSo_177 : decode cX4_isSo 177 = .ok (.getfield 69, 3) := dk_180 0 69 (dk_at dksX4_isSo_8 8 rfl rfl)
theorem dX4_isSo_180 : decode cX4_isSo 180 = .ok (.iconst 0, 1) := dk_3 (dk_at dksX4_isSo_8 11 rfl rfl)
theorem dX4_isSo_181 : decode cX4_isSo 181 = .ok (.iaload, 1) := dk_46 (dk_at dksX4_isSo_8 12 rfl rfl)
theorem dX4_isSo_182 : decode cX4_isSo 182 = .ok (.if_icmp .eq 7, 3) := dk_159 0 7 (dk_at dksX4_isSo_8 13 rfl rfl)
theorem dX4_isSo_185 : decode cX4_isSo 185 = .ok (.iconst 1, 1) := dk_4 (dk_at dksX4_isSo_8 16 rfl rfl)
theorem dX4_isSo_186 : decode cX4_isSo 186 = .ok (.goto 4, 3) := dk_167 0 4 (dk_at dksX4_isSo_8 17 rfl rfl)
theorem dX4_isSo_189 : decode cX4_isSo 189 = .ok (.iconst 0, 1) := dk_3 (dk_at dksX4_isSo_8 20 rfl rfl)
theorem dX4_isSo_190 : decode cX4_isSo 190 = .ok (.ireturn, 1) := dk_172 (dk_at dksX4_isSo_8 21 rfl rfl)
abbrev cX4_fault : ByteArray := prog_21_method_39_code
def yX4_fault : MethodName := ⟨RX4, "fault", "()I"⟩
theorem dX4_fault_0 : decode cX4_fault 0 = .ok (.aload_n 0, 1) := by decide +kernel
theorem dX4_fault_1 : decode cX4_fault 1 = .ok (.getfield 19, 3) := by decide +kernel
theorem dX4_fault_4 : decode cX4_fault 4 = .ok (.ireturn, 1) := by decide +kernel
abbrev cX4_sees : ByteArray := prog_21_method_52_code
def yX4_sees : MethodName := ⟨RX4, "sees", "(III)I"⟩
def dkwX4_sees_3 : List UInt8 := [182, 0, 201, 153, 0, 7, 4, 167, 0, 4, 3, 172]
abbrev dktX4_sees_3 : List UInt8 := dkwX4_sees_3 ++ []
def dkwX4_sees_2 : List UInt8 := [182, 0, 97, 172, 29, 154, 0, 15, 42, 27, 28, 182, 0, 198, 153, 0, 19, 167, 0, 12, 42, 27, 28]
abbrev dktX4_sees_2 : List UInt8 := dkwX4_sees_2 ++ dktX4_sees_3
def dkwX4_sees_1 : List UInt8 := [54, 4, 21, 4, 154, 0, 12, 27, 28, 160, 0, 7, 16, 250, 54, 4, 21, 4, 153, 0, 10, 42, 21, 4]
abbrev dktX4_sees_1 : List UInt8 := dkwX4_sees_1 ++ dktX4_sees_2
def dkwX4_sees_0 : List UInt8 := [42, 27, 28, 182, 0, 124, 54, 4, 21, 4, 154, 0, 16, 29, 155, 0, 8, 29, 4, 164, 0, 7, 16, 251]
abbrev dktX4_sees_0 : List UInt8 := dkwX4_sees_0 ++ dktX4_sees_1
theorem dksX4_sees_0 : cX4_sees.data.toList.drop 0 = dktX4_sees_0 := by decide +kernel
theorem dksX4_sees_1 : cX4_sees.data.toList.drop 24 = dktX4_sees_1 := dk_seg dksX4_sees_0 24 rfl rfl
theorem dksX4_sees_2 : cX4_sees.data.toList.drop 48 = dktX4_sees_2 := dk_seg dksX4_sees_1 24 rfl rfl
theorem dksX4_sees_3 : cX4_sees.data.toList.drop 71 = dktX4_sees_3 := dk_seg dksX4_sees_2 23 rfl rfl
theorem dX4_sees_0 : decode cX4_sees 0 = .ok (.aload_n 0, 1) := dk_42 (dk_at dksX4_sees_0 0 rfl rfl)
theorem dX4_sees_1 : decode cX4_sees 1 = .ok (.iload_n 1, 1) := dk_27 (dk_at dksX4_sees_0 1 rfl rfl)
theorem dX4_sees_2 : decode cX4_sees 2 = .ok (.iload_n 2, 1) := dk_28 (dk_at dksX4_sees_0 2 rfl rfl)
theorem dX4_sees_3 : decode cX4_sees 3 = .ok (.invokevirtual 124, 3) := dk_182 0 124 (dk_at dksX4_sees_0 3 rfl rfl)
theorem dX4_sees_6 : decode cX4_sees 6 = .ok (.istore 4, 2) := dk_54 4 (dk_at dksX4_sees_0 6 rfl rfl)
theorem dX4_sees_8 : decode cX4_sees 8 = .ok (.iload 4, 2) := dk_21 4 (dk_at dksX4_sees_0 8 rfl rfl)
theorem dX4_sees_10 : decode cX4_sees 10 = .ok (.ifCond .ne 16, 3) := dk_154 0 16 (dk_at dksX4_sees_0 10 rfl rfl)
theorem dX4_sees_13 : decode cX4_sees 13 = .ok (.iload_n 3, 1) := dk_29 (dk_at dksX4_sees_0 13 rfl rfl)
theorem dX4_sees_14 : decode cX4_sees 14 = .ok (.ifCond .lt 8, 3) := dk_155 0 8 (dk_at dksX4_sees_0 14 rfl rfl)
theorem dX4_sees_17 : decode cX4_sees 17 = .ok (.iload_n 3, 1) := dk_29 (dk_at dksX4_sees_0 17 rfl rfl)
theorem dX4_sees_18 : decode cX4_sees 18 = .ok (.iconst 1, 1) := dk_4 (dk_at dksX4_sees_0 18 rfl rfl)
theorem dX4_sees_19 : decode cX4_sees 19 = .ok (.if_icmp .le 7, 3) := dk_164 0 7 (dk_at dksX4_sees_0 19 rfl rfl)
theorem dX4_sees_22 : decode cX4_sees 22 = .ok (.bipush (-5), 2) := dk_16 251 (dk_at dksX4_sees_0 22 rfl rfl)
theorem dX4_sees_24 : decode cX4_sees 24 = .ok (.istore 4, 2) := dk_54 4 (dk_at dksX4_sees_1 0 rfl rfl)
theorem dX4_sees_26 : decode cX4_sees 26 = .ok (.iload 4, 2) := dk_21 4 (dk_at dksX4_sees_1 2 rfl rfl)
theorem dX4_sees_28 : decode cX4_sees 28 = .ok (.ifCond .ne 12, 3) := dk_154 0 12 (dk_at dksX4_sees_1 4 rfl rfl)
theorem dX4_sees_31 : decode cX4_sees 31 = .ok (.iload_n 1, 1) := dk_27 (dk_at dksX4_sees_1 7 rfl rfl)
theorem dX4_sees_32 : decode cX4_sees 32 = .ok (.iload_n 2, 1) := dk_28 (dk_at dksX4_sees_1 8 rfl rfl)
theorem dX4_sees_33 : decode cX4_sees 33 = .ok (.if_icmp .ne 7, 3) := dk_160 0 7 (dk_at dksX4_sees_1 9 rfl rfl)
theorem dX4_sees_36 : decode cX4_sees 36 = .ok (.bipush (-6), 2) := dk_16 250 (dk_at dksX4_sees_1 12 rfl rfl)
theorem dX4_sees_38 : decode cX4_sees 38 = .ok (.istore 4, 2) := dk_54 4 (dk_at dksX4_sees_1 14 rfl rfl)
theorem dX4_sees_40 : decode cX4_sees 40 = .ok (.iload 4, 2) := dk_21 4 (dk_at dksX4_sees_1 16 rfl rfl)
theorem dX4_sees_42 : decode cX4_sees 42 = .ok (.ifCond .eq 10, 3) := dk_153 0 10 (dk_at dksX4_sees_1 18 rfl rfl)
theorem dX4_sees_45 : decode cX4_sees 45 = .ok (.aload_n 0, 1) := dk_42 (dk_at dksX4_sees_1 21 rfl rfl)
theorem dX4_sees_46 : decode cX4_sees 46 = .ok (.iload 4, 2) := dk_21 4 (dk_at dksX4_sees_1 22 rfl rfl)
theorem dX4_sees_48 : decode cX4_sees 48 = .ok (.invokevirtual 97, 3) := dk_182 0 97 (dk_at dksX4_sees_2 0 rfl rfl)
theorem dX4_sees_51 : decode cX4_sees 51 = .ok (.ireturn, 1) := dk_172 (dk_at dksX4_sees_2 3 rfl rfl)
theorem dX4_sees_52 : decode cX4_sees 52 = .ok (.iload_n 3, 1) := dk_29 (dk_at dksX4_sees_2 4 rfl rfl)
theorem dX4_sees_53 : decode cX4_sees 53 = .ok (.ifCond .ne 15, 3) := dk_154 0 15 (dk_at dksX4_sees_2 5 rfl rfl)
theorem dX4_sees_56 : decode cX4_sees 56 = .ok (.aload_n 0, 1) := dk_42 (dk_at dksX4_sees_2 8 rfl rfl)
theorem dX4_sees_57 : decode cX4_sees 57 = .ok (.iload_n 1, 1) := dk_27 (dk_at dksX4_sees_2 9 rfl rfl)
theorem dX4_sees_58 : decode cX4_sees 58 = .ok (.iload_n 2, 1) := dk_28 (dk_at dksX4_sees_2 10 rfl rfl)
theorem dX4_sees_59 : decode cX4_sees 59 = .ok (.invokevirtual 198, 3) := dk_182 0 198 (dk_at dksX4_sees_2 11 rfl rfl)
theorem dX4_sees_62 : decode cX4_sees 62 = .ok (.ifCond .eq 19, 3) := dk_153 0 19 (dk_at dksX4_sees_2 14 rfl rfl)
theorem dX4_sees_65 : decode cX4_sees 65 = .ok (.goto 12, 3) := dk_167 0 12 (dk_at dksX4_sees_2 17 rfl rfl)
theorem dX4_sees_68 : decode cX4_sees 68 = .ok (.aload_n 0, 1) := dk_42 (dk_at dksX4_sees_2 20 rfl rfl)
theorem dX4_sees_69 : decode cX4_sees 69 = .ok (.iload_n 1, 1) := dk_27 (dk_at dksX4_sees_2 21 rfl rfl)
theorem dX4_sees_70 : decode cX4_sees 70 = .ok (.iload_n 2, 1) := dk_28 (dk_at dksX4_sees_2 22 rfl rfl)
theorem dX4_sees_71 : decode cX4_sees 71 = .ok (.invokevirtual 201, 3) := dk_182 0 201 (dk_at dksX4_sees_3 0 rfl rfl)
theorem dX4_sees_74 : decode cX4_sees 74 = .ok (.ifCond .eq 7, 3) := dk_153 0 7 (dk_at dksX4_sees_3 3 rfl rfl)
theorem dX4_sees_77 : decode cX4_sees 77 = .ok (.iconst 1, 1) := dk_4 (dk_at dksX4_sees_3 6 rfl rfl)
theorem dX4_sees_78 : decode cX4_sees 78 = .ok (.goto 4, 3) := dk_167 0 4 (dk_at dksX4_sees_3 7 rfl rfl)
theorem dX4_sees_81 : decode cX4_sees 81 = .ok (.iconst 0, 1) := dk_3 (dk_at dksX4_sees_3 10 rfl rfl)
theorem dX4_sees_82 : decode cX4_sees 82 = .ok (.ireturn, 1) := dk_172 (dk_at dksX4_sees_3 11 rfl rfl)
abbrev cX4_bars : ByteArray := prog_21_method_53_code
def yX4_bars : MethodName := ⟨RX4, "bars", "(II)I"⟩
def dkwX4_bars_1 : List UInt8 := [29, 182, 0, 207, 167, 0, 9, 42, 27, 28, 182, 0, 195, 172]
abbrev dktX4_bars_1 : List UInt8 := dkwX4_bars_1 ++ []
def dkwX4_bars_0 : List UInt8 := [42, 27, 28, 182, 0, 124, 62, 29, 154, 0, 11, 27, 28, 160, 0, 6, 16, 250, 62, 29, 153, 0, 11, 42]
abbrev dktX4_bars_0 : List UInt8 := dkwX4_bars_0 ++ dktX4_bars_1
theorem dksX4_bars_0 : cX4_bars.data.toList.drop 0 = dktX4_bars_0 := by decide +kernel
theorem dksX4_bars_1 : cX4_bars.data.toList.drop 24 = dktX4_bars_1 := dk_seg dksX4_bars_0 24 rfl rfl
theorem dX4_bars_0 : decode cX4_bars 0 = .ok (.aload_n 0, 1) := dk_42 (dk_at dksX4_bars_0 0 rfl rfl)
theorem dX4_bars_1 : decode cX4_bars 1 = .ok (.iload_n 1, 1) := dk_27 (dk_at dksX4_bars_0 1 rfl rfl)
theorem dX4_bars_2 : decode cX4_bars 2 = .ok (.iload_n 2, 1) := dk_28 (dk_at dksX4_bars_0 2 rfl rfl)
theorem dX4_bars_3 : decode cX4_bars 3 = .ok (.invokevirtual 124, 3) := dk_182 0 124 (dk_at dksX4_bars_0 3 rfl rfl)
theorem dX4_bars_6 : decode cX4_bars 6 = .ok (.istore_n 3, 1) := dk_62 (dk_at dksX4_bars_0 6 rfl rfl)
theorem dX4_bars_7 : decode cX4_bars 7 = .ok (.iload_n 3, 1) := dk_29 (dk_at dksX4_bars_0 7 rfl rfl)
theorem dX4_bars_8 : decode cX4_bars 8 = .ok (.ifCond .ne 11, 3) := dk_154 0 11 (dk_at dksX4_bars_0 8 rfl rfl)
theorem dX4_bars_11 : decode cX4_bars 11 = .ok (.iload_n 1, 1) := dk_27 (dk_at dksX4_bars_0 11 rfl rfl)
theorem dX4_bars_12 : decode cX4_bars 12 = .ok (.iload_n 2, 1) := dk_28 (dk_at dksX4_bars_0 12 rfl rfl)
theorem dX4_bars_13 : decode cX4_bars 13 = .ok (.if_icmp .ne 6, 3) := dk_160 0 6 (dk_at dksX4_bars_0 13 rfl rfl)
theorem dX4_bars_16 : decode cX4_bars 16 = .ok (.bipush (-6), 2) := dk_16 250 (dk_at dksX4_bars_0 16 rfl rfl)
theorem dX4_bars_18 : decode cX4_bars 18 = .ok (.istore_n 3, 1) := dk_62 (dk_at dksX4_bars_0 18 rfl rfl)
theorem dX4_bars_19 : decode cX4_bars 19 = .ok (.iload_n 3, 1) := dk_29 (dk_at dksX4_bars_0 19 rfl rfl)
theorem dX4_bars_20 : decode cX4_bars 20 = .ok (.ifCond .eq 11, 3) := dk_153 0 11 (dk_at dksX4_bars_0 20 rfl rfl)
theorem dX4_bars_23 : decode cX4_bars 23 = .ok (.aload_n 0, 1) := dk_42 (dk_at dksX4_bars_0 23 rfl rfl)
theorem dX4_bars_24 : decode cX4_bars 24 = .ok (.iload_n 3, 1) := dk_29 (dk_at dksX4_bars_1 0 rfl rfl)
theorem dX4_bars_25 : decode cX4_bars 25 = .ok (.invokevirtual 207, 3) := dk_182 0 207 (dk_at dksX4_bars_1 1 rfl rfl)
theorem dX4_bars_28 : decode cX4_bars 28 = .ok (.goto 9, 3) := dk_167 0 9 (dk_at dksX4_bars_1 4 rfl rfl)
theorem dX4_bars_31 : decode cX4_bars 31 = .ok (.aload_n 0, 1) := dk_42 (dk_at dksX4_bars_1 7 rfl rfl)
theorem dX4_bars_32 : decode cX4_bars 32 = .ok (.iload_n 1, 1) := dk_27 (dk_at dksX4_bars_1 8 rfl rfl)
theorem dX4_bars_33 : decode cX4_bars 33 = .ok (.iload_n 2, 1) := dk_28 (dk_at dksX4_bars_1 9 rfl rfl)
theorem dX4_bars_34 : decode cX4_bars 34 = .ok (.invokevirtual 195, 3) := dk_182 0 195 (dk_at dksX4_bars_1 10 rfl rfl)
theorem dX4_bars_37 : decode cX4_bars 37 = .ok (.ireturn, 1) := dk_172 (dk_at dksX4_bars_1 13 rfl rfl)
abbrev cX4_noTen : ByteArray := prog_21_method_3_code
def yX4_noTen : MethodName := ⟨RX4, "noTen", "(I)I"⟩
def dkwX4_noTen_0 : List UInt8 := [42, 180, 0, 22, 27, 116, 92, 46, 4, 96, 79, 27, 16, 10, 100, 172]
abbrev dktX4_noTen_0 : List UInt8 := dkwX4_noTen_0 ++ []
theorem dksX4_noTen_0 : cX4_noTen.data.toList.drop 0 = dktX4_noTen_0 := by decide +kernel
theorem dX4_noTen_0 : decode cX4_noTen 0 = .ok (.aload_n 0, 1) := dk_42 (dk_at dksX4_noTen_0 0 rfl rfl)
theorem dX4_noTen_1 : decode cX4_noTen 1 = .ok (.getfield 22, 3) := dk_180 0 22 (dk_at dksX4_noTen_0 1 rfl rfl)
theorem dX4_noTen_4 : decode cX4_noTen 4 = .ok (.iload_n 1, 1) := dk_27 (dk_at dksX4_noTen_0 4 rfl rfl)
theorem dX4_noTen_5 : decode cX4_noTen 5 = .ok (.ineg, 1) := dk_116 (dk_at dksX4_noTen_0 5 rfl rfl)
theorem dX4_noTen_6 : decode cX4_noTen 6 = .ok (.dup2, 1) := dk_92 (dk_at dksX4_noTen_0 6 rfl rfl)
theorem dX4_noTen_7 : decode cX4_noTen 7 = .ok (.iaload, 1) := dk_46 (dk_at dksX4_noTen_0 7 rfl rfl)
theorem dX4_noTen_8 : decode cX4_noTen 8 = .ok (.iconst 1, 1) := dk_4 (dk_at dksX4_noTen_0 8 rfl rfl)
theorem dX4_noTen_9 : decode cX4_noTen 9 = .ok (.iadd, 1) := dk_96 (dk_at dksX4_noTen_0 9 rfl rfl)
theorem dX4_noTen_10 : decode cX4_noTen 10 = .ok (.iastore, 1) := dk_79 (dk_at dksX4_noTen_0 10 rfl rfl)
theorem dX4_noTen_11 : decode cX4_noTen 11 = .ok (.iload_n 1, 1) := dk_27 (dk_at dksX4_noTen_0 11 rfl rfl)
theorem dX4_noTen_12 : decode cX4_noTen 12 = .ok (.bipush 10, 2) := dk_16 10 (dk_at dksX4_noTen_0 12 rfl rfl)
theorem dX4_noTen_14 : decode cX4_noTen 14 = .ok (.isub, 1) := dk_100 (dk_at dksX4_noTen_0 14 rfl rfl)
theorem dX4_noTen_15 : decode cX4_noTen 15 = .ok (.ireturn, 1) := dk_172 (dk_at dksX4_noTen_0 15 rfl rfl)
abbrev cX4_seers : ByteArray := prog_21_method_54_code
def yX4_seers : MethodName := ⟨RX4, "seers", "(I)I"⟩
def dkwX4_seers_0 : List UInt8 := [42, 27, 182, 0, 127, 61, 28, 153, 0, 11, 42, 28, 182, 0, 97, 167, 0, 8, 42, 27, 182, 0, 104, 172]
abbrev dktX4_seers_0 : List UInt8 := dkwX4_seers_0 ++ []
theorem dksX4_seers_0 : cX4_seers.data.toList.drop 0 = dktX4_seers_0 := by decide +kernel
theorem dX4_seers_0 : decode cX4_seers 0 = .ok (.aload_n 0, 1) := dk_42 (dk_at dksX4_seers_0 0 rfl rfl)
theorem dX4_seers_1 : decode cX4_seers 1 = .ok (.iload_n 1, 1) := dk_27 (dk_at dksX4_seers_0 1 rfl rfl)
theorem dX4_seers_2 : decode cX4_seers 2 = .ok (.invokevirtual 127, 3) := dk_182 0 127 (dk_at dksX4_seers_0 2 rfl rfl)
theorem dX4_seers_5 : decode cX4_seers 5 = .ok (.istore_n 2, 1) := dk_61 (dk_at dksX4_seers_0 5 rfl rfl)
theorem dX4_seers_6 : decode cX4_seers 6 = .ok (.iload_n 2, 1) := dk_28 (dk_at dksX4_seers_0 6 rfl rfl)
theorem dX4_seers_7 : decode cX4_seers 7 = .ok (.ifCond .eq 11, 3) := dk_153 0 11 (dk_at dksX4_seers_0 7 rfl rfl)
theorem dX4_seers_10 : decode cX4_seers 10 = .ok (.aload_n 0, 1) := dk_42 (dk_at dksX4_seers_0 10 rfl rfl)
theorem dX4_seers_11 : decode cX4_seers 11 = .ok (.iload_n 2, 1) := dk_28 (dk_at dksX4_seers_0 11 rfl rfl)
theorem dX4_seers_12 : decode cX4_seers 12 = .ok (.invokevirtual 97, 3) := dk_182 0 97 (dk_at dksX4_seers_0 12 rfl rfl)
theorem dX4_seers_15 : decode cX4_seers 15 = .ok (.goto 8, 3) := dk_167 0 8 (dk_at dksX4_seers_0 15 rfl rfl)
theorem dX4_seers_18 : decode cX4_seers 18 = .ok (.aload_n 0, 1) := dk_42 (dk_at dksX4_seers_0 18 rfl rfl)
theorem dX4_seers_19 : decode cX4_seers 19 = .ok (.iload_n 1, 1) := dk_27 (dk_at dksX4_seers_0 19 rfl rfl)
theorem dX4_seers_20 : decode cX4_seers 20 = .ok (.invokevirtual 104, 3) := dk_182 0 104 (dk_at dksX4_seers_0 20 rfl rfl)
theorem dX4_seers_23 : decode cX4_seers 23 = .ok (.ireturn, 1) := dk_172 (dk_at dksX4_seers_0 23 rfl rfl)
abbrev cX4_right : ByteArray := prog_21_method_55_code
def yX4_right : MethodName := ⟨RX4, "right", "()I"⟩
theorem dX4_right_0 : decode cX4_right 0 = .ok (.aload_n 0, 1) := by decide +kernel
theorem dX4_right_1 : decode cX4_right 1 = .ok (.invokevirtual 210, 3) := by decide +kernel
theorem dX4_right_4 : decode cX4_right 4 = .ok (.ireturn, 1) := by decide +kernel
abbrev cX4_allRight : ByteArray := prog_21_method_51_code
def yX4_allRight : MethodName := ⟨RX4, "allRight", "()I"⟩
def dkwX4_allRight_1 : List UInt8 := [182, 0, 113, 153, 0, 9, 27, 4, 28, 120, 128, 60, 132, 2, 1, 167, 255, 223, 27, 172]
abbrev dktX4_allRight_1 : List UInt8 := dkwX4_allRight_1 ++ []
def dkwX4_allRight_0 : List UInt8 := [3, 60, 3, 61, 28, 42, 180, 0, 84, 162, 0, 31, 42, 28, 182, 0, 91, 153, 0, 17, 42, 28]
abbrev dktX4_allRight_0 : List UInt8 := dkwX4_allRight_0 ++ dktX4_allRight_1
theorem dksX4_allRight_0 : cX4_allRight.data.toList.drop 0 = dktX4_allRight_0 := by decide +kernel
theorem dksX4_allRight_1 : cX4_allRight.data.toList.drop 22 = dktX4_allRight_1 := dk_seg dksX4_allRight_0 22 rfl rfl
theorem dX4_allRight_0 : decode cX4_allRight 0 = .ok (.iconst 0, 1) := dk_3 (dk_at dksX4_allRight_0 0 rfl rfl)
theorem dX4_allRight_1 : decode cX4_allRight 1 = .ok (.istore_n 1, 1) := dk_60 (dk_at dksX4_allRight_0 1 rfl rfl)
theorem dX4_allRight_2 : decode cX4_allRight 2 = .ok (.iconst 0, 1) := dk_3 (dk_at dksX4_allRight_0 2 rfl rfl)
theorem dX4_allRight_3 : decode cX4_allRight 3 = .ok (.istore_n 2, 1) := dk_61 (dk_at dksX4_allRight_0 3 rfl rfl)
theorem dX4_allRight_4 : decode cX4_allRight 4 = .ok (.iload_n 2, 1) := dk_28 (dk_at dksX4_allRight_0 4 rfl rfl)
theorem dX4_allRight_5 : decode cX4_allRight 5 = .ok (.aload_n 0, 1) := dk_42 (dk_at dksX4_allRight_0 5 rfl rfl)
theorem dX4_allRight_6 : decode cX4_allRight 6 = .ok (.getfield 84, 3) := dk_180 0 84 (dk_at dksX4_allRight_0 6 rfl rfl)
theorem dX4_allRight_9 : decode cX4_allRight 9 = .ok (.if_icmp .ge 31, 3) := dk_162 0 31 (dk_at dksX4_allRight_0 9 rfl rfl)
theorem dX4_allRight_12 : decode cX4_allRight 12 = .ok (.aload_n 0, 1) := dk_42 (dk_at dksX4_allRight_0 12 rfl rfl)
theorem dX4_allRight_13 : decode cX4_allRight 13 = .ok (.iload_n 2, 1) := dk_28 (dk_at dksX4_allRight_0 13 rfl rfl)
theorem dX4_allRight_14 : decode cX4_allRight 14 = .ok (.invokevirtual 91, 3) := dk_182 0 91 (dk_at dksX4_allRight_0 14 rfl rfl)
theorem dX4_allRight_17 : decode cX4_allRight 17 = .ok (.ifCond .eq 17, 3) := dk_153 0 17 (dk_at dksX4_allRight_0 17 rfl rfl)
theorem dX4_allRight_20 : decode cX4_allRight 20 = .ok (.aload_n 0, 1) := dk_42 (dk_at dksX4_allRight_0 20 rfl rfl)
theorem dX4_allRight_21 : decode cX4_allRight 21 = .ok (.iload_n 2, 1) := dk_28 (dk_at dksX4_allRight_0 21 rfl rfl)
theorem dX4_allRight_22 : decode cX4_allRight 22 = .ok (.invokevirtual 113, 3) := dk_182 0 113 (dk_at dksX4_allRight_1 0 rfl rfl)
theorem dX4_allRight_25 : decode cX4_allRight 25 = .ok (.ifCond .eq 9, 3) := dk_153 0 9 (dk_at dksX4_allRight_1 3 rfl rfl)
theorem dX4_allRight_28 : decode cX4_allRight 28 = .ok (.iload_n 1, 1) := dk_27 (dk_at dksX4_allRight_1 6 rfl rfl)
theorem dX4_allRight_29 : decode cX4_allRight 29 = .ok (.iconst 1, 1) := dk_4 (dk_at dksX4_allRight_1 7 rfl rfl)
theorem dX4_allRight_30 : decode cX4_allRight 30 = .ok (.iload_n 2, 1) := dk_28 (dk_at dksX4_allRight_1 8 rfl rfl)
theorem dX4_allRight_31 : decode cX4_allRight 31 = .ok (.ishl, 1) := dk_120 (dk_at dksX4_allRight_1 9 rfl rfl)
theorem dX4_allRight_32 : decode cX4_allRight 32 = .ok (.ior, 1) := dk_128 (dk_at dksX4_allRight_1 10 rfl rfl)
theorem dX4_allRight_33 : decode cX4_allRight 33 = .ok (.istore_n 1, 1) := dk_60 (dk_at dksX4_allRight_1 11 rfl rfl)
theorem dX4_allRight_34 : decode cX4_allRight 34 = .ok (.iinc 2 1, 3) := dk_132 2 1 (dk_at dksX4_allRight_1 12 rfl rfl)
theorem dX4_allRight_37 : decode cX4_allRight 37 = .ok (.goto (-33), 3) := dk_167 255 223 (dk_at dksX4_allRight_1 15 rfl rfl)
theorem dX4_allRight_40 : decode cX4_allRight 40 = .ok (.iload_n 1, 1) := dk_27 (dk_at dksX4_allRight_1 18 rfl rfl)
theorem dX4_allRight_41 : decode cX4_allRight 41 = .ok (.ireturn, 1) := dk_172 (dk_at dksX4_allRight_1 19 rfl rfl)
abbrev cX4_first : ByteArray := prog_21_method_56_code
def yX4_first : MethodName := ⟨RX4, "first", "()I"⟩
def dkwX4_first_1 : List UInt8 := [28, 122, 4, 126, 154, 0, 5, 28, 172, 132, 2, 1, 167, 255, 227, 2, 172]
abbrev dktX4_first_1 : List UInt8 := dkwX4_first_1 ++ []
def dkwX4_first_0 : List UInt8 := [42, 182, 0, 210, 60, 3, 61, 28, 42, 180, 0, 84, 162, 0, 27, 42, 28, 182, 0, 91, 153, 0, 13, 27]
abbrev dktX4_first_0 : List UInt8 := dkwX4_first_0 ++ dktX4_first_1
theorem dksX4_first_0 : cX4_first.data.toList.drop 0 = dktX4_first_0 := by decide +kernel
theorem dksX4_first_1 : cX4_first.data.toList.drop 24 = dktX4_first_1 := dk_seg dksX4_first_0 24 rfl rfl
theorem dX4_first_0 : decode cX4_first 0 = .ok (.aload_n 0, 1) := dk_42 (dk_at dksX4_first_0 0 rfl rfl)
theorem dX4_first_1 : decode cX4_first 1 = .ok (.invokevirtual 210, 3) := dk_182 0 210 (dk_at dksX4_first_0 1 rfl rfl)
theorem dX4_first_4 : decode cX4_first 4 = .ok (.istore_n 1, 1) := dk_60 (dk_at dksX4_first_0 4 rfl rfl)
theorem dX4_first_5 : decode cX4_first 5 = .ok (.iconst 0, 1) := dk_3 (dk_at dksX4_first_0 5 rfl rfl)
theorem dX4_first_6 : decode cX4_first 6 = .ok (.istore_n 2, 1) := dk_61 (dk_at dksX4_first_0 6 rfl rfl)
theorem dX4_first_7 : decode cX4_first 7 = .ok (.iload_n 2, 1) := dk_28 (dk_at dksX4_first_0 7 rfl rfl)
theorem dX4_first_8 : decode cX4_first 8 = .ok (.aload_n 0, 1) := dk_42 (dk_at dksX4_first_0 8 rfl rfl)
theorem dX4_first_9 : decode cX4_first 9 = .ok (.getfield 84, 3) := dk_180 0 84 (dk_at dksX4_first_0 9 rfl rfl)
theorem dX4_first_12 : decode cX4_first 12 = .ok (.if_icmp .ge 27, 3) := dk_162 0 27 (dk_at dksX4_first_0 12 rfl rfl)
theorem dX4_first_15 : decode cX4_first 15 = .ok (.aload_n 0, 1) := dk_42 (dk_at dksX4_first_0 15 rfl rfl)
theorem dX4_first_16 : decode cX4_first 16 = .ok (.iload_n 2, 1) := dk_28 (dk_at dksX4_first_0 16 rfl rfl)
theorem dX4_first_17 : decode cX4_first 17 = .ok (.invokevirtual 91, 3) := dk_182 0 91 (dk_at dksX4_first_0 17 rfl rfl)
theorem dX4_first_20 : decode cX4_first 20 = .ok (.ifCond .eq 13, 3) := dk_153 0 13 (dk_at dksX4_first_0 20 rfl rfl)
theorem dX4_first_23 : decode cX4_first 23 = .ok (.iload_n 1, 1) := dk_27 (dk_at dksX4_first_0 23 rfl rfl)
theorem dX4_first_24 : decode cX4_first 24 = .ok (.iload_n 2, 1) := dk_28 (dk_at dksX4_first_1 0 rfl rfl)
theorem dX4_first_25 : decode cX4_first 25 = .ok (.ishr, 1) := dk_122 (dk_at dksX4_first_1 1 rfl rfl)
theorem dX4_first_26 : decode cX4_first 26 = .ok (.iconst 1, 1) := dk_4 (dk_at dksX4_first_1 2 rfl rfl)
theorem dX4_first_27 : decode cX4_first 27 = .ok (.iand, 1) := dk_126 (dk_at dksX4_first_1 3 rfl rfl)
theorem dX4_first_28 : decode cX4_first 28 = .ok (.ifCond .ne 5, 3) := dk_154 0 5 (dk_at dksX4_first_1 4 rfl rfl)
theorem dX4_first_31 : decode cX4_first 31 = .ok (.iload_n 2, 1) := dk_28 (dk_at dksX4_first_1 7 rfl rfl)
theorem dX4_first_32 : decode cX4_first 32 = .ok (.ireturn, 1) := dk_172 (dk_at dksX4_first_1 8 rfl rfl)
theorem dX4_first_33 : decode cX4_first 33 = .ok (.iinc 2 1, 3) := dk_132 2 1 (dk_at dksX4_first_1 9 rfl rfl)
theorem dX4_first_36 : decode cX4_first 36 = .ok (.goto (-29), 3) := dk_167 255 227 (dk_at dksX4_first_1 12 rfl rfl)
theorem dX4_first_39 : decode cX4_first 39 = .ok (.iconst (-1), 1) := dk_2 (dk_at dksX4_first_1 15 rfl rfl)
theorem dX4_first_40 : decode cX4_first 40 = .ok (.ireturn, 1) := dk_172 (dk_at dksX4_first_1 16 rfl rfl)
abbrev cX4_cost : ByteArray := prog_21_method_58_code
def yX4_cost : MethodName := ⟨RX4, "cost", "(II)I"⟩
def dkwX4_cost_1 : List UInt8 := [29, 182, 0, 97, 167, 0, 9, 42, 27, 28, 182, 0, 213, 172]
abbrev dktX4_cost_1 : List UInt8 := dkwX4_cost_1 ++ []
def dkwX4_cost_0 : List UInt8 := [42, 27, 28, 182, 0, 124, 62, 29, 154, 0, 11, 27, 28, 160, 0, 6, 16, 250, 62, 29, 153, 0, 11, 42]
abbrev dktX4_cost_0 : List UInt8 := dkwX4_cost_0 ++ dktX4_cost_1
theorem dksX4_cost_0 : cX4_cost.data.toList.drop 0 = dktX4_cost_0 := by decide +kernel
theorem dksX4_cost_1 : cX4_cost.data.toList.drop 24 = dktX4_cost_1 := dk_seg dksX4_cost_0 24 rfl rfl
theorem dX4_cost_0 : decode cX4_cost 0 = .ok (.aload_n 0, 1) := dk_42 (dk_at dksX4_cost_0 0 rfl rfl)
theorem dX4_cost_1 : decode cX4_cost 1 = .ok (.iload_n 1, 1) := dk_27 (dk_at dksX4_cost_0 1 rfl rfl)
theorem dX4_cost_2 : decode cX4_cost 2 = .ok (.iload_n 2, 1) := dk_28 (dk_at dksX4_cost_0 2 rfl rfl)
theorem dX4_cost_3 : decode cX4_cost 3 = .ok (.invokevirtual 124, 3) := dk_182 0 124 (dk_at dksX4_cost_0 3 rfl rfl)
theorem dX4_cost_6 : decode cX4_cost 6 = .ok (.istore_n 3, 1) := dk_62 (dk_at dksX4_cost_0 6 rfl rfl)
theorem dX4_cost_7 : decode cX4_cost 7 = .ok (.iload_n 3, 1) := dk_29 (dk_at dksX4_cost_0 7 rfl rfl)
theorem dX4_cost_8 : decode cX4_cost 8 = .ok (.ifCond .ne 11, 3) := dk_154 0 11 (dk_at dksX4_cost_0 8 rfl rfl)
theorem dX4_cost_11 : decode cX4_cost 11 = .ok (.iload_n 1, 1) := dk_27 (dk_at dksX4_cost_0 11 rfl rfl)
theorem dX4_cost_12 : decode cX4_cost 12 = .ok (.iload_n 2, 1) := dk_28 (dk_at dksX4_cost_0 12 rfl rfl)
theorem dX4_cost_13 : decode cX4_cost 13 = .ok (.if_icmp .ne 6, 3) := dk_160 0 6 (dk_at dksX4_cost_0 13 rfl rfl)
theorem dX4_cost_16 : decode cX4_cost 16 = .ok (.bipush (-6), 2) := dk_16 250 (dk_at dksX4_cost_0 16 rfl rfl)
theorem dX4_cost_18 : decode cX4_cost 18 = .ok (.istore_n 3, 1) := dk_62 (dk_at dksX4_cost_0 18 rfl rfl)
theorem dX4_cost_19 : decode cX4_cost 19 = .ok (.iload_n 3, 1) := dk_29 (dk_at dksX4_cost_0 19 rfl rfl)
theorem dX4_cost_20 : decode cX4_cost 20 = .ok (.ifCond .eq 11, 3) := dk_153 0 11 (dk_at dksX4_cost_0 20 rfl rfl)
theorem dX4_cost_23 : decode cX4_cost 23 = .ok (.aload_n 0, 1) := dk_42 (dk_at dksX4_cost_0 23 rfl rfl)
theorem dX4_cost_24 : decode cX4_cost 24 = .ok (.iload_n 3, 1) := dk_29 (dk_at dksX4_cost_1 0 rfl rfl)
theorem dX4_cost_25 : decode cX4_cost 25 = .ok (.invokevirtual 97, 3) := dk_182 0 97 (dk_at dksX4_cost_1 1 rfl rfl)
theorem dX4_cost_28 : decode cX4_cost 28 = .ok (.goto 9, 3) := dk_167 0 9 (dk_at dksX4_cost_1 4 rfl rfl)
theorem dX4_cost_31 : decode cX4_cost 31 = .ok (.aload_n 0, 1) := dk_42 (dk_at dksX4_cost_1 7 rfl rfl)
theorem dX4_cost_32 : decode cX4_cost 32 = .ok (.iload_n 1, 1) := dk_27 (dk_at dksX4_cost_1 8 rfl rfl)
theorem dX4_cost_33 : decode cX4_cost 33 = .ok (.iload_n 2, 1) := dk_28 (dk_at dksX4_cost_1 9 rfl rfl)
theorem dX4_cost_34 : decode cX4_cost 34 = .ok (.invokevirtual 213, 3) := dk_182 0 213 (dk_at dksX4_cost_1 10 rfl rfl)
theorem dX4_cost_37 : decode cX4_cost 37 = .ok (.ireturn, 1) := dk_172 (dk_at dksX4_cost_1 13 rfl rfl)
abbrev cX4_costOf : ByteArray := prog_21_method_57_code
def yX4_costOf : MethodName := ⟨RX4, "costOf", "(II)I"⟩
def dkwX4_costOf_0 : List UInt8 := [42, 27, 28, 182, 0, 192, 42, 180, 0, 38, 28, 46, 96, 172]
abbrev dktX4_costOf_0 : List UInt8 := dkwX4_costOf_0 ++ []
theorem dksX4_costOf_0 : cX4_costOf.data.toList.drop 0 = dktX4_costOf_0 := by decide +kernel
theorem dX4_costOf_0 : decode cX4_costOf 0 = .ok (.aload_n 0, 1) := dk_42 (dk_at dksX4_costOf_0 0 rfl rfl)
theorem dX4_costOf_1 : decode cX4_costOf 1 = .ok (.iload_n 1, 1) := dk_27 (dk_at dksX4_costOf_0 1 rfl rfl)
theorem dX4_costOf_2 : decode cX4_costOf 2 = .ok (.iload_n 2, 1) := dk_28 (dk_at dksX4_costOf_0 2 rfl rfl)
theorem dX4_costOf_3 : decode cX4_costOf 3 = .ok (.invokevirtual 192, 3) := dk_182 0 192 (dk_at dksX4_costOf_0 3 rfl rfl)
theorem dX4_costOf_6 : decode cX4_costOf 6 = .ok (.aload_n 0, 1) := dk_42 (dk_at dksX4_costOf_0 6 rfl rfl)
theorem dX4_costOf_7 : decode cX4_costOf 7 = .ok (.getfield 38, 3) := dk_180 0 38 (dk_at dksX4_costOf_0 7 rfl rfl)
theorem dX4_costOf_10 : decode cX4_costOf 10 = .ok (.iload_n 2, 1) := dk_28 (dk_at dksX4_costOf_0 10 rfl rfl)
theorem dX4_costOf_11 : decode cX4_costOf 11 = .ok (.iaload, 1) := dk_46 (dk_at dksX4_costOf_0 11 rfl rfl)
theorem dX4_costOf_12 : decode cX4_costOf 12 = .ok (.iadd, 1) := dk_96 (dk_at dksX4_costOf_0 12 rfl rfl)
theorem dX4_costOf_13 : decode cX4_costOf 13 = .ok (.ireturn, 1) := dk_172 (dk_at dksX4_costOf_0 13 rfl rfl)
abbrev cX4_keeps : ByteArray := prog_21_method_60_code
def yX4_keeps : MethodName := ⟨RX4, "keeps", "(I)I"⟩
def dkwX4_keeps_0 : List UInt8 := [42, 27, 182, 0, 127, 61, 28, 153, 0, 11, 42, 28, 182, 0, 207, 167, 0, 8, 42, 27, 182, 0, 216, 172]
abbrev dktX4_keeps_0 : List UInt8 := dkwX4_keeps_0 ++ []
theorem dksX4_keeps_0 : cX4_keeps.data.toList.drop 0 = dktX4_keeps_0 := by decide +kernel
theorem dX4_keeps_0 : decode cX4_keeps 0 = .ok (.aload_n 0, 1) := dk_42 (dk_at dksX4_keeps_0 0 rfl rfl)
theorem dX4_keeps_1 : decode cX4_keeps 1 = .ok (.iload_n 1, 1) := dk_27 (dk_at dksX4_keeps_0 1 rfl rfl)
theorem dX4_keeps_2 : decode cX4_keeps 2 = .ok (.invokevirtual 127, 3) := dk_182 0 127 (dk_at dksX4_keeps_0 2 rfl rfl)
theorem dX4_keeps_5 : decode cX4_keeps 5 = .ok (.istore_n 2, 1) := dk_61 (dk_at dksX4_keeps_0 5 rfl rfl)
theorem dX4_keeps_6 : decode cX4_keeps 6 = .ok (.iload_n 2, 1) := dk_28 (dk_at dksX4_keeps_0 6 rfl rfl)
theorem dX4_keeps_7 : decode cX4_keeps 7 = .ok (.ifCond .eq 11, 3) := dk_153 0 11 (dk_at dksX4_keeps_0 7 rfl rfl)
theorem dX4_keeps_10 : decode cX4_keeps 10 = .ok (.aload_n 0, 1) := dk_42 (dk_at dksX4_keeps_0 10 rfl rfl)
theorem dX4_keeps_11 : decode cX4_keeps 11 = .ok (.iload_n 2, 1) := dk_28 (dk_at dksX4_keeps_0 11 rfl rfl)
theorem dX4_keeps_12 : decode cX4_keeps 12 = .ok (.invokevirtual 207, 3) := dk_182 0 207 (dk_at dksX4_keeps_0 12 rfl rfl)
theorem dX4_keeps_15 : decode cX4_keeps 15 = .ok (.goto 8, 3) := dk_167 0 8 (dk_at dksX4_keeps_0 15 rfl rfl)
theorem dX4_keeps_18 : decode cX4_keeps 18 = .ok (.aload_n 0, 1) := dk_42 (dk_at dksX4_keeps_0 18 rfl rfl)
theorem dX4_keeps_19 : decode cX4_keeps 19 = .ok (.iload_n 1, 1) := dk_27 (dk_at dksX4_keeps_0 19 rfl rfl)
theorem dX4_keeps_20 : decode cX4_keeps 20 = .ok (.invokevirtual 216, 3) := dk_182 0 216 (dk_at dksX4_keeps_0 20 rfl rfl)
theorem dX4_keeps_23 : decode cX4_keeps 23 = .ok (.ireturn, 1) := dk_172 (dk_at dksX4_keeps_0 23 rfl rfl)
abbrev cX4_keptOf : ByteArray := prog_21_method_59_code
def yX4_keptOf : MethodName := ⟨RX4, "keptOf", "(I)I"⟩
def dkwX4_keptOf_3 : List UInt8 := [167, 255, 210, 29, 172]
abbrev dktX4_keptOf_3 : List UInt8 := dkwX4_keptOf_3 ++ []
def dkwX4_keptOf_2 : List UInt8 := [42, 21, 4, 27, 182, 0, 213, 42, 29, 27, 182, 0, 213, 164, 0, 6, 21, 4, 62, 132, 4, 1]
abbrev dktX4_keptOf_2 : List UInt8 := dkwX4_keptOf_2 ++ dktX4_keptOf_3
def dkwX4_keptOf_1 : List UInt8 := [21, 4, 42, 180, 0, 84, 162, 0, 43, 28, 21, 4, 122, 4, 126, 4, 160, 0, 27, 29, 2, 159, 0, 19]
abbrev dktX4_keptOf_1 : List UInt8 := dkwX4_keptOf_1 ++ dktX4_keptOf_2
def dkwX4_keptOf_0 : List UInt8 := [42, 27, 182, 0, 104, 61, 2, 62, 42, 180, 0, 26, 27, 46, 7, 160, 0, 5, 2, 172, 3, 54, 4]
abbrev dktX4_keptOf_0 : List UInt8 := dkwX4_keptOf_0 ++ dktX4_keptOf_1
theorem dksX4_keptOf_0 : cX4_keptOf.data.toList.drop 0 = dktX4_keptOf_0 := by decide +kernel
theorem dksX4_keptOf_1 : cX4_keptOf.data.toList.drop 23 = dktX4_keptOf_1 := dk_seg dksX4_keptOf_0 23 rfl rfl
theorem dksX4_keptOf_2 : cX4_keptOf.data.toList.drop 47 = dktX4_keptOf_2 := dk_seg dksX4_keptOf_1 24 rfl rfl
theorem dksX4_keptOf_3 : cX4_keptOf.data.toList.drop 69 = dktX4_keptOf_3 := dk_seg dksX4_keptOf_2 22 rfl rfl
theorem dX4_keptOf_0 : decode cX4_keptOf 0 = .ok (.aload_n 0, 1) := dk_42 (dk_at dksX4_keptOf_0 0 rfl rfl)
theorem dX4_keptOf_1 : decode cX4_keptOf 1 = .ok (.iload_n 1, 1) := dk_27 (dk_at dksX4_keptOf_0 1 rfl rfl)
theorem dX4_keptOf_2 : decode cX4_keptOf 2 = .ok (.invokevirtual 104, 3) := dk_182 0 104 (dk_at dksX4_keptOf_0 2 rfl rfl)
theorem dX4_keptOf_5 : decode cX4_keptOf 5 = .ok (.istore_n 2, 1) := dk_61 (dk_at dksX4_keptOf_0 5 rfl rfl)
theorem dX4_keptOf_6 : decode cX4_keptOf 6 = .ok (.iconst (-1), 1) := dk_2 (dk_at dksX4_keptOf_0 6 rfl rfl)
theorem dX4_keptOf_7 : decode cX4_keptOf 7 = .ok (.istore_n 3, 1) := dk_62 (dk_at dksX4_keptOf_0 7 rfl rfl)
theorem dX4_keptOf_8 : decode cX4_keptOf 8 = .ok (.aload_n 0, 1) := dk_42 (dk_at dksX4_keptOf_0 8 rfl rfl)
theorem dX4_keptOf_9 : decode cX4_keptOf 9 = .ok (.getfield 26, 3) := dk_180 0 26 (dk_at dksX4_keptOf_0 9 rfl rfl)
theorem dX4_keptOf_12 : decode cX4_keptOf 12 = .ok (.iload_n 1, 1) := dk_27 (dk_at dksX4_keptOf_0 12 rfl rfl)
theorem dX4_keptOf_13 : decode cX4_keptOf 13 = .ok (.iaload, 1) := dk_46 (dk_at dksX4_keptOf_0 13 rfl rfl)
theorem dX4_keptOf_14 : decode cX4_keptOf 14 = .ok (.iconst 4, 1) := dk_7 (dk_at dksX4_keptOf_0 14 rfl rfl)
theorem dX4_keptOf_15 : decode cX4_keptOf 15 = .ok (.if_icmp .ne 5, 3) := dk_160 0 5 (dk_at dksX4_keptOf_0 15 rfl rfl)
theorem dX4_keptOf_18 : decode cX4_keptOf 18 = .ok (.iconst (-1), 1) := dk_2 (dk_at dksX4_keptOf_0 18 rfl rfl)
theorem dX4_keptOf_19 : decode cX4_keptOf 19 = .ok (.ireturn, 1) := dk_172 (dk_at dksX4_keptOf_0 19 rfl rfl)
theorem dX4_keptOf_20 : decode cX4_keptOf 20 = .ok (.iconst 0, 1) := dk_3 (dk_at dksX4_keptOf_0 20 rfl rfl)
theorem dX4_keptOf_21 : decode cX4_keptOf 21 = .ok (.istore 4, 2) := dk_54 4 (dk_at dksX4_keptOf_0 21 rfl rfl)
theorem dX4_keptOf_23 : decode cX4_keptOf 23 = .ok (.iload 4, 2) := dk_21 4 (dk_at dksX4_keptOf_1 0 rfl rfl)
theorem dX4_keptOf_25 : decode cX4_keptOf 25 = .ok (.aload_n 0, 1) := dk_42 (dk_at dksX4_keptOf_1 2 rfl rfl)
theorem dX4_keptOf_26 : decode cX4_keptOf 26 = .ok (.getfield 84, 3) := dk_180 0 84 (dk_at dksX4_keptOf_1 3 rfl rfl)
theorem dX4_keptOf_29 : decode cX4_keptOf 29 = .ok (.if_icmp .ge 43, 3) := dk_162 0 43 (dk_at dksX4_keptOf_1 6 rfl rfl)
theorem dX4_keptOf_32 : decode cX4_keptOf 32 = .ok (.iload_n 2, 1) := dk_28 (dk_at dksX4_keptOf_1 9 rfl rfl)
theorem dX4_keptOf_33 : decode cX4_keptOf 33 = .ok (.iload 4, 2) := dk_21 4 (dk_at dksX4_keptOf_1 10 rfl rfl)
theorem dX4_keptOf_35 : decode cX4_keptOf 35 = .ok (.ishr, 1) := dk_122 (dk_at dksX4_keptOf_1 12 rfl rfl)
theorem dX4_keptOf_36 : decode cX4_keptOf 36 = .ok (.iconst 1, 1) := dk_4 (dk_at dksX4_keptOf_1 13 rfl rfl)
theorem dX4_keptOf_37 : decode cX4_keptOf 37 = .ok (.iand, 1) := dk_126 (dk_at dksX4_keptOf_1 14 rfl rfl)
theorem dX4_keptOf_38 : decode cX4_keptOf 38 = .ok (.iconst 1, 1) := dk_4 (dk_at dksX4_keptOf_1 15 rfl rfl)
theorem dX4_keptOf_39 : decode cX4_keptOf 39 = .ok (.if_icmp .ne 27, 3) := dk_160 0 27 (dk_at dksX4_keptOf_1 16 rfl rfl)
theorem dX4_keptOf_42 : decode cX4_keptOf 42 = .ok (.iload_n 3, 1) := dk_29 (dk_at dksX4_keptOf_1 19 rfl rfl)
theorem dX4_keptOf_43 : decode cX4_keptOf 43 = .ok (.iconst (-1), 1) := dk_2 (dk_at dksX4_keptOf_1 20 rfl rfl)
theorem dX4_keptOf_44 : decode cX4_keptOf 44 = .ok (.if_icmp .eq 19, 3) := dk_159 0 19 (dk_at dksX4_keptOf_1 21 rfl rfl)
theorem dX4_keptOf_47 : decode cX4_keptOf 47 = .ok (.aload_n 0, 1) := dk_42 (dk_at dksX4_keptOf_2 0 rfl rfl)
theorem dX4_keptOf_48 : decode cX4_keptOf 48 = .ok (.iload 4, 2) := dk_21 4 (dk_at dksX4_keptOf_2 1 rfl rfl)
theorem dX4_keptOf_50 : decode cX4_keptOf 50 = .ok (.iload_n 1, 1) := dk_27 (dk_at dksX4_keptOf_2 3 rfl rfl)
theorem dX4_keptOf_51 : decode cX4_keptOf 51 = .ok (.invokevirtual 213, 3) := dk_182 0 213 (dk_at dksX4_keptOf_2 4 rfl rfl)
theorem dX4_keptOf_54 : decode cX4_keptOf 54 = .ok (.aload_n 0, 1) := dk_42 (dk_at dksX4_keptOf_2 7 rfl rfl)
theorem dX4_keptOf_55 : decode cX4_keptOf 55 = .ok (.iload_n 3, 1) := dk_29 (dk_at dksX4_keptOf_2 8 rfl rfl)
theorem dX4_keptOf_56 : decode cX4_keptOf 56 = .ok (.iload_n 1, 1) := dk_27 (dk_at dksX4_keptOf_2 9 rfl rfl)
theorem dX4_keptOf_57 : decode cX4_keptOf 57 = .ok (.invokevirtual 213, 3) := dk_182 0 213 (dk_at dksX4_keptOf_2 10 rfl rfl)
theorem dX4_keptOf_60 : decode cX4_keptOf 60 = .ok (.if_icmp .le 6, 3) := dk_164 0 6 (dk_at dksX4_keptOf_2 13 rfl rfl)
theorem dX4_keptOf_63 : decode cX4_keptOf 63 = .ok (.iload 4, 2) := dk_21 4 (dk_at dksX4_keptOf_2 16 rfl rfl)
theorem dX4_keptOf_65 : decode cX4_keptOf 65 = .ok (.istore_n 3, 1) := dk_62 (dk_at dksX4_keptOf_2 18 rfl rfl)
theorem dX4_keptOf_66 : decode cX4_keptOf 66 = .ok (.iinc 4 1, 3) := dk_132 4 1 (dk_at dksX4_keptOf_2 19 rfl rfl)
theorem dX4_keptOf_69 : decode cX4_keptOf 69 = .ok (.goto (-46), 3) := dk_167 255 210 (dk_at dksX4_keptOf_3 0 rfl rfl)
theorem dX4_keptOf_72 : decode cX4_keptOf 72 = .ok (.iload_n 3, 1) := dk_29 (dk_at dksX4_keptOf_3 3 rfl rfl)
theorem dX4_keptOf_73 : decode cX4_keptOf 73 = .ok (.ireturn, 1) := dk_172 (dk_at dksX4_keptOf_3 4 rfl rfl)
abbrev cX4_cheapest : ByteArray := prog_21_method_62_code
def yX4_cheapest : MethodName := ⟨RX4, "cheapest", "(I)I"⟩
def dkwX4_cheapest_2 : List UInt8 := [180, 0, 225, 172]
abbrev dktX4_cheapest_2 : List UInt8 := dkwX4_cheapest_2 ++ []
def dkwX4_cheapest_1 : List UInt8 := [154, 0, 10, 42, 180, 0, 219, 167, 0, 19, 27, 4, 160, 0, 10, 42, 180, 0, 222, 167, 0, 7, 42]
abbrev dktX4_cheapest_1 : List UInt8 := dkwX4_cheapest_1 ++ dktX4_cheapest_2
def dkwX4_cheapest_0 : List UInt8 := [27, 155, 0, 8, 27, 5, 164, 0, 10, 42, 16, 251, 182, 0, 97, 172, 42, 3, 182, 0, 228, 27]
abbrev dktX4_cheapest_0 : List UInt8 := dkwX4_cheapest_0 ++ dktX4_cheapest_1
theorem dksX4_cheapest_0 : cX4_cheapest.data.toList.drop 0 = dktX4_cheapest_0 := by decide +kernel
theorem dksX4_cheapest_1 : cX4_cheapest.data.toList.drop 22 = dktX4_cheapest_1 := dk_seg dksX4_cheapest_0 22 rfl rfl
theorem dksX4_cheapest_2 : cX4_cheapest.data.toList.drop 45 = dktX4_cheapest_2 := dk_seg dksX4_cheapest_1 23 rfl rfl
theorem dX4_cheapest_0 : decode cX4_cheapest 0 = .ok (.iload_n 1, 1) := dk_27 (dk_at dksX4_cheapest_0 0 rfl rfl)
theorem dX4_cheapest_1 : decode cX4_cheapest 1 = .ok (.ifCond .lt 8, 3) := dk_155 0 8 (dk_at dksX4_cheapest_0 1 rfl rfl)
theorem dX4_cheapest_4 : decode cX4_cheapest 4 = .ok (.iload_n 1, 1) := dk_27 (dk_at dksX4_cheapest_0 4 rfl rfl)
theorem dX4_cheapest_5 : decode cX4_cheapest 5 = .ok (.iconst 2, 1) := dk_5 (dk_at dksX4_cheapest_0 5 rfl rfl)
theorem dX4_cheapest_6 : decode cX4_cheapest 6 = .ok (.if_icmp .le 10, 3) := dk_164 0 10 (dk_at dksX4_cheapest_0 6 rfl rfl)
theorem dX4_cheapest_9 : decode cX4_cheapest 9 = .ok (.aload_n 0, 1) := dk_42 (dk_at dksX4_cheapest_0 9 rfl rfl)
theorem dX4_cheapest_10 : decode cX4_cheapest 10 = .ok (.bipush (-5), 2) := dk_16 251 (dk_at dksX4_cheapest_0 10 rfl rfl)
theorem dX4_cheapest_12 : decode cX4_cheapest 12 = .ok (.invokevirtual 97, 3) := dk_182 0 97 (dk_at dksX4_cheapest_0 12 rfl rfl)
theorem dX4_cheapest_15 : decode cX4_cheapest 15 = .ok (.ireturn, 1) := dk_172 (dk_at dksX4_cheapest_0 15 rfl rfl)
theorem dX4_cheapest_16 : decode cX4_cheapest 16 = .ok (.aload_n 0, 1) := dk_42 (dk_at dksX4_cheapest_0 16 rfl rfl)
theorem dX4_cheapest_17 : decode cX4_cheapest 17 = .ok (.iconst 0, 1) := dk_3 (dk_at dksX4_cheapest_0 17 rfl rfl)
theorem dX4_cheapest_18 : decode cX4_cheapest 18 = .ok (.invokevirtual 228, 3) := dk_182 0 228 (dk_at dksX4_cheapest_0 18 rfl rfl)
theorem dX4_cheapest_21 : decode cX4_cheapest 21 = .ok (.iload_n 1, 1) := dk_27 (dk_at dksX4_cheapest_0 21 rfl rfl)
theorem dX4_cheapest_22 : decode cX4_cheapest 22 = .ok (.ifCond .ne 10, 3) := dk_154 0 10 (dk_at dksX4_cheapest_1 0 rfl rfl)
theorem dX4_cheapest_25 : decode cX4_cheapest 25 = .ok (.aload_n 0, 1) := dk_42 (dk_at dksX4_cheapest_1 3 rfl rfl)
theorem dX4_cheapest_26 : decode cX4_cheapest 26 = .ok (.getfield 219, 3) := dk_180 0 219 (dk_at dksX4_cheapest_1 4 rfl rfl)
theorem dX4_cheapest_29 : decode cX4_cheapest 29 = .ok (.goto 19, 3) := dk_167 0 19 (dk_at dksX4_cheapest_1 7 rfl rfl)
theorem dX4_cheapest_32 : decode cX4_cheapest 32 = .ok (.iload_n 1, 1) := dk_27 (dk_at dksX4_cheapest_1 10 rfl rfl)
theorem dX4_cheapest_33 : decode cX4_cheapest 33 = .ok (.iconst 1, 1) := dk_4 (dk_at dksX4_cheapest_1 11 rfl rfl)
theorem dX4_cheapest_34 : decode cX4_cheapest 34 = .ok (.if_icmp .ne 10, 3) := dk_160 0 10 (dk_at dksX4_cheapest_1 12 rfl rfl)
theorem dX4_cheapest_37 : decode cX4_cheapest 37 = .ok (.aload_n 0, 1) := dk_42 (dk_at dksX4_cheapest_1 15 rfl rfl)
theorem dX4_cheapest_38 : decode cX4_cheapest 38 = .ok (.getfield 222, 3) := dk_180 0 222 (dk_at dksX4_cheapest_1 16 rfl rfl)
theorem dX4_cheapest_41 : decode cX4_cheapest 41 = .ok (.goto 7, 3) := dk_167 0 7 (dk_at dksX4_cheapest_1 19 rfl rfl)
theorem dX4_cheapest_44 : decode cX4_cheapest 44 = .ok (.aload_n 0, 1) := dk_42 (dk_at dksX4_cheapest_1 22 rfl rfl)
theorem dX4_cheapest_45 : decode cX4_cheapest 45 = .ok (.getfield 225, 3) := dk_180 0 225 (dk_at dksX4_cheapest_2 0 rfl rfl)
theorem dX4_cheapest_48 : decode cX4_cheapest 48 = .ok (.ireturn, 1) := dk_172 (dk_at dksX4_cheapest_2 3 rfl rfl)
abbrev cX4_shutters : ByteArray := prog_21_method_61_code
def yX4_shutters : MethodName := ⟨RX4, "shutters", "(Z)V"⟩
def dkwX4_shutters_7 : List UInt8 := [167, 255, 113, 177]
abbrev dktX4_shutters_7 : List UInt8 := dkwX4_shutters_7 ++ []
def dkwX4_shutters_6 : List UInt8 := [42, 180, 0, 44, 21, 5, 92, 46, 4, 28, 120, 128, 79, 132, 5, 1, 167, 255, 182, 132, 2, 1]
abbrev dktX4_shutters_6 : List UInt8 := dkwX4_shutters_6 ++ dktX4_shutters_7
def dkwX4_shutters_5 : List UInt8 := [21, 5, 28, 182, 0, 213, 96, 181, 0, 219, 42, 89, 180, 0, 225, 4, 96, 181, 0, 225, 27, 153, 0, 16]
abbrev dktX4_shutters_5 : List UInt8 := dkwX4_shutters_5 ++ dktX4_shutters_6
def dkwX4_shutters_4 : List UInt8 := [21, 5, 122, 4, 126, 153, 0, 56, 21, 5, 21, 4, 160, 0, 6, 167, 0, 46, 42, 89, 180, 0, 219, 42]
abbrev dktX4_shutters_4 : List UInt8 := dkwX4_shutters_4 ++ dktX4_shutters_5
def dkwX4_shutters_3 : List UInt8 := [180, 0, 222, 4, 28, 120, 128, 181, 0, 222, 3, 54, 5, 21, 5, 42, 180, 0, 84, 162, 0, 71, 29]
abbrev dktX4_shutters_3 : List UInt8 := dkwX4_shutters_3 ++ dktX4_shutters_4
def dkwX4_shutters_2 : List UInt8 := [182, 0, 216, 54, 4, 42, 180, 0, 26, 28, 46, 7, 159, 0, 21, 21, 4, 2, 160, 0, 15, 42, 89]
abbrev dktX4_shutters_2 : List UInt8 := dkwX4_shutters_2 ++ dktX4_shutters_3
def dkwX4_shutters_1 : List UInt8 := [162, 0, 141, 42, 28, 182, 0, 91, 154, 0, 6, 167, 0, 124, 42, 28, 182, 0, 104, 62, 42, 28]
abbrev dktX4_shutters_1 : List UInt8 := dkwX4_shutters_1 ++ dktX4_shutters_2
def dkwX4_shutters_0 : List UInt8 := [42, 3, 181, 0, 219, 42, 3, 181, 0, 222, 42, 3, 181, 0, 225, 3, 61, 28, 42, 180, 0, 84]
abbrev dktX4_shutters_0 : List UInt8 := dkwX4_shutters_0 ++ dktX4_shutters_1
theorem dksX4_shutters_0 : cX4_shutters.data.toList.drop 0 = dktX4_shutters_0 := by decide +kernel
theorem dksX4_shutters_1 : cX4_shutters.data.toList.drop 22 = dktX4_shutters_1 := dk_seg dksX4_shutters_0 22 rfl rfl
theorem dksX4_shutters_2 : cX4_shutters.data.toList.drop 44 = dktX4_shutters_2 := dk_seg dksX4_shutters_1 22 rfl rfl
theorem dksX4_shutters_3 : cX4_shutters.data.toList.drop 67 = dktX4_shutters_3 := dk_seg dksX4_shutters_2 23 rfl rfl
theorem dksX4_shutters_4 : cX4_shutters.data.toList.drop 90 = dktX4_shutters_4 := dk_seg dksX4_shutters_3 23 rfl rfl
theorem dksX4_shutters_5 : cX4_shutters.data.toList.drop 114 = dktX4_shutters_5 := dk_seg dksX4_shutters_4 24 rfl rfl
theorem dksX4_shutters_6 : cX4_shutters.data.toList.drop 138 = dktX4_shutters_6 := dk_seg dksX4_shutters_5 24 rfl rfl
theorem dksX4_shutters_7 : cX4_shutters.data.toList.drop 160 = dktX4_shutters_7 := dk_seg dksX4_shutters_6 22 rfl rfl
theorem dX4_shutters_0 : decode cX4_shutters 0 = .ok (.aload_n 0, 1) := dk_42 (dk_at dksX4_shutters_0 0 rfl rfl)
theorem dX4_shutters_1 : decode cX4_shutters 1 = .ok (.iconst 0, 1) := dk_3 (dk_at dksX4_shutters_0 1 rfl rfl)
theorem dX4_shutters_2 : decode cX4_shutters 2 = .ok (.putfield 219, 3) := dk_181 0 219 (dk_at dksX4_shutters_0 2 rfl rfl)
theorem dX4_shutters_5 : decode cX4_shutters 5 = .ok (.aload_n 0, 1) := dk_42 (dk_at dksX4_shutters_0 5 rfl rfl)
theorem dX4_shutters_6 : decode cX4_shutters 6 = .ok (.iconst 0, 1) := dk_3 (dk_at dksX4_shutters_0 6 rfl rfl)
theorem dX4_shutters_7 : decode cX4_shutters 7 = .ok (.putfield 222, 3) := dk_181 0 222 (dk_at dksX4_shutters_0 7 rfl rfl)
theorem dX4_shutters_10 : decode cX4_shutters 10 = .ok (.aload_n 0, 1) := dk_42 (dk_at dksX4_shutters_0 10 rfl rfl)
theorem dX4_shutters_11 : decode cX4_shutters 11 = .ok (.iconst 0, 1) := dk_3 (dk_at dksX4_shutters_0 11 rfl rfl)
theorem dX4_shutters_12 : decode cX4_shutters 12 = .ok (.putfield 225, 3) := dk_181 0 225 (dk_at dksX4_shutters_0 12 rfl rfl)
theorem dX4_shutters_15 : decode cX4_shutters 15 = .ok (.iconst 0, 1) := dk_3 (dk_at dksX4_shutters_0 15 rfl rfl)
theorem dX4_shutters_16 : decode cX4_shutters 16 = .ok (.istore_n 2, 1) := dk_61 (dk_at dksX4_shutters_0 16 rfl rfl)
theorem dX4_shutters_17 : decode cX4_shutters 17 = .ok (.iload_n 2, 1) := dk_28 (dk_at dksX4_shutters_0 17 rfl rfl)
theorem dX4_shutters_18 : decode cX4_shutters 18 = .ok (.aload_n 0, 1) := dk_42 (dk_at dksX4_shutters_0 18 rfl rfl)
theorem dX4_shutters_19 : decode cX4_shutters 19 = .ok (.getfield 84, 3) := dk_180 0 84 (dk_at dksX4_shutters_0 19 rfl rfl)
theorem dX4_shutters_22 : decode cX4_shutters 22 = .ok (.if_icmp .ge 141, 3) := dk_162 0 141 (dk_at dksX4_shutters_1 0 rfl rfl)
theorem dX4_shutters_25 : decode cX4_shutters 25 = .ok (.aload_n 0, 1) := dk_42 (dk_at dksX4_shutters_1 3 rfl rfl)
theorem dX4_shutters_26 : decode cX4_shutters 26 = .ok (.iload_n 2, 1) := dk_28 (dk_at dksX4_shutters_1 4 rfl rfl)
theorem dX4_shutters_27 : decode cX4_shutters 27 = .ok (.invokevirtual 91, 3) := dk_182 0 91 (dk_at dksX4_shutters_1 5 rfl rfl)
theorem dX4_shutters_30 : decode cX4_shutters 30 = .ok (.ifCond .ne 6, 3) := dk_154 0 6 (dk_at dksX4_shutters_1 8 rfl rfl)
theorem dX4_shutters_33 : decode cX4_shutters 33 = .ok (.goto 124, 3) := dk_167 0 124 (dk_at dksX4_shutters_1 11 rfl rfl)
theorem dX4_shutters_36 : decode cX4_shutters 36 = .ok (.aload_n 0, 1) := dk_42 (dk_at dksX4_shutters_1 14 rfl rfl)
theorem dX4_shutters_37 : decode cX4_shutters 37 = .ok (.iload_n 2, 1) := dk_28 (dk_at dksX4_shutters_1 15 rfl rfl)
theorem dX4_shutters_38 : decode cX4_shutters 38 = .ok (.invokevirtual 104, 3) := dk_182 0 104 (dk_at dksX4_shutters_1 16 rfl rfl)
theorem dX4_shutters_41 : decode cX4_shutters 41 = .ok (.istore_n 3, 1) := dk_62 (dk_at dksX4_shutters_1 19 rfl rfl)
theorem dX4_shutters_42 : decode cX4_shutters 42 = .ok (.aload_n 0, 1) := dk_42 (dk_at dksX4_shutters_1 20 rfl rfl)
theorem dX4_shutters_43 : decode cX4_shutters 43 = .ok (.iload_n 2, 1) := dk_28 (dk_at dksX4_shutters_1 21 rfl rfl)
theorem dX4_shutters_44 : decode cX4_shutters 44 = .ok (.invokevirtual 216, 3) := dk_182 0 216 (dk_at dksX4_shutters_2 0 rfl rfl)
theorem dX4_shutters_47 : decode cX4_shutters 47 = .ok (.istore 4, 2) := dk_54 4 (dk_at dksX4_shutters_2 3 rfl rfl)
theorem dX4_shutters_49 : decode cX4_shutters 49 = .ok (.aload_n 0, 1) := dk_42 (dk_at dksX4_shutters_2 5 rfl rfl)
theorem dX4_shutters_50 : decode cX4_shutters 50 = .ok (.getfield 26, 3) := dk_180 0 26 (dk_at dksX4_shutters_2 6 rfl rfl)
theorem dX4_shutters_53 : decode cX4_shutters 53 = .ok (.iload_n 2, 1) := dk_28 (dk_at dksX4_shutters_2 9 rfl rfl)
theorem dX4_shutters_54 : decode cX4_shutters 54 = .ok (.iaload, 1) := dk_46 (dk_at dksX4_shutters_2 10 rfl rfl)
theorem dX4_shutters_55 : decode cX4_shutters 55 = .ok (.iconst 4, 1) := dk_7 (dk_at dksX4_shutters_2 11 rfl rfl)
theorem dX4_shutters_56 : decode cX4_shutters 56 = .ok (.if_icmp .eq 21, 3) := dk_159 0 21 (dk_at dksX4_shutters_2 12 rfl rfl)
theorem dX4_shutters_59 : decode cX4_shutters 59 = .ok (.iload 4, 2) := dk_21 4 (dk_at dksX4_shutters_2 15 rfl rfl)
theorem dX4_shutters_61 : decode cX4_shutters 61 = .ok (.iconst (-1), 1) := dk_2 (dk_at dksX4_shutters_2 17 rfl rfl)
theorem dX4_shutters_62 : decode cX4_shutters 62 = .ok (.if_icmp .ne 15, 3) := dk_160 0 15 (dk_at dksX4_shutters_2 18 rfl rfl)
theorem dX4_shutters_65 : decode cX4_shutters 65 = .ok (.aload_n 0, 1) := dk_42 (dk_at dksX4_shutters_2 21 rfl rfl)
theorem dX4_shutters_66 : decode cX4_shutters 66 = .ok (.dup, 1) := dk_89 (dk_at dksX4_shutters_2 22 rfl rfl)
theorem dX4_shutters_67 : decode cX4_shutters 67 = .ok (.getfield 222, 3) := dk_180 0 222 (dk_at dksX4_shutters_3 0 rfl rfl)
theorem dX4_shutters_70 : decode cX4_shutters 70 = .ok (.iconst 1, 1) := dk_4 (dk_at dksX4_shutters_3 3 rfl rfl)
theorem dX4_shutters_71 : decode cX4_shutters 71 = .ok (.iload_n 2, 1) := dk_28 (dk_at dksX4_shutters_3 4 rfl rfl)
theorem dX4_shutters_72 : decode cX4_shutters 72 = .ok (.ishl, 1) := dk_120 (dk_at dksX4_shutters_3 5 rfl rfl)
theorem dX4_shutters_73 : decode cX4_shutters 73 = .ok (.ior, 1) := dk_128 (dk_at dksX4_shutters_3 6 rfl rfl)
theorem dX4_shutters_74 : decode cX4_shutters 74 = .ok (.putfield 222, 3) := dk_181 0 222 (dk_at dksX4_shutters_3 7 rfl rfl)
theorem dX4_shutters_77 : decode cX4_shutters 77 = .ok (.iconst 0, 1) := dk_3 (dk_at dksX4_shutters_3 10 rfl rfl)
theorem dX4_shutters_78 : decode cX4_shutters 78 = .ok (.istore 5, 2) := dk_54 5 (dk_at dksX4_shutters_3 11 rfl rfl)
theorem dX4_shutters_80 : decode cX4_shutters 80 = .ok (.iload 5, 2) := dk_21 5 (dk_at dksX4_shutters_3 13 rfl rfl)
theorem dX4_shutters_82 : decode cX4_shutters 82 = .ok (.aload_n 0, 1) := dk_42 (dk_at dksX4_shutters_3 15 rfl rfl)
theorem dX4_shutters_83 : decode cX4_shutters 83 = .ok (.getfield 84, 3) := dk_180 0 84 (dk_at dksX4_shutters_3 16 rfl rfl)
theorem dX4_shutters_86 : decode cX4_shutters 86 = .ok (.if_icmp .ge 71, 3) := dk_162 0 71 (dk_at dksX4_shutters_3 19 rfl rfl)
theorem dX4_shutters_89 : decode cX4_shutters 89 = .ok (.iload_n 3, 1) := dk_29 (dk_at dksX4_shutters_3 22 rfl rfl)
theorem dX4_shutters_90 : decode cX4_shutters 90 = .ok (.iload 5, 2) := dk_21 5 (dk_at dksX4_shutters_4 0 rfl rfl)
theorem dX4_shutters_92 : decode cX4_shutters 92 = .ok (.ishr, 1) := dk_122 (dk_at dksX4_shutters_4 2 rfl rfl)
theorem dX4_shutters_93 : decode cX4_shutters 93 = .ok (.iconst 1, 1) := dk_4 (dk_at dksX4_shutters_4 3 rfl rfl)
theorem dX4_shutters_94 : decode cX4_shutters 94 = .ok (.iand, 1) := dk_126 (dk_at dksX4_shutters_4 4 rfl rfl)
theorem dX4_shutters_95 : decode cX4_shutters 95 = .ok (.ifCond .eq 56, 3) := dk_153 0 56 (dk_at dksX4_shutters_4 5 rfl rfl)
theorem dX4_shutters_98 : decode cX4_shutters 98 = .ok (.iload 5, 2) := dk_21 5 (dk_at dksX4_shutters_4 8 rfl rfl)
theorem dX4_shutters_100 : decode cX4_shutters 100 = .ok (.iload 4, 2) := dk_21 4 (dk_at dksX4_shutters_4 10 rfl rfl)
theorem dX4_shutters_102 : decode cX4_shutters 102 = .ok (.if_icmp .ne 6, 3) := dk_160 0 6 (dk_at dksX4_shutters_4 12 rfl rfl)
theorem dX4_shutters_105 : decode cX4_shutters 105 = .ok (.goto 46, 3) := dk_167 0 46 (dk_at dksX4_shutters_4 15 rfl rfl)
theorem dX4_shutters_108 : decode cX4_shutters 108 = .ok (.aload_n 0, 1) := dk_42 (dk_at dksX4_shutters_4 18 rfl rfl)
theorem dX4_shutters_109 : decode cX4_shutters 109 = .ok (.dup, 1) := dk_89 (dk_at dksX4_shutters_4 19 rfl rfl)
theorem dX4_shutters_110 : decode cX4_shutters 110 = .ok (.getfield 219, 3) := dk_180 0 219 (dk_at dksX4_shutters_4 20 rfl rfl)
theorem dX4_shutters_113 : decode cX4_shutters 113 = .ok (.aload_n 0, 1) := dk_42 (dk_at dksX4_shutters_4 23 rfl rfl)
theorem dX4_shutters_114 : decode cX4_shutters 114 = .ok (.iload 5, 2) := dk_21 5 (dk_at dksX4_shutters_5 0 rfl rfl)
theorem dX4_shutters_116 : decode cX4_shutters 116 = .ok (.iload_n 2, 1) := dk_28 (dk_at dksX4_shutters_5 2 rfl rfl)
theorem dX4_shutters_117 : decode cX4_shutters 117 = .ok (.invokevirtual 213, 3) := dk_182 0 213 (dk_at dksX4_shutters_5 3 rfl rfl)
theorem dX4_shutters_120 : decode cX4_shutters 120 = .ok (.iadd, 1) := dk_96 (dk_at dksX4_shutters_5 6 rfl rfl)
theorem dX4_shutters_121 : decode cX4_shutters 121 = .ok (.putfield 219, 3) := dk_181 0 219 (dk_at dksX4_shutters_5 7 rfl rfl)
theorem dX4_shutters_124 : decode cX4_shutters 124 = .ok (.aload_n 0, 1) := dk_42 (dk_at dksX4_shutters_5 10 rfl rfl)
theorem dX4_shutters_125 : decode cX4_shutters 125 = .ok (.dup, 1) := dk_89 (dk_at dksX4_shutters_5 11 rfl rfl)
theorem dX4_shutters_126 : decode cX4_shutters 126 = .ok (.getfield 225, 3) := dk_180 0 225 (dk_at dksX4_shutters_5 12 rfl rfl)
theorem dX4_shutters_129 : decode cX4_shutters 129 = .ok (.iconst 1, 1) := dk_4 (dk_at dksX4_shutters_5 15 rfl rfl)
theorem dX4_shutters_130 : decode cX4_shutters 130 = .ok (.iadd, 1) := dk_96 (dk_at dksX4_shutters_5 16 rfl rfl)
theorem dX4_shutters_131 : decode cX4_shutters 131 = .ok (.putfield 225, 3) := dk_181 0 225 (dk_at dksX4_shutters_5 17 rfl rfl)
theorem dX4_shutters_134 : decode cX4_shutters 134 = .ok (.iload_n 1, 1) := dk_27 (dk_at dksX4_shutters_5 20 rfl rfl)
theorem dX4_shutters_135 : decode cX4_shutters 135 = .ok (.ifCond .eq 16, 3) := dk_153 0 16 (dk_at dksX4_shutters_5 21 rfl rfl)
theorem dX4_shutters_138 : decode cX4_shutters 138 = .ok (.aload_n 0, 1) := dk_42 (dk_at dksX4_shutters_6 0 rfl rfl)
theorem dX4_shutters_139 : decode cX4_shutters 139 = .ok (.getfield 44, 3) := dk_180 0 44 (dk_at dksX4_shutters_6 1 rfl rfl)
theorem dX4_shutters_142 : decode cX4_shutters 142 = .ok (.iload 5, 2) := dk_21 5 (dk_at dksX4_shutters_6 4 rfl rfl)
theorem dX4_shutters_144 : decode cX4_shutters 144 = .ok (.dup2, 1) := dk_92 (dk_at dksX4_shutters_6 6 rfl rfl)
theorem dX4_shutters_145 : decode cX4_shutters 145 = .ok (.iaload, 1) := dk_46 (dk_at dksX4_shutters_6 7 rfl rfl)
theorem dX4_shutters_146 : decode cX4_shutters 146 = .ok (.iconst 1, 1) := dk_4 (dk_at dksX4_shutters_6 8 rfl rfl)
theorem dX4_shutters_147 : decode cX4_shutters 147 = .ok (.iload_n 2, 1) := dk_28 (dk_at dksX4_shutters_6 9 rfl rfl)
theorem dX4_shutters_148 : decode cX4_shutters 148 = .ok (.ishl, 1) := dk_120 (dk_at dksX4_shutters_6 10 rfl rfl)
theorem dX4_shutters_149 : decode cX4_shutters 149 = .ok (.ior, 1) := dk_128 (dk_at dksX4_shutters_6 11 rfl rfl)
theorem dX4_shutters_150 : decode cX4_shutters 150 = .ok (.iastore, 1) := dk_79 (dk_at dksX4_shutters_6 12 rfl rfl)
theorem dX4_shutters_151 : decode cX4_shutters 151 = .ok (.iinc 5 1, 3) := dk_132 5 1 (dk_at dksX4_shutters_6 13 rfl rfl)
theorem dX4_shutters_154 : decode cX4_shutters 154 = .ok (.goto (-74), 3) := dk_167 255 182 (dk_at dksX4_shutters_6 16 rfl rfl)
theorem dX4_shutters_157 : decode cX4_shutters 157 = .ok (.iinc 2 1, 3) := dk_132 2 1 (dk_at dksX4_shutters_6 19 rfl rfl)
theorem dX4_shutters_160 : decode cX4_shutters 160 = .ok (.goto (-143), 3) := dk_167 255 113 (dk_at dksX4_shutters_7 0 rfl rfl)
theorem dX4_shutters_163 : decode cX4_shutters 163 = .ok (.return_, 1) := dk_177 (dk_at dksX4_shutters_7 3 rfl rfl)
abbrev cX4_curtains : ByteArray := prog_21_method_67_code
def yX4_curtains : MethodName := ⟨RX4, "curtains", "(I)I"⟩
def dkwX4_curtains_6 : List UInt8 := [182, 0, 238, 27, 5, 112, 154, 0, 8, 21, 4, 167, 0, 5, 21, 5, 172]
abbrev dktX4_curtains_6 : List UInt8 := dkwX4_curtains_6 ++ []
def dkwX4_curtains_5 : List UInt8 := [161, 0, 6, 167, 0, 11, 21, 6, 54, 4, 21, 7, 54, 5, 132, 6, 1, 167, 255, 159, 42, 28]
abbrev dktX4_curtains_5 : List UInt8 := dkwX4_curtains_5 ++ dktX4_curtains_6
def dkwX4_curtains_4 : List UInt8 := [21, 5, 161, 0, 36, 21, 7, 21, 5, 160, 0, 21, 42, 21, 6, 182, 0, 107, 42, 21, 4, 182, 0, 107]
abbrev dktX4_curtains_4 : List UInt8 := dkwX4_curtains_4 ++ dktX4_curtains_5
def dkwX4_curtains_3 : List UInt8 := [182, 0, 210, 182, 0, 107, 167, 0, 7, 42, 182, 0, 242, 54, 7, 21, 4, 2, 159, 0, 35, 21, 7]
abbrev dktX4_curtains_3 : List UInt8 := dkwX4_curtains_3 ++ dktX4_curtains_4
def dkwX4_curtains_2 : List UInt8 := [2, 130, 126, 153, 0, 6, 167, 0, 77, 42, 21, 6, 182, 0, 238, 27, 5, 162, 0, 14, 42, 42]
abbrev dktX4_curtains_2 : List UInt8 := dkwX4_curtains_2 ++ dktX4_curtains_3
def dkwX4_curtains_1 : List UInt8 := [182, 0, 235, 62, 2, 54, 4, 3, 54, 5, 3, 54, 6, 21, 6, 17, 1, 0, 162, 0, 95, 21, 6, 29]
abbrev dktX4_curtains_1 : List UInt8 := dkwX4_curtains_1 ++ dktX4_curtains_2
def dkwX4_curtains_0 : List UInt8 := [27, 155, 0, 8, 27, 6, 164, 0, 10, 42, 16, 251, 182, 0, 97, 172, 42, 182, 0, 232, 61, 42]
abbrev dktX4_curtains_0 : List UInt8 := dkwX4_curtains_0 ++ dktX4_curtains_1
theorem dksX4_curtains_0 : cX4_curtains.data.toList.drop 0 = dktX4_curtains_0 := by decide +kernel
theorem dksX4_curtains_1 : cX4_curtains.data.toList.drop 22 = dktX4_curtains_1 := dk_seg dksX4_curtains_0 22 rfl rfl
theorem dksX4_curtains_2 : cX4_curtains.data.toList.drop 46 = dktX4_curtains_2 := dk_seg dksX4_curtains_1 24 rfl rfl
theorem dksX4_curtains_3 : cX4_curtains.data.toList.drop 68 = dktX4_curtains_3 := dk_seg dksX4_curtains_2 22 rfl rfl
theorem dksX4_curtains_4 : cX4_curtains.data.toList.drop 91 = dktX4_curtains_4 := dk_seg dksX4_curtains_3 23 rfl rfl
theorem dksX4_curtains_5 : cX4_curtains.data.toList.drop 115 = dktX4_curtains_5 := dk_seg dksX4_curtains_4 24 rfl rfl
theorem dksX4_curtains_6 : cX4_curtains.data.toList.drop 137 = dktX4_curtains_6 := dk_seg dksX4_curtains_5 22 rfl rfl
theorem dX4_curtains_0 : decode cX4_curtains 0 = .ok (.iload_n 1, 1) := dk_27 (dk_at dksX4_curtains_0 0 rfl rfl)
theorem dX4_curtains_1 : decode cX4_curtains 1 = .ok (.ifCond .lt 8, 3) := dk_155 0 8 (dk_at dksX4_curtains_0 1 rfl rfl)
theorem dX4_curtains_4 : decode cX4_curtains 4 = .ok (.iload_n 1, 1) := dk_27 (dk_at dksX4_curtains_0 4 rfl rfl)
theorem dX4_curtains_5 : decode cX4_curtains 5 = .ok (.iconst 3, 1) := dk_6 (dk_at dksX4_curtains_0 5 rfl rfl)
theorem dX4_curtains_6 : decode cX4_curtains 6 = .ok (.if_icmp .le 10, 3) := dk_164 0 10 (dk_at dksX4_curtains_0 6 rfl rfl)
theorem dX4_curtains_9 : decode cX4_curtains 9 = .ok (.aload_n 0, 1) := dk_42 (dk_at dksX4_curtains_0 9 rfl rfl)
theorem dX4_curtains_10 : decode cX4_curtains 10 = .ok (.bipush (-5), 2) := dk_16 251 (dk_at dksX4_curtains_0 10 rfl rfl)
theorem dX4_curtains_12 : decode cX4_curtains 12 = .ok (.invokevirtual 97, 3) := dk_182 0 97 (dk_at dksX4_curtains_0 12 rfl rfl)
theorem dX4_curtains_15 : decode cX4_curtains 15 = .ok (.ireturn, 1) := dk_172 (dk_at dksX4_curtains_0 15 rfl rfl)
theorem dX4_curtains_16 : decode cX4_curtains 16 = .ok (.aload_n 0, 1) := dk_42 (dk_at dksX4_curtains_0 16 rfl rfl)
theorem dX4_curtains_17 : decode cX4_curtains 17 = .ok (.invokevirtual 232, 3) := dk_182 0 232 (dk_at dksX4_curtains_0 17 rfl rfl)
theorem dX4_curtains_20 : decode cX4_curtains 20 = .ok (.istore_n 2, 1) := dk_61 (dk_at dksX4_curtains_0 20 rfl rfl)
theorem dX4_curtains_21 : decode cX4_curtains 21 = .ok (.aload_n 0, 1) := dk_42 (dk_at dksX4_curtains_0 21 rfl rfl)
theorem dX4_curtains_22 : decode cX4_curtains 22 = .ok (.invokevirtual 235, 3) := dk_182 0 235 (dk_at dksX4_curtains_1 0 rfl rfl)
theorem dX4_curtains_25 : decode cX4_curtains 25 = .ok (.istore_n 3, 1) := dk_62 (dk_at dksX4_curtains_1 3 rfl rfl)
theorem dX4_curtains_26 : decode cX4_curtains 26 = .ok (.iconst (-1), 1) := dk_2 (dk_at dksX4_curtains_1 4 rfl rfl)
theorem dX4_curtains_27 : decode cX4_curtains 27 = .ok (.istore 4, 2) := dk_54 4 (dk_at dksX4_curtains_1 5 rfl rfl)
theorem dX4_curtains_29 : decode cX4_curtains 29 = .ok (.iconst 0, 1) := dk_3 (dk_at dksX4_curtains_1 7 rfl rfl)
theorem dX4_curtains_30 : decode cX4_curtains 30 = .ok (.istore 5, 2) := dk_54 5 (dk_at dksX4_curtains_1 8 rfl rfl)
theorem dX4_curtains_32 : decode cX4_curtains 32 = .ok (.iconst 0, 1) := dk_3 (dk_at dksX4_curtains_1 10 rfl rfl)
theorem dX4_curtains_33 : decode cX4_curtains 33 = .ok (.istore 6, 2) := dk_54 6 (dk_at dksX4_curtains_1 11 rfl rfl)
theorem dX4_curtains_35 : decode cX4_curtains 35 = .ok (.iload 6, 2) := dk_21 6 (dk_at dksX4_curtains_1 13 rfl rfl)
theorem dX4_curtains_37 : decode cX4_curtains 37 = .ok (.sipush 256, 3) := dk_17 1 0 (dk_at dksX4_curtains_1 15 rfl rfl)
theorem dX4_curtains_40 : decode cX4_curtains 40 = .ok (.if_icmp .ge 95, 3) := dk_162 0 95 (dk_at dksX4_curtains_1 18 rfl rfl)
theorem dX4_curtains_43 : decode cX4_curtains 43 = .ok (.iload 6, 2) := dk_21 6 (dk_at dksX4_curtains_1 21 rfl rfl)
theorem dX4_curtains_45 : decode cX4_curtains 45 = .ok (.iload_n 3, 1) := dk_29 (dk_at dksX4_curtains_1 23 rfl rfl)
theorem dX4_curtains_46 : decode cX4_curtains 46 = .ok (.iconst (-1), 1) := dk_2 (dk_at dksX4_curtains_2 0 rfl rfl)
theorem dX4_curtains_47 : decode cX4_curtains 47 = .ok (.ixor, 1) := dk_130 (dk_at dksX4_curtains_2 1 rfl rfl)
theorem dX4_curtains_48 : decode cX4_curtains 48 = .ok (.iand, 1) := dk_126 (dk_at dksX4_curtains_2 2 rfl rfl)
theorem dX4_curtains_49 : decode cX4_curtains 49 = .ok (.ifCond .eq 6, 3) := dk_153 0 6 (dk_at dksX4_curtains_2 3 rfl rfl)
theorem dX4_curtains_52 : decode cX4_curtains 52 = .ok (.goto 77, 3) := dk_167 0 77 (dk_at dksX4_curtains_2 6 rfl rfl)
theorem dX4_curtains_55 : decode cX4_curtains 55 = .ok (.aload_n 0, 1) := dk_42 (dk_at dksX4_curtains_2 9 rfl rfl)
theorem dX4_curtains_56 : decode cX4_curtains 56 = .ok (.iload 6, 2) := dk_21 6 (dk_at dksX4_curtains_2 10 rfl rfl)
theorem dX4_curtains_58 : decode cX4_curtains 58 = .ok (.invokevirtual 238, 3) := dk_182 0 238 (dk_at dksX4_curtains_2 12 rfl rfl)
theorem dX4_curtains_61 : decode cX4_curtains 61 = .ok (.iload_n 1, 1) := dk_27 (dk_at dksX4_curtains_2 15 rfl rfl)
theorem dX4_curtains_62 : decode cX4_curtains 62 = .ok (.iconst 2, 1) := dk_5 (dk_at dksX4_curtains_2 16 rfl rfl)
theorem dX4_curtains_63 : decode cX4_curtains 63 = .ok (.if_icmp .ge 14, 3) := dk_162 0 14 (dk_at dksX4_curtains_2 17 rfl rfl)
theorem dX4_curtains_66 : decode cX4_curtains 66 = .ok (.aload_n 0, 1) := dk_42 (dk_at dksX4_curtains_2 20 rfl rfl)
theorem dX4_curtains_67 : decode cX4_curtains 67 = .ok (.aload_n 0, 1) := dk_42 (dk_at dksX4_curtains_2 21 rfl rfl)
theorem dX4_curtains_68 : decode cX4_curtains 68 = .ok (.invokevirtual 210, 3) := dk_182 0 210 (dk_at dksX4_curtains_3 0 rfl rfl)
theorem dX4_curtains_71 : decode cX4_curtains 71 = .ok (.invokevirtual 107, 3) := dk_182 0 107 (dk_at dksX4_curtains_3 3 rfl rfl)
theorem dX4_curtains_74 : decode cX4_curtains 74 = .ok (.goto 7, 3) := dk_167 0 7 (dk_at dksX4_curtains_3 6 rfl rfl)
theorem dX4_curtains_77 : decode cX4_curtains 77 = .ok (.aload_n 0, 1) := dk_42 (dk_at dksX4_curtains_3 9 rfl rfl)
theorem dX4_curtains_78 : decode cX4_curtains 78 = .ok (.invokevirtual 242, 3) := dk_182 0 242 (dk_at dksX4_curtains_3 10 rfl rfl)
theorem dX4_curtains_81 : decode cX4_curtains 81 = .ok (.istore 7, 2) := dk_54 7 (dk_at dksX4_curtains_3 13 rfl rfl)
theorem dX4_curtains_83 : decode cX4_curtains 83 = .ok (.iload 4, 2) := dk_21 4 (dk_at dksX4_curtains_3 15 rfl rfl)
theorem dX4_curtains_85 : decode cX4_curtains 85 = .ok (.iconst (-1), 1) := dk_2 (dk_at dksX4_curtains_3 17 rfl rfl)
theorem dX4_curtains_86 : decode cX4_curtains 86 = .ok (.if_icmp .eq 35, 3) := dk_159 0 35 (dk_at dksX4_curtains_3 18 rfl rfl)
theorem dX4_curtains_89 : decode cX4_curtains 89 = .ok (.iload 7, 2) := dk_21 7 (dk_at dksX4_curtains_3 21 rfl rfl)
theorem dX4_curtains_91 : decode cX4_curtains 91 = .ok (.iload 5, 2) := dk_21 5 (dk_at dksX4_curtains_4 0 rfl rfl)
theorem dX4_curtains_93 : decode cX4_curtains 93 = .ok (.if_icmp .lt 36, 3) := dk_161 0 36 (dk_at dksX4_curtains_4 2 rfl rfl)
theorem dX4_curtains_96 : decode cX4_curtains 96 = .ok (.iload 7, 2) := dk_21 7 (dk_at dksX4_curtains_4 5 rfl rfl)
theorem dX4_curtains_98 : decode cX4_curtains 98 = .ok (.iload 5, 2) := dk_21 5 (dk_at dksX4_curtains_4 7 rfl rfl)
theorem dX4_curtains_100 : decode cX4_curtains 100 = .ok (.if_icmp .ne 21, 3) := dk_160 0 21 (dk_at dksX4_curtains_4 9 rfl rfl)
theorem dX4_curtains_103 : decode cX4_curtains 103 = .ok (.aload_n 0, 1) := dk_42 (dk_at dksX4_curtains_4 12 rfl rfl)
theorem dX4_curtains_104 : decode cX4_curtains 104 = .ok (.iload 6, 2) := dk_21 6 (dk_at dksX4_curtains_4 13 rfl rfl)
theorem dX4_curtains_106 : decode cX4_curtains 106 = .ok (.invokevirtual 107, 3) := dk_182 0 107 (dk_at dksX4_curtains_4 15 rfl rfl)
theorem dX4_curtains_109 : decode cX4_curtains 109 = .ok (.aload_n 0, 1) := dk_42 (dk_at dksX4_curtains_4 18 rfl rfl)
theorem dX4_curtains_110 : decode cX4_curtains 110 = .ok (.iload 4, 2) := dk_21 4 (dk_at dksX4_curtains_4 19 rfl rfl)
theorem dX4_curtains_112 : decode cX4_curtains 112 = .ok (.invokevirtual 107, 3) := dk_182 0 107 (dk_at dksX4_curtains_4 21 rfl rfl)
theorem dX4_curtains_115 : decode cX4_curtains 115 = .ok (.if_icmp .lt 6, 3) := dk_161 0 6 (dk_at dksX4_curtains_5 0 rfl rfl)
theorem dX4_curtains_118 : decode cX4_curtains 118 = .ok (.goto 11, 3) := dk_167 0 11 (dk_at dksX4_curtains_5 3 rfl rfl)
theorem dX4_curtains_121 : decode cX4_curtains 121 = .ok (.iload 6, 2) := dk_21 6 (dk_at dksX4_curtains_5 6 rfl rfl)
theorem dX4_curtains_123 : decode cX4_curtains 123 = .ok (.istore 4, 2) := dk_54 4 (dk_at dksX4_curtains_5 8 rfl rfl)
theorem dX4_curtains_125 : decode cX4_curtains 125 = .ok (.iload 7, 2) := dk_21 7 (dk_at dksX4_curtains_5 10 rfl rfl)
theorem dX4_curtains_127 : decode cX4_curtains 127 = .ok (.istore 5, 2) := dk_54 5 (dk_at dksX4_curtains_5 12 rfl rfl)
theorem dX4_curtains_129 : decode cX4_curtains 129 = .ok (.iinc 6 1, 3) := dk_132 6 1 (dk_at dksX4_curtains_5 14 rfl rfl)
theorem dX4_curtains_132 : decode cX4_curtains 132 = .ok (.goto (-97), 3) := dk_167 255 159 (dk_at dksX4_curtains_5 17 rfl rfl)
theorem dX4_curtains_135 : decode cX4_curtains 135 = .ok (.aload_n 0, 1) := dk_42 (dk_at dksX4_curtains_5 20 rfl rfl)
theorem dX4_curtains_136 : decode cX4_curtains 136 = .ok (.iload_n 2, 1) := dk_28 (dk_at dksX4_curtains_5 21 rfl rfl)
theorem dX4_curtains_137 : decode cX4_curtains 137 = .ok (.invokevirtual 238, 3) := dk_182 0 238 (dk_at dksX4_curtains_6 0 rfl rfl)
theorem dX4_curtains_140 : decode cX4_curtains 140 = .ok (.iload_n 1, 1) := dk_27 (dk_at dksX4_curtains_6 3 rfl rfl)
theorem dX4_curtains_141 : decode cX4_curtains 141 = .ok (.iconst 2, 1) := dk_5 (dk_at dksX4_curtains_6 4 rfl rfl)
theorem dX4_curtains_142 : decode cX4_curtains 142 = .ok (.irem, 1) := dk_112 (dk_at dksX4_curtains_6 5 rfl rfl)
theorem dX4_curtains_143 : decode cX4_curtains 143 = .ok (.ifCond .ne 8, 3) := dk_154 0 8 (dk_at dksX4_curtains_6 6 rfl rfl)
theorem dX4_curtains_146 : decode cX4_curtains 146 = .ok (.iload 4, 2) := dk_21 4 (dk_at dksX4_curtains_6 9 rfl rfl)
theorem dX4_curtains_148 : decode cX4_curtains 148 = .ok (.goto 5, 3) := dk_167 0 5 (dk_at dksX4_curtains_6 11 rfl rfl)
theorem dX4_curtains_151 : decode cX4_curtains 151 = .ok (.iload 5, 2) := dk_21 5 (dk_at dksX4_curtains_6 14 rfl rfl)
theorem dX4_curtains_153 : decode cX4_curtains 153 = .ok (.ireturn, 1) := dk_172 (dk_at dksX4_curtains_6 16 rfl rfl)
abbrev cX4_drawnOnes : ByteArray := prog_21_method_65_code
def yX4_drawnOnes : MethodName := ⟨RX4, "drawnOnes", "()I"⟩
def dkwX4_drawnOnes_1 : List UInt8 := [132, 2, 1, 167, 255, 234, 27, 172]
abbrev dktX4_drawnOnes_1 : List UInt8 := dkwX4_drawnOnes_1 ++ []
def dkwX4_drawnOnes_0 : List UInt8 := [3, 60, 3, 61, 28, 42, 180, 0, 84, 162, 0, 20, 27, 42, 180, 0, 41, 28, 46, 28, 120, 128, 60]
abbrev dktX4_drawnOnes_0 : List UInt8 := dkwX4_drawnOnes_0 ++ dktX4_drawnOnes_1
theorem dksX4_drawnOnes_0 : cX4_drawnOnes.data.toList.drop 0 = dktX4_drawnOnes_0 := by decide +kernel
theorem dksX4_drawnOnes_1 : cX4_drawnOnes.data.toList.drop 23 = dktX4_drawnOnes_1 := dk_seg dksX4_drawnOnes_0 23 rfl rfl
theorem dX4_drawnOnes_0 : decode cX4_drawnOnes 0 = .ok (.iconst 0, 1) := dk_3 (dk_at dksX4_drawnOnes_0 0 rfl rfl)
theorem dX4_drawnOnes_1 : decode cX4_drawnOnes 1 = .ok (.istore_n 1, 1) := dk_60 (dk_at dksX4_drawnOnes_0 1 rfl rfl)
theorem dX4_drawnOnes_2 : decode cX4_drawnOnes 2 = .ok (.iconst 0, 1) := dk_3 (dk_at dksX4_drawnOnes_0 2 rfl rfl)
theorem dX4_drawnOnes_3 : decode cX4_drawnOnes 3 = .ok (.istore_n 2, 1) := dk_61 (dk_at dksX4_drawnOnes_0 3 rfl rfl)
theorem dX4_drawnOnes_4 : decode cX4_drawnOnes 4 = .ok (.iload_n 2, 1) := dk_28 (dk_at dksX4_drawnOnes_0 4 rfl rfl)
theorem dX4_drawnOnes_5 : decode cX4_drawnOnes 5 = .ok (.aload_n 0, 1) := dk_42 (dk_at dksX4_drawnOnes_0 5 rfl rfl)
theorem dX4_drawnOnes_6 : decode cX4_drawnOnes 6 = .ok (.getfield 84, 3) := dk_180 0 84 (dk_at dksX4_drawnOnes_0 6 rfl rfl)
theorem dX4_drawnOnes_9 : decode cX4_drawnOnes 9 = .ok (.if_icmp .ge 20, 3) := dk_162 0 20 (dk_at dksX4_drawnOnes_0 9 rfl rfl)
theorem dX4_drawnOnes_12 : decode cX4_drawnOnes 12 = .ok (.iload_n 1, 1) := dk_27 (dk_at dksX4_drawnOnes_0 12 rfl rfl)
theorem dX4_drawnOnes_13 : decode cX4_drawnOnes 13 = .ok (.aload_n 0, 1) := dk_42 (dk_at dksX4_drawnOnes_0 13 rfl rfl)
theorem dX4_drawnOnes_14 : decode cX4_drawnOnes 14 = .ok (.getfield 41, 3) := dk_180 0 41 (dk_at dksX4_drawnOnes_0 14 rfl rfl)
theorem dX4_drawnOnes_17 : decode cX4_drawnOnes 17 = .ok (.iload_n 2, 1) := dk_28 (dk_at dksX4_drawnOnes_0 17 rfl rfl)
theorem dX4_drawnOnes_18 : decode cX4_drawnOnes 18 = .ok (.iaload, 1) := dk_46 (dk_at dksX4_drawnOnes_0 18 rfl rfl)
theorem dX4_drawnOnes_19 : decode cX4_drawnOnes 19 = .ok (.iload_n 2, 1) := dk_28 (dk_at dksX4_drawnOnes_0 19 rfl rfl)
theorem dX4_drawnOnes_20 : decode cX4_drawnOnes 20 = .ok (.ishl, 1) := dk_120 (dk_at dksX4_drawnOnes_0 20 rfl rfl)
theorem dX4_drawnOnes_21 : decode cX4_drawnOnes 21 = .ok (.ior, 1) := dk_128 (dk_at dksX4_drawnOnes_0 21 rfl rfl)
theorem dX4_drawnOnes_22 : decode cX4_drawnOnes 22 = .ok (.istore_n 1, 1) := dk_60 (dk_at dksX4_drawnOnes_0 22 rfl rfl)
theorem dX4_drawnOnes_23 : decode cX4_drawnOnes 23 = .ok (.iinc 2 1, 3) := dk_132 2 1 (dk_at dksX4_drawnOnes_1 0 rfl rfl)
theorem dX4_drawnOnes_26 : decode cX4_drawnOnes 26 = .ok (.goto (-22), 3) := dk_167 255 234 (dk_at dksX4_drawnOnes_1 3 rfl rfl)
theorem dX4_drawnOnes_29 : decode cX4_drawnOnes 29 = .ok (.iload_n 1, 1) := dk_27 (dk_at dksX4_drawnOnes_1 6 rfl rfl)
theorem dX4_drawnOnes_30 : decode cX4_drawnOnes 30 = .ok (.ireturn, 1) := dk_172 (dk_at dksX4_drawnOnes_1 7 rfl rfl)
abbrev cX4_houses : ByteArray := prog_21_method_63_code
def yX4_houses : MethodName := ⟨RX4, "houses", "()I"⟩
def dkwX4_houses_1 : List UInt8 := [128, 60, 132, 2, 1, 167, 255, 231, 27, 172]
abbrev dktX4_houses_1 : List UInt8 := dkwX4_houses_1 ++ []
def dkwX4_houses_0 : List UInt8 := [3, 60, 3, 61, 28, 42, 180, 0, 84, 162, 0, 23, 42, 28, 182, 0, 91, 153, 0, 9, 27, 4, 28, 120]
abbrev dktX4_houses_0 : List UInt8 := dkwX4_houses_0 ++ dktX4_houses_1
theorem dksX4_houses_0 : cX4_houses.data.toList.drop 0 = dktX4_houses_0 := by decide +kernel
theorem dksX4_houses_1 : cX4_houses.data.toList.drop 24 = dktX4_houses_1 := dk_seg dksX4_houses_0 24 rfl rfl
theorem dX4_houses_0 : decode cX4_houses 0 = .ok (.iconst 0, 1) := dk_3 (dk_at dksX4_houses_0 0 rfl rfl)
theorem dX4_houses_1 : decode cX4_houses 1 = .ok (.istore_n 1, 1) := dk_60 (dk_at dksX4_houses_0 1 rfl rfl)
theorem dX4_houses_2 : decode cX4_houses 2 = .ok (.iconst 0, 1) := dk_3 (dk_at dksX4_houses_0 2 rfl rfl)
theorem dX4_houses_3 : decode cX4_houses 3 = .ok (.istore_n 2, 1) := dk_61 (dk_at dksX4_houses_0 3 rfl rfl)
theorem dX4_houses_4 : decode cX4_houses 4 = .ok (.iload_n 2, 1) := dk_28 (dk_at dksX4_houses_0 4 rfl rfl)
theorem dX4_houses_5 : decode cX4_houses 5 = .ok (.aload_n 0, 1) := dk_42 (dk_at dksX4_houses_0 5 rfl rfl)
theorem dX4_houses_6 : decode cX4_houses 6 = .ok (.getfield 84, 3) := dk_180 0 84 (dk_at dksX4_houses_0 6 rfl rfl)
theorem dX4_houses_9 : decode cX4_houses 9 = .ok (.if_icmp .ge 23, 3) := dk_162 0 23 (dk_at dksX4_houses_0 9 rfl rfl)
theorem dX4_houses_12 : decode cX4_houses 12 = .ok (.aload_n 0, 1) := dk_42 (dk_at dksX4_houses_0 12 rfl rfl)
theorem dX4_houses_13 : decode cX4_houses 13 = .ok (.iload_n 2, 1) := dk_28 (dk_at dksX4_houses_0 13 rfl rfl)
theorem dX4_houses_14 : decode cX4_houses 14 = .ok (.invokevirtual 91, 3) := dk_182 0 91 (dk_at dksX4_houses_0 14 rfl rfl)
theorem dX4_houses_17 : decode cX4_houses 17 = .ok (.ifCond .eq 9, 3) := dk_153 0 9 (dk_at dksX4_houses_0 17 rfl rfl)
theorem dX4_houses_20 : decode cX4_houses 20 = .ok (.iload_n 1, 1) := dk_27 (dk_at dksX4_houses_0 20 rfl rfl)
theorem dX4_houses_21 : decode cX4_houses 21 = .ok (.iconst 1, 1) := dk_4 (dk_at dksX4_houses_0 21 rfl rfl)
theorem dX4_houses_22 : decode cX4_houses 22 = .ok (.iload_n 2, 1) := dk_28 (dk_at dksX4_houses_0 22 rfl rfl)
theorem dX4_houses_23 : decode cX4_houses 23 = .ok (.ishl, 1) := dk_120 (dk_at dksX4_houses_0 23 rfl rfl)
theorem dX4_houses_24 : decode cX4_houses 24 = .ok (.ior, 1) := dk_128 (dk_at dksX4_houses_1 0 rfl rfl)
theorem dX4_houses_25 : decode cX4_houses 25 = .ok (.istore_n 1, 1) := dk_60 (dk_at dksX4_houses_1 1 rfl rfl)
theorem dX4_houses_26 : decode cX4_houses 26 = .ok (.iinc 2 1, 3) := dk_132 2 1 (dk_at dksX4_houses_1 2 rfl rfl)
theorem dX4_houses_29 : decode cX4_houses 29 = .ok (.goto (-25), 3) := dk_167 255 231 (dk_at dksX4_houses_1 5 rfl rfl)
theorem dX4_houses_32 : decode cX4_houses 32 = .ok (.iload_n 1, 1) := dk_27 (dk_at dksX4_houses_1 8 rfl rfl)
theorem dX4_houses_33 : decode cX4_houses 33 = .ok (.ireturn, 1) := dk_172 (dk_at dksX4_houses_1 9 rfl rfl)
abbrev cX4_draws : ByteArray := prog_21_method_64_code
def yX4_draws : MethodName := ⟨RX4, "draws", "(I)V"⟩
def dkwX4_draws_1 : List UInt8 := [167, 255, 234, 177]
abbrev dktX4_draws_1 : List UInt8 := dkwX4_draws_1 ++ []
def dkwX4_draws_0 : List UInt8 := [3, 61, 28, 42, 180, 0, 84, 162, 0, 20, 42, 180, 0, 41, 28, 27, 28, 122, 4, 126, 79, 132, 2, 1]
abbrev dktX4_draws_0 : List UInt8 := dkwX4_draws_0 ++ dktX4_draws_1
theorem dksX4_draws_0 : cX4_draws.data.toList.drop 0 = dktX4_draws_0 := by decide +kernel
theorem dksX4_draws_1 : cX4_draws.data.toList.drop 24 = dktX4_draws_1 := dk_seg dksX4_draws_0 24 rfl rfl
theorem dX4_draws_0 : decode cX4_draws 0 = .ok (.iconst 0, 1) := dk_3 (dk_at dksX4_draws_0 0 rfl rfl)
theorem dX4_draws_1 : decode cX4_draws 1 = .ok (.istore_n 2, 1) := dk_61 (dk_at dksX4_draws_0 1 rfl rfl)
theorem dX4_draws_2 : decode cX4_draws 2 = .ok (.iload_n 2, 1) := dk_28 (dk_at dksX4_draws_0 2 rfl rfl)
theorem dX4_draws_3 : decode cX4_draws 3 = .ok (.aload_n 0, 1) := dk_42 (dk_at dksX4_draws_0 3 rfl rfl)
theorem dX4_draws_4 : decode cX4_draws 4 = .ok (.getfield 84, 3) := dk_180 0 84 (dk_at dksX4_draws_0 4 rfl rfl)
theorem dX4_draws_7 : decode cX4_draws 7 = .ok (.if_icmp .ge 20, 3) := dk_162 0 20 (dk_at dksX4_draws_0 7 rfl rfl)
theorem dX4_draws_10 : decode cX4_draws 10 = .ok (.aload_n 0, 1) := dk_42 (dk_at dksX4_draws_0 10 rfl rfl)
theorem dX4_draws_11 : decode cX4_draws 11 = .ok (.getfield 41, 3) := dk_180 0 41 (dk_at dksX4_draws_0 11 rfl rfl)
theorem dX4_draws_14 : decode cX4_draws 14 = .ok (.iload_n 2, 1) := dk_28 (dk_at dksX4_draws_0 14 rfl rfl)
theorem dX4_draws_15 : decode cX4_draws 15 = .ok (.iload_n 1, 1) := dk_27 (dk_at dksX4_draws_0 15 rfl rfl)
theorem dX4_draws_16 : decode cX4_draws 16 = .ok (.iload_n 2, 1) := dk_28 (dk_at dksX4_draws_0 16 rfl rfl)
theorem dX4_draws_17 : decode cX4_draws 17 = .ok (.ishr, 1) := dk_122 (dk_at dksX4_draws_0 17 rfl rfl)
theorem dX4_draws_18 : decode cX4_draws 18 = .ok (.iconst 1, 1) := dk_4 (dk_at dksX4_draws_0 18 rfl rfl)
theorem dX4_draws_19 : decode cX4_draws 19 = .ok (.iand, 1) := dk_126 (dk_at dksX4_draws_0 19 rfl rfl)
theorem dX4_draws_20 : decode cX4_draws 20 = .ok (.iastore, 1) := dk_79 (dk_at dksX4_draws_0 20 rfl rfl)
theorem dX4_draws_21 : decode cX4_draws 21 = .ok (.iinc 2 1, 3) := dk_132 2 1 (dk_at dksX4_draws_0 21 rfl rfl)
theorem dX4_draws_24 : decode cX4_draws 24 = .ok (.goto (-22), 3) := dk_167 255 234 (dk_at dksX4_draws_1 0 rfl rfl)
theorem dX4_draws_27 : decode cX4_draws 27 = .ok (.return_, 1) := dk_177 (dk_at dksX4_draws_1 3 rfl rfl)
abbrev cX4_rightInBoth : ByteArray := prog_21_method_66_code
def yX4_rightInBoth : MethodName := ⟨RX4, "rightInBoth", "()I"⟩
def dkwX4_rightInBoth_2 : List UInt8 := [181, 0, 7, 28, 172]
abbrev dktX4_rightInBoth_2 : List UInt8 := dkwX4_rightInBoth_2 ++ []
def dkwX4_rightInBoth_1 : List UInt8 := [182, 0, 210, 182, 0, 107, 96, 61, 42, 89, 180, 0, 7, 4, 96, 181, 0, 7, 167, 255, 227, 42, 27]
abbrev dktX4_rightInBoth_1 : List UInt8 := dkwX4_rightInBoth_1 ++ dktX4_rightInBoth_2
def dkwX4_rightInBoth_0 : List UInt8 := [42, 180, 0, 7, 60, 3, 61, 42, 3, 181, 0, 7, 42, 180, 0, 7, 5, 162, 0, 27, 28, 42, 42]
abbrev dktX4_rightInBoth_0 : List UInt8 := dkwX4_rightInBoth_0 ++ dktX4_rightInBoth_1
theorem dksX4_rightInBoth_0 : cX4_rightInBoth.data.toList.drop 0 = dktX4_rightInBoth_0 := by decide +kernel
theorem dksX4_rightInBoth_1 : cX4_rightInBoth.data.toList.drop 23 = dktX4_rightInBoth_1 := dk_seg dksX4_rightInBoth_0 23 rfl rfl
theorem dksX4_rightInBoth_2 : cX4_rightInBoth.data.toList.drop 46 = dktX4_rightInBoth_2 := dk_seg dksX4_rightInBoth_1 23 rfl rfl
theorem dX4_rightInBoth_0 : decode cX4_rightInBoth 0 = .ok (.aload_n 0, 1) := dk_42 (dk_at dksX4_rightInBoth_0 0 rfl rfl)
theorem dX4_rightInBoth_1 : decode cX4_rightInBoth 1 = .ok (.getfield 7, 3) := dk_180 0 7 (dk_at dksX4_rightInBoth_0 1 rfl rfl)
theorem dX4_rightInBoth_4 : decode cX4_rightInBoth 4 = .ok (.istore_n 1, 1) := dk_60 (dk_at dksX4_rightInBoth_0 4 rfl rfl)
theorem dX4_rightInBoth_5 : decode cX4_rightInBoth 5 = .ok (.iconst 0, 1) := dk_3 (dk_at dksX4_rightInBoth_0 5 rfl rfl)
theorem dX4_rightInBoth_6 : decode cX4_rightInBoth 6 = .ok (.istore_n 2, 1) := dk_61 (dk_at dksX4_rightInBoth_0 6 rfl rfl)
theorem dX4_rightInBoth_7 : decode cX4_rightInBoth 7 = .ok (.aload_n 0, 1) := dk_42 (dk_at dksX4_rightInBoth_0 7 rfl rfl)
theorem dX4_rightInBoth_8 : decode cX4_rightInBoth 8 = .ok (.iconst 0, 1) := dk_3 (dk_at dksX4_rightInBoth_0 8 rfl rfl)
theorem dX4_rightInBoth_9 : decode cX4_rightInBoth 9 = .ok (.putfield 7, 3) := dk_181 0 7 (dk_at dksX4_rightInBoth_0 9 rfl rfl)
theorem dX4_rightInBoth_12 : decode cX4_rightInBoth 12 = .ok (.aload_n 0, 1) := dk_42 (dk_at dksX4_rightInBoth_0 12 rfl rfl)
theorem dX4_rightInBoth_13 : decode cX4_rightInBoth 13 = .ok (.getfield 7, 3) := dk_180 0 7 (dk_at dksX4_rightInBoth_0 13 rfl rfl)
theorem dX4_rightInBoth_16 : decode cX4_rightInBoth 16 = .ok (.iconst 2, 1) := dk_5 (dk_at dksX4_rightInBoth_0 16 rfl rfl)
theorem dX4_rightInBoth_17 : decode cX4_rightInBoth 17 = .ok (.if_icmp .ge 27, 3) := dk_162 0 27 (dk_at dksX4_rightInBoth_0 17 rfl rfl)
theorem dX4_rightInBoth_20 : decode cX4_rightInBoth 20 = .ok (.iload_n 2, 1) := dk_28 (dk_at dksX4_rightInBoth_0 20 rfl rfl)
theorem dX4_rightInBoth_21 : decode cX4_rightInBoth 21 = .ok (.aload_n 0, 1) := dk_42 (dk_at dksX4_rightInBoth_0 21 rfl rfl)
theorem dX4_rightInBoth_22 : decode cX4_rightInBoth 22 = .ok (.aload_n 0, 1) := dk_42 (dk_at dksX4_rightInBoth_0 22 rfl rfl)
theorem dX4_rightInBoth_23 : decode cX4_rightInBoth 23 = .ok (.invokevirtual 210, 3) := dk_182 0 210 (dk_at dksX4_rightInBoth_1 0 rfl rfl)
theorem dX4_rightInBoth_26 : decode cX4_rightInBoth 26 = .ok (.invokevirtual 107, 3) := dk_182 0 107 (dk_at dksX4_rightInBoth_1 3 rfl rfl)
theorem dX4_rightInBoth_29 : decode cX4_rightInBoth 29 = .ok (.iadd, 1) := dk_96 (dk_at dksX4_rightInBoth_1 6 rfl rfl)
theorem dX4_rightInBoth_30 : decode cX4_rightInBoth 30 = .ok (.istore_n 2, 1) := dk_61 (dk_at dksX4_rightInBoth_1 7 rfl rfl)
theorem dX4_rightInBoth_31 : decode cX4_rightInBoth 31 = .ok (.aload_n 0, 1) := dk_42 (dk_at dksX4_rightInBoth_1 8 rfl rfl)
theorem dX4_rightInBoth_32 : decode cX4_rightInBoth 32 = .ok (.dup, 1) := dk_89 (dk_at dksX4_rightInBoth_1 9 rfl rfl)
theorem dX4_rightInBoth_33 : decode cX4_rightInBoth 33 = .ok (.getfield 7, 3) := dk_180 0 7 (dk_at dksX4_rightInBoth_1 10 rfl rfl)
theorem dX4_rightInBoth_36 : decode cX4_rightInBoth 36 = .ok (.iconst 1, 1) := dk_4 (dk_at dksX4_rightInBoth_1 13 rfl rfl)
theorem dX4_rightInBoth_37 : decode cX4_rightInBoth 37 = .ok (.iadd, 1) := dk_96 (dk_at dksX4_rightInBoth_1 14 rfl rfl)
theorem dX4_rightInBoth_38 : decode cX4_rightInBoth 38 = .ok (.putfield 7, 3) := dk_181 0 7 (dk_at dksX4_rightInBoth_1 15 rfl rfl)
theorem dX4_rightInBoth_41 : decode cX4_rightInBoth 41 = .ok (.goto (-29), 3) := dk_167 255 227 (dk_at dksX4_rightInBoth_1 18 rfl rfl)
theorem dX4_rightInBoth_44 : decode cX4_rightInBoth 44 = .ok (.aload_n 0, 1) := dk_42 (dk_at dksX4_rightInBoth_1 21 rfl rfl)
theorem dX4_rightInBoth_45 : decode cX4_rightInBoth 45 = .ok (.iload_n 1, 1) := dk_27 (dk_at dksX4_rightInBoth_1 22 rfl rfl)
theorem dX4_rightInBoth_46 : decode cX4_rightInBoth 46 = .ok (.putfield 7, 3) := dk_181 0 7 (dk_at dksX4_rightInBoth_2 0 rfl rfl)
theorem dX4_rightInBoth_49 : decode cX4_rightInBoth 49 = .ok (.iload_n 2, 1) := dk_28 (dk_at dksX4_rightInBoth_2 3 rfl rfl)
theorem dX4_rightInBoth_50 : decode cX4_rightInBoth 50 = .ok (.ireturn, 1) := dk_172 (dk_at dksX4_rightInBoth_2 4 rfl rfl)
abbrev cX4_newly : ByteArray := prog_21_method_68_code
def yX4_newly : MethodName := ⟨RX4, "newly", "(I)I"⟩
def dkwX4_newly_5 : List UInt8 := [167, 0, 9, 21, 4, 61, 21, 5, 62, 132, 4, 1, 167, 255, 167, 28, 172]
abbrev dktX4_newly_5 : List UInt8 := dkwX4_newly_5 ++ []
def dkwX4_newly_4 : List UInt8 := [54, 5, 42, 89, 180, 0, 84, 4, 100, 181, 0, 84, 28, 2, 159, 0, 12, 21, 5, 29, 163, 0, 6]
abbrev dktX4_newly_4 : List UInt8 := dkwX4_newly_4 ++ dktX4_newly_5
def dkwX4_newly_3 : List UInt8 := [21, 4, 16, 10, 112, 21, 4, 16, 10, 108, 27, 3, 182, 0, 120, 87, 42, 42, 182, 0, 210, 182, 0, 107]
abbrev dktX4_newly_3 : List UInt8 := dkwX4_newly_3 ++ dktX4_newly_4
def dkwX4_newly_2 : List UInt8 := [42, 21, 4, 16, 10, 112, 21, 4, 16, 10, 108, 182, 0, 116, 2, 159, 0, 6, 167, 0, 61, 42, 4]
abbrev dktX4_newly_2 : List UInt8 := dkwX4_newly_2 ++ dktX4_newly_3
def dkwX4_newly_1 : List UInt8 := [160, 0, 10, 42, 16, 249, 182, 0, 97, 172, 2, 61, 3, 62, 3, 54, 4, 21, 4, 16, 100, 162, 0, 88]
abbrev dktX4_newly_1 : List UInt8 := dkwX4_newly_1 ++ dktX4_newly_2
def dkwX4_newly_0 : List UInt8 := [27, 155, 0, 9, 27, 16, 20, 164, 0, 10, 42, 16, 250, 182, 0, 97, 172, 42, 180, 0, 84, 16, 8]
abbrev dktX4_newly_0 : List UInt8 := dkwX4_newly_0 ++ dktX4_newly_1
theorem dksX4_newly_0 : cX4_newly.data.toList.drop 0 = dktX4_newly_0 := by decide +kernel
theorem dksX4_newly_1 : cX4_newly.data.toList.drop 23 = dktX4_newly_1 := dk_seg dksX4_newly_0 23 rfl rfl
theorem dksX4_newly_2 : cX4_newly.data.toList.drop 47 = dktX4_newly_2 := dk_seg dksX4_newly_1 24 rfl rfl
theorem dksX4_newly_3 : cX4_newly.data.toList.drop 70 = dktX4_newly_3 := dk_seg dksX4_newly_2 23 rfl rfl
theorem dksX4_newly_4 : cX4_newly.data.toList.drop 94 = dktX4_newly_4 := dk_seg dksX4_newly_3 24 rfl rfl
theorem dksX4_newly_5 : cX4_newly.data.toList.drop 117 = dktX4_newly_5 := dk_seg dksX4_newly_4 23 rfl rfl
theorem dX4_newly_0 : decode cX4_newly 0 = .ok (.iload_n 1, 1) := dk_27 (dk_at dksX4_newly_0 0 rfl rfl)
theorem dX4_newly_1 : decode cX4_newly 1 = .ok (.ifCond .lt 9, 3) := dk_155 0 9 (dk_at dksX4_newly_0 1 rfl rfl)
theorem dX4_newly_4 : decode cX4_newly 4 = .ok (.iload_n 1, 1) := dk_27 (dk_at dksX4_newly_0 4 rfl rfl)
theorem dX4_newly_5 : decode cX4_newly 5 = .ok (.bipush 20, 2) := dk_16 20 (dk_at dksX4_newly_0 5 rfl rfl)
theorem dX4_newly_7 : decode cX4_newly 7 = .ok (.if_icmp .le 10, 3) := dk_164 0 10 (dk_at dksX4_newly_0 7 rfl rfl)
theorem dX4_newly_10 : decode cX4_newly 10 = .ok (.aload_n 0, 1) := dk_42 (dk_at dksX4_newly_0 10 rfl rfl)
theorem dX4_newly_11 : decode cX4_newly 11 = .ok (.bipush (-6), 2) := dk_16 250 (dk_at dksX4_newly_0 11 rfl rfl)
theorem dX4_newly_13 : decode cX4_newly 13 = .ok (.invokevirtual 97, 3) := dk_182 0 97 (dk_at dksX4_newly_0 13 rfl rfl)
theorem dX4_newly_16 : decode cX4_newly 16 = .ok (.ireturn, 1) := dk_172 (dk_at dksX4_newly_0 16 rfl rfl)
theorem dX4_newly_17 : decode cX4_newly 17 = .ok (.aload_n 0, 1) := dk_42 (dk_at dksX4_newly_0 17 rfl rfl)
theorem dX4_newly_18 : decode cX4_newly 18 = .ok (.getfield 84, 3) := dk_180 0 84 (dk_at dksX4_newly_0 18 rfl rfl)
theorem dX4_newly_21 : decode cX4_newly 21 = .ok (.bipush 8, 2) := dk_16 8 (dk_at dksX4_newly_0 21 rfl rfl)
theorem dX4_newly_23 : decode cX4_newly 23 = .ok (.if_icmp .ne 10, 3) := dk_160 0 10 (dk_at dksX4_newly_1 0 rfl rfl)
theorem dX4_newly_26 : decode cX4_newly 26 = .ok (.aload_n 0, 1) := dk_42 (dk_at dksX4_newly_1 3 rfl rfl)
theorem dX4_newly_27 : decode cX4_newly 27 = .ok (.bipush (-7), 2) := dk_16 249 (dk_at dksX4_newly_1 4 rfl rfl)
theorem dX4_newly_29 : decode cX4_newly 29 = .ok (.invokevirtual 97, 3) := dk_182 0 97 (dk_at dksX4_newly_1 6 rfl rfl)
theorem dX4_newly_32 : decode cX4_newly 32 = .ok (.ireturn, 1) := dk_172 (dk_at dksX4_newly_1 9 rfl rfl)
theorem dX4_newly_33 : decode cX4_newly 33 = .ok (.iconst (-1), 1) := dk_2 (dk_at dksX4_newly_1 10 rfl rfl)
theorem dX4_newly_34 : decode cX4_newly 34 = .ok (.istore_n 2, 1) := dk_61 (dk_at dksX4_newly_1 11 rfl rfl)
theorem dX4_newly_35 : decode cX4_newly 35 = .ok (.iconst 0, 1) := dk_3 (dk_at dksX4_newly_1 12 rfl rfl)
theorem dX4_newly_36 : decode cX4_newly 36 = .ok (.istore_n 3, 1) := dk_62 (dk_at dksX4_newly_1 13 rfl rfl)
theorem dX4_newly_37 : decode cX4_newly 37 = .ok (.iconst 0, 1) := dk_3 (dk_at dksX4_newly_1 14 rfl rfl)
theorem dX4_newly_38 : decode cX4_newly 38 = .ok (.istore 4, 2) := dk_54 4 (dk_at dksX4_newly_1 15 rfl rfl)
theorem dX4_newly_40 : decode cX4_newly 40 = .ok (.iload 4, 2) := dk_21 4 (dk_at dksX4_newly_1 17 rfl rfl)
theorem dX4_newly_42 : decode cX4_newly 42 = .ok (.bipush 100, 2) := dk_16 100 (dk_at dksX4_newly_1 19 rfl rfl)
theorem dX4_newly_44 : decode cX4_newly 44 = .ok (.if_icmp .ge 88, 3) := dk_162 0 88 (dk_at dksX4_newly_1 21 rfl rfl)
theorem dX4_newly_47 : decode cX4_newly 47 = .ok (.aload_n 0, 1) := dk_42 (dk_at dksX4_newly_2 0 rfl rfl)
theorem dX4_newly_48 : decode cX4_newly 48 = .ok (.iload 4, 2) := dk_21 4 (dk_at dksX4_newly_2 1 rfl rfl)
theorem dX4_newly_50 : decode cX4_newly 50 = .ok (.bipush 10, 2) := dk_16 10 (dk_at dksX4_newly_2 3 rfl rfl)
theorem dX4_newly_52 : decode cX4_newly 52 = .ok (.irem, 1) := dk_112 (dk_at dksX4_newly_2 5 rfl rfl)
theorem dX4_newly_53 : decode cX4_newly 53 = .ok (.iload 4, 2) := dk_21 4 (dk_at dksX4_newly_2 6 rfl rfl)
theorem dX4_newly_55 : decode cX4_newly 55 = .ok (.bipush 10, 2) := dk_16 10 (dk_at dksX4_newly_2 8 rfl rfl)
theorem dX4_newly_57 : decode cX4_newly 57 = .ok (.idiv, 1) := dk_108 (dk_at dksX4_newly_2 10 rfl rfl)
theorem dX4_newly_58 : decode cX4_newly 58 = .ok (.invokevirtual 116, 3) := dk_182 0 116 (dk_at dksX4_newly_2 11 rfl rfl)
theorem dX4_newly_61 : decode cX4_newly 61 = .ok (.iconst (-1), 1) := dk_2 (dk_at dksX4_newly_2 14 rfl rfl)
theorem dX4_newly_62 : decode cX4_newly 62 = .ok (.if_icmp .eq 6, 3) := dk_159 0 6 (dk_at dksX4_newly_2 15 rfl rfl)
theorem dX4_newly_65 : decode cX4_newly 65 = .ok (.goto 61, 3) := dk_167 0 61 (dk_at dksX4_newly_2 18 rfl rfl)
theorem dX4_newly_68 : decode cX4_newly 68 = .ok (.aload_n 0, 1) := dk_42 (dk_at dksX4_newly_2 21 rfl rfl)
theorem dX4_newly_69 : decode cX4_newly 69 = .ok (.iconst 1, 1) := dk_4 (dk_at dksX4_newly_2 22 rfl rfl)
theorem dX4_newly_70 : decode cX4_newly 70 = .ok (.iload 4, 2) := dk_21 4 (dk_at dksX4_newly_3 0 rfl rfl)
theorem dX4_newly_72 : decode cX4_newly 72 = .ok (.bipush 10, 2) := dk_16 10 (dk_at dksX4_newly_3 2 rfl rfl)
theorem dX4_newly_74 : decode cX4_newly 74 = .ok (.irem, 1) := dk_112 (dk_at dksX4_newly_3 4 rfl rfl)
theorem dX4_newly_75 : decode cX4_newly 75 = .ok (.iload 4, 2) := dk_21 4 (dk_at dksX4_newly_3 5 rfl rfl)
theorem dX4_newly_77 : decode cX4_newly 77 = .ok (.bipush 10, 2) := dk_16 10 (dk_at dksX4_newly_3 7 rfl rfl)
theorem dX4_newly_79 : decode cX4_newly 79 = .ok (.idiv, 1) := dk_108 (dk_at dksX4_newly_3 9 rfl rfl)
theorem dX4_newly_80 : decode cX4_newly 80 = .ok (.iload_n 1, 1) := dk_27 (dk_at dksX4_newly_3 10 rfl rfl)
theorem dX4_newly_81 : decode cX4_newly 81 = .ok (.iconst 0, 1) := dk_3 (dk_at dksX4_newly_3 11 rfl rfl)
theorem dX4_newly_82 : decode cX4_newly 82 = .ok (.invokevirtual 120, 3) := dk_182 0 120 (dk_at dksX4_newly_3 12 rfl rfl)
theorem dX4_newly_85 : decode cX4_newly 85 = .ok (.pop, 1) := dk_87 (dk_at dksX4_newly_3 15 rfl rfl)
theorem dX4_newly_86 : decode cX4_newly 86 = .ok (.aload_n 0, 1) := dk_42 (dk_at dksX4_newly_3 16 rfl rfl)
theorem dX4_newly_87 : decode cX4_newly 87 = .ok (.aload_n 0, 1) := dk_42 (dk_at dksX4_newly_3 17 rfl rfl)
theorem dX4_newly_88 : decode cX4_newly 88 = .ok (.invokevirtual 210, 3) := dk_182 0 210 (dk_at dksX4_newly_3 18 rfl rfl)
theorem dX4_newly_91 : decode cX4_newly 91 = .ok (.invokevirtual 107, 3) := dk_182 0 107 (dk_at dksX4_newly_3 21 rfl rfl)
theorem dX4_newly_94 : decode cX4_newly 94 = .ok (.istore 5, 2) := dk_54 5 (dk_at dksX4_newly_4 0 rfl rfl)
theorem dX4_newly_96 : decode cX4_newly 96 = .ok (.aload_n 0, 1) := dk_42 (dk_at dksX4_newly_4 2 rfl rfl)
theorem dX4_newly_97 : decode cX4_newly 97 = .ok (.dup, 1) := dk_89 (dk_at dksX4_newly_4 3 rfl rfl)
theorem dX4_newly_98 : decode cX4_newly 98 = .ok (.getfield 84, 3) := dk_180 0 84 (dk_at dksX4_newly_4 4 rfl rfl)
theorem dX4_newly_101 : decode cX4_newly 101 = .ok (.iconst 1, 1) := dk_4 (dk_at dksX4_newly_4 7 rfl rfl)
theorem dX4_newly_102 : decode cX4_newly 102 = .ok (.isub, 1) := dk_100 (dk_at dksX4_newly_4 8 rfl rfl)
theorem dX4_newly_103 : decode cX4_newly 103 = .ok (.putfield 84, 3) := dk_181 0 84 (dk_at dksX4_newly_4 9 rfl rfl)
theorem dX4_newly_106 : decode cX4_newly 106 = .ok (.iload_n 2, 1) := dk_28 (dk_at dksX4_newly_4 12 rfl rfl)
theorem dX4_newly_107 : decode cX4_newly 107 = .ok (.iconst (-1), 1) := dk_2 (dk_at dksX4_newly_4 13 rfl rfl)
theorem dX4_newly_108 : decode cX4_newly 108 = .ok (.if_icmp .eq 12, 3) := dk_159 0 12 (dk_at dksX4_newly_4 14 rfl rfl)
theorem dX4_newly_111 : decode cX4_newly 111 = .ok (.iload 5, 2) := dk_21 5 (dk_at dksX4_newly_4 17 rfl rfl)
theorem dX4_newly_113 : decode cX4_newly 113 = .ok (.iload_n 3, 1) := dk_29 (dk_at dksX4_newly_4 19 rfl rfl)
theorem dX4_newly_114 : decode cX4_newly 114 = .ok (.if_icmp .gt 6, 3) := dk_163 0 6 (dk_at dksX4_newly_4 20 rfl rfl)
theorem dX4_newly_117 : decode cX4_newly 117 = .ok (.goto 9, 3) := dk_167 0 9 (dk_at dksX4_newly_5 0 rfl rfl)
theorem dX4_newly_120 : decode cX4_newly 120 = .ok (.iload 4, 2) := dk_21 4 (dk_at dksX4_newly_5 3 rfl rfl)
theorem dX4_newly_122 : decode cX4_newly 122 = .ok (.istore_n 2, 1) := dk_61 (dk_at dksX4_newly_5 5 rfl rfl)
theorem dX4_newly_123 : decode cX4_newly 123 = .ok (.iload 5, 2) := dk_21 5 (dk_at dksX4_newly_5 6 rfl rfl)
theorem dX4_newly_125 : decode cX4_newly 125 = .ok (.istore_n 3, 1) := dk_62 (dk_at dksX4_newly_5 8 rfl rfl)
theorem dX4_newly_126 : decode cX4_newly 126 = .ok (.iinc 4 1, 3) := dk_132 4 1 (dk_at dksX4_newly_5 9 rfl rfl)
theorem dX4_newly_129 : decode cX4_newly 129 = .ok (.goto (-89), 3) := dk_167 255 167 (dk_at dksX4_newly_5 12 rfl rfl)
theorem dX4_newly_132 : decode cX4_newly 132 = .ok (.iload_n 2, 1) := dk_28 (dk_at dksX4_newly_5 15 rfl rfl)
theorem dX4_newly_133 : decode cX4_newly 133 = .ok (.ireturn, 1) := dk_172 (dk_at dksX4_newly_5 16 rfl rfl)
abbrev cX4_storey : ByteArray := prog_21_method_69_code
def yX4_storey : MethodName := ⟨RX4, "storey", "(I)I"⟩
def dkwX4_storey_3 : List UInt8 := [100, 79, 29, 172]
abbrev dktX4_storey_3 : List UInt8 := dkwX4_storey_3 ++ []
def dkwX4_storey_2 : List UInt8 := [92, 46, 4, 96, 79, 42, 42, 182, 0, 210, 182, 0, 107, 29, 100, 62, 42, 180, 0, 35, 27, 92, 46, 4]
abbrev dktX4_storey_2 : List UInt8 := dkwX4_storey_2 ++ dktX4_storey_3
def dkwX4_storey_1 : List UInt8 := [28, 153, 0, 9, 42, 28, 182, 0, 245, 172, 42, 42, 182, 0, 210, 182, 0, 107, 62, 42, 180, 0, 35, 27]
abbrev dktX4_storey_1 : List UInt8 := dkwX4_storey_1 ++ dktX4_storey_2
def dkwX4_storey_0 : List UInt8 := [42, 27, 182, 0, 127, 61, 28, 154, 0, 17, 42, 180, 0, 35, 27, 46, 16, 20, 160, 0, 6, 16, 250, 61]
abbrev dktX4_storey_0 : List UInt8 := dkwX4_storey_0 ++ dktX4_storey_1
theorem dksX4_storey_0 : cX4_storey.data.toList.drop 0 = dktX4_storey_0 := by decide +kernel
theorem dksX4_storey_1 : cX4_storey.data.toList.drop 24 = dktX4_storey_1 := dk_seg dksX4_storey_0 24 rfl rfl
theorem dksX4_storey_2 : cX4_storey.data.toList.drop 48 = dktX4_storey_2 := dk_seg dksX4_storey_1 24 rfl rfl
theorem dksX4_storey_3 : cX4_storey.data.toList.drop 72 = dktX4_storey_3 := dk_seg dksX4_storey_2 24 rfl rfl
theorem dX4_storey_0 : decode cX4_storey 0 = .ok (.aload_n 0, 1) := dk_42 (dk_at dksX4_storey_0 0 rfl rfl)
theorem dX4_storey_1 : decode cX4_storey 1 = .ok (.iload_n 1, 1) := dk_27 (dk_at dksX4_storey_0 1 rfl rfl)
theorem dX4_storey_2 : decode cX4_storey 2 = .ok (.invokevirtual 127, 3) := dk_182 0 127 (dk_at dksX4_storey_0 2 rfl rfl)
theorem dX4_storey_5 : decode cX4_storey 5 = .ok (.istore_n 2, 1) := dk_61 (dk_at dksX4_storey_0 5 rfl rfl)
theorem dX4_storey_6 : decode cX4_storey 6 = .ok (.iload_n 2, 1) := dk_28 (dk_at dksX4_storey_0 6 rfl rfl)
theorem dX4_storey_7 : decode cX4_storey 7 = .ok (.ifCond .ne 17, 3) := dk_154 0 17 (dk_at dksX4_storey_0 7 rfl rfl)
theorem dX4_storey_10 : decode cX4_storey 10 = .ok (.aload_n 0, 1) := dk_42 (dk_at dksX4_storey_0 10 rfl rfl)
theorem dX4_storey_11 : decode cX4_storey 11 = .ok (.getfield 35, 3) := dk_180 0 35 (dk_at dksX4_storey_0 11 rfl rfl)
theorem dX4_storey_14 : decode cX4_storey 14 = .ok (.iload_n 1, 1) := dk_27 (dk_at dksX4_storey_0 14 rfl rfl)
theorem dX4_storey_15 : decode cX4_storey 15 = .ok (.iaload, 1) := dk_46 (dk_at dksX4_storey_0 15 rfl rfl)
theorem dX4_storey_16 : decode cX4_storey 16 = .ok (.bipush 20, 2) := dk_16 20 (dk_at dksX4_storey_0 16 rfl rfl)
theorem dX4_storey_18 : decode cX4_storey 18 = .ok (.if_icmp .ne 6, 3) := dk_160 0 6 (dk_at dksX4_storey_0 18 rfl rfl)
theorem dX4_storey_21 : decode cX4_storey 21 = .ok (.bipush (-6), 2) := dk_16 250 (dk_at dksX4_storey_0 21 rfl rfl)
theorem dX4_storey_23 : decode cX4_storey 23 = .ok (.istore_n 2, 1) := dk_61 (dk_at dksX4_storey_0 23 rfl rfl)
theorem dX4_storey_24 : decode cX4_storey 24 = .ok (.iload_n 2, 1) := dk_28 (dk_at dksX4_storey_1 0 rfl rfl)
theorem dX4_storey_25 : decode cX4_storey 25 = .ok (.ifCond .eq 9, 3) := dk_153 0 9 (dk_at dksX4_storey_1 1 rfl rfl)
theorem dX4_storey_28 : decode cX4_storey 28 = .ok (.aload_n 0, 1) := dk_42 (dk_at dksX4_storey_1 4 rfl rfl)
theorem dX4_storey_29 : decode cX4_storey 29 = .ok (.iload_n 2, 1) := dk_28 (dk_at dksX4_storey_1 5 rfl rfl)
theorem dX4_storey_30 : decode cX4_storey 30 = .ok (.invokevirtual 245, 3) := dk_182 0 245 (dk_at dksX4_storey_1 6 rfl rfl)
theorem dX4_storey_33 : decode cX4_storey 33 = .ok (.ireturn, 1) := dk_172 (dk_at dksX4_storey_1 9 rfl rfl)
theorem dX4_storey_34 : decode cX4_storey 34 = .ok (.aload_n 0, 1) := dk_42 (dk_at dksX4_storey_1 10 rfl rfl)
theorem dX4_storey_35 : decode cX4_storey 35 = .ok (.aload_n 0, 1) := dk_42 (dk_at dksX4_storey_1 11 rfl rfl)
theorem dX4_storey_36 : decode cX4_storey 36 = .ok (.invokevirtual 210, 3) := dk_182 0 210 (dk_at dksX4_storey_1 12 rfl rfl)
theorem dX4_storey_39 : decode cX4_storey 39 = .ok (.invokevirtual 107, 3) := dk_182 0 107 (dk_at dksX4_storey_1 15 rfl rfl)
theorem dX4_storey_42 : decode cX4_storey 42 = .ok (.istore_n 3, 1) := dk_62 (dk_at dksX4_storey_1 18 rfl rfl)
theorem dX4_storey_43 : decode cX4_storey 43 = .ok (.aload_n 0, 1) := dk_42 (dk_at dksX4_storey_1 19 rfl rfl)
theorem dX4_storey_44 : decode cX4_storey 44 = .ok (.getfield 35, 3) := dk_180 0 35 (dk_at dksX4_storey_1 20 rfl rfl)
theorem dX4_storey_47 : decode cX4_storey 47 = .ok (.iload_n 1, 1) := dk_27 (dk_at dksX4_storey_1 23 rfl rfl)
theorem dX4_storey_48 : decode cX4_storey 48 = .ok (.dup2, 1) := dk_92 (dk_at dksX4_storey_2 0 rfl rfl)
theorem dX4_storey_49 : decode cX4_storey 49 = .ok (.iaload, 1) := dk_46 (dk_at dksX4_storey_2 1 rfl rfl)
theorem dX4_storey_50 : decode cX4_storey 50 = .ok (.iconst 1, 1) := dk_4 (dk_at dksX4_storey_2 2 rfl rfl)
theorem dX4_storey_51 : decode cX4_storey 51 = .ok (.iadd, 1) := dk_96 (dk_at dksX4_storey_2 3 rfl rfl)
theorem dX4_storey_52 : decode cX4_storey 52 = .ok (.iastore, 1) := dk_79 (dk_at dksX4_storey_2 4 rfl rfl)
theorem dX4_storey_53 : decode cX4_storey 53 = .ok (.aload_n 0, 1) := dk_42 (dk_at dksX4_storey_2 5 rfl rfl)
theorem dX4_storey_54 : decode cX4_storey 54 = .ok (.aload_n 0, 1) := dk_42 (dk_at dksX4_storey_2 6 rfl rfl)
theorem dX4_storey_55 : decode cX4_storey 55 = .ok (.invokevirtual 210, 3) := dk_182 0 210 (dk_at dksX4_storey_2 7 rfl rfl)
theorem dX4_storey_58 : decode cX4_storey 58 = .ok (.invokevirtual 107, 3) := dk_182 0 107 (dk_at dksX4_storey_2 10 rfl rfl)
theorem dX4_storey_61 : decode cX4_storey 61 = .ok (.iload_n 3, 1) := dk_29 (dk_at dksX4_storey_2 13 rfl rfl)
theorem dX4_storey_62 : decode cX4_storey 62 = .ok (.isub, 1) := dk_100 (dk_at dksX4_storey_2 14 rfl rfl)
theorem dX4_storey_63 : decode cX4_storey 63 = .ok (.istore_n 3, 1) := dk_62 (dk_at dksX4_storey_2 15 rfl rfl)
theorem dX4_storey_64 : decode cX4_storey 64 = .ok (.aload_n 0, 1) := dk_42 (dk_at dksX4_storey_2 16 rfl rfl)
theorem dX4_storey_65 : decode cX4_storey 65 = .ok (.getfield 35, 3) := dk_180 0 35 (dk_at dksX4_storey_2 17 rfl rfl)
theorem dX4_storey_68 : decode cX4_storey 68 = .ok (.iload_n 1, 1) := dk_27 (dk_at dksX4_storey_2 20 rfl rfl)
theorem dX4_storey_69 : decode cX4_storey 69 = .ok (.dup2, 1) := dk_92 (dk_at dksX4_storey_2 21 rfl rfl)
theorem dX4_storey_70 : decode cX4_storey 70 = .ok (.iaload, 1) := dk_46 (dk_at dksX4_storey_2 22 rfl rfl)
theorem dX4_storey_71 : decode cX4_storey 71 = .ok (.iconst 1, 1) := dk_4 (dk_at dksX4_storey_2 23 rfl rfl)
theorem dX4_storey_72 : decode cX4_storey 72 = .ok (.isub, 1) := dk_100 (dk_at dksX4_storey_3 0 rfl rfl)
theorem dX4_storey_73 : decode cX4_storey 73 = .ok (.iastore, 1) := dk_79 (dk_at dksX4_storey_3 1 rfl rfl)
theorem dX4_storey_74 : decode cX4_storey 74 = .ok (.iload_n 3, 1) := dk_29 (dk_at dksX4_storey_3 2 rfl rfl)
theorem dX4_storey_75 : decode cX4_storey 75 = .ok (.ireturn, 1) := dk_172 (dk_at dksX4_storey_3 3 rfl rfl)
abbrev cX4_noMuch : ByteArray := prog_21_method_4_code
def yX4_noMuch : MethodName := ⟨RX4, "noMuch", "(I)I"⟩
def dkwX4_noMuch_0 : List UInt8 := [42, 180, 0, 22, 27, 116, 92, 46, 4, 96, 79, 27, 17, 3, 232, 100, 172]
abbrev dktX4_noMuch_0 : List UInt8 := dkwX4_noMuch_0 ++ []
theorem dksX4_noMuch_0 : cX4_noMuch.data.toList.drop 0 = dktX4_noMuch_0 := by decide +kernel
theorem dX4_noMuch_0 : decode cX4_noMuch 0 = .ok (.aload_n 0, 1) := dk_42 (dk_at dksX4_noMuch_0 0 rfl rfl)
theorem dX4_noMuch_1 : decode cX4_noMuch 1 = .ok (.getfield 22, 3) := dk_180 0 22 (dk_at dksX4_noMuch_0 1 rfl rfl)
theorem dX4_noMuch_4 : decode cX4_noMuch 4 = .ok (.iload_n 1, 1) := dk_27 (dk_at dksX4_noMuch_0 4 rfl rfl)
theorem dX4_noMuch_5 : decode cX4_noMuch 5 = .ok (.ineg, 1) := dk_116 (dk_at dksX4_noMuch_0 5 rfl rfl)
theorem dX4_noMuch_6 : decode cX4_noMuch 6 = .ok (.dup2, 1) := dk_92 (dk_at dksX4_noMuch_0 6 rfl rfl)
theorem dX4_noMuch_7 : decode cX4_noMuch 7 = .ok (.iaload, 1) := dk_46 (dk_at dksX4_noMuch_0 7 rfl rfl)
theorem dX4_noMuch_8 : decode cX4_noMuch 8 = .ok (.iconst 1, 1) := dk_4 (dk_at dksX4_noMuch_0 8 rfl rfl)
theorem dX4_noMuch_9 : decode cX4_noMuch 9 = .ok (.iadd, 1) := dk_96 (dk_at dksX4_noMuch_0 9 rfl rfl)
theorem dX4_noMuch_10 : decode cX4_noMuch 10 = .ok (.iastore, 1) := dk_79 (dk_at dksX4_noMuch_0 10 rfl rfl)
theorem dX4_noMuch_11 : decode cX4_noMuch 11 = .ok (.iload_n 1, 1) := dk_27 (dk_at dksX4_noMuch_0 11 rfl rfl)
theorem dX4_noMuch_12 : decode cX4_noMuch 12 = .ok (.sipush 1000, 3) := dk_17 3 232 (dk_at dksX4_noMuch_0 12 rfl rfl)
theorem dX4_noMuch_15 : decode cX4_noMuch 15 = .ok (.isub, 1) := dk_100 (dk_at dksX4_noMuch_0 15 rfl rfl)
theorem dX4_noMuch_16 : decode cX4_noMuch 16 = .ok (.ireturn, 1) := dk_172 (dk_at dksX4_noMuch_0 16 rfl rfl)
abbrev cX4_blinded : ByteArray := prog_21_method_70_code
def yX4_blinded : MethodName := ⟨RX4, "blinded", "(I)I"⟩
def dkwX4_blinded_6 : List UInt8 := [4, 100, 79, 29, 172]
abbrev dktX4_blinded_6 : List UInt8 := dkwX4_blinded_6 ++ []
def dkwX4_blinded_5 : List UInt8 := [182, 0, 204, 2, 130, 126, 182, 0, 107, 96, 62, 132, 4, 1, 167, 255, 212, 42, 180, 0, 35, 27, 92, 46]
abbrev dktX4_blinded_5 : List UInt8 := dkwX4_blinded_5 ++ dktX4_blinded_6
def dkwX4_blinded_4 : List UInt8 := [162, 0, 41, 42, 21, 4, 182, 0, 91, 153, 0, 26, 29, 42, 42, 180, 0, 78, 21, 4, 46, 42, 21, 4]
abbrev dktX4_blinded_4 : List UInt8 := dkwX4_blinded_4 ++ dktX4_blinded_5
def dkwX4_blinded_3 : List UInt8 := [167, 255, 222, 42, 180, 0, 35, 27, 92, 46, 4, 96, 79, 3, 62, 3, 54, 4, 21, 4, 42, 180, 0, 84]
abbrev dktX4_blinded_3 : List UInt8 := dkwX4_blinded_3 ++ dktX4_blinded_4
def dkwX4_blinded_2 : List UInt8 := [29, 42, 29, 182, 0, 91, 153, 0, 11, 42, 29, 182, 0, 204, 167, 0, 4, 3, 79, 132, 3, 1]
abbrev dktX4_blinded_2 : List UInt8 := dkwX4_blinded_2 ++ dktX4_blinded_3
def dkwX4_blinded_1 : List UInt8 := [28, 153, 0, 9, 42, 28, 182, 0, 97, 172, 3, 62, 29, 42, 180, 0, 84, 162, 0, 32, 42, 180, 0, 78]
abbrev dktX4_blinded_1 : List UInt8 := dkwX4_blinded_1 ++ dktX4_blinded_2
def dkwX4_blinded_0 : List UInt8 := [42, 27, 182, 0, 127, 61, 28, 154, 0, 17, 42, 180, 0, 35, 27, 46, 16, 20, 160, 0, 6, 16, 250, 61]
abbrev dktX4_blinded_0 : List UInt8 := dkwX4_blinded_0 ++ dktX4_blinded_1
theorem dksX4_blinded_0 : cX4_blinded.data.toList.drop 0 = dktX4_blinded_0 := by decide +kernel
theorem dksX4_blinded_1 : cX4_blinded.data.toList.drop 24 = dktX4_blinded_1 := dk_seg dksX4_blinded_0 24 rfl rfl
theorem dksX4_blinded_2 : cX4_blinded.data.toList.drop 48 = dktX4_blinded_2 := dk_seg dksX4_blinded_1 24 rfl rfl
theorem dksX4_blinded_3 : cX4_blinded.data.toList.drop 70 = dktX4_blinded_3 := dk_seg dksX4_blinded_2 22 rfl rfl
theorem dksX4_blinded_4 : cX4_blinded.data.toList.drop 94 = dktX4_blinded_4 := dk_seg dksX4_blinded_3 24 rfl rfl
theorem dksX4_blinded_5 : cX4_blinded.data.toList.drop 118 = dktX4_blinded_5 := dk_seg dksX4_blinded_4 24 rfl rfl
theorem dksX4_blinded_6 : cX4_blinded.data.toList.drop 142 = dktX4_blinded_6 := dk_seg dksX4_blinded_5 24 rfl rfl
theorem dX4_blinded_0 : decode cX4_blinded 0 = .ok (.aload_n 0, 1) := dk_42 (dk_at dksX4_blinded_0 0 rfl rfl)
theorem dX4_blinded_1 : decode cX4_blinded 1 = .ok (.iload_n 1, 1) := dk_27 (dk_at dksX4_blinded_0 1 rfl rfl)
theorem dX4_blinded_2 : decode cX4_blinded 2 = .ok (.invokevirtual 127, 3) := dk_182 0 127 (dk_at dksX4_blinded_0 2 rfl rfl)
theorem dX4_blinded_5 : decode cX4_blinded 5 = .ok (.istore_n 2, 1) := dk_61 (dk_at dksX4_blinded_0 5 rfl rfl)
theorem dX4_blinded_6 : decode cX4_blinded 6 = .ok (.iload_n 2, 1) := dk_28 (dk_at dksX4_blinded_0 6 rfl rfl)
theorem dX4_blinded_7 : decode cX4_blinded 7 = .ok (.ifCond .ne 17, 3) := dk_154 0 17 (dk_at dksX4_blinded_0 7 rfl rfl)
theorem dX4_blinded_10 : decode cX4_blinded 10 = .ok (.aload_n 0, 1) := dk_42 (dk_at dksX4_blinded_0 10 rfl rfl)
theorem dX4_blinded_11 : decode cX4_blinded 11 = .ok (.getfield 35, 3) := dk_180 0 35 (dk_at dksX4_blinded_0 11 rfl rfl)
theorem dX4_blinded_14 : decode cX4_blinded 14 = .ok (.iload_n 1, 1) := dk_27 (dk_at dksX4_blinded_0 14 rfl rfl)
theorem dX4_blinded_15 : decode cX4_blinded 15 = .ok (.iaload, 1) := dk_46 (dk_at dksX4_blinded_0 15 rfl rfl)
theorem dX4_blinded_16 : decode cX4_blinded 16 = .ok (.bipush 20, 2) := dk_16 20 (dk_at dksX4_blinded_0 16 rfl rfl)
theorem dX4_blinded_18 : decode cX4_blinded 18 = .ok (.if_icmp .ne 6, 3) := dk_160 0 6 (dk_at dksX4_blinded_0 18 rfl rfl)
theorem dX4_blinded_21 : decode cX4_blinded 21 = .ok (.bipush (-6), 2) := dk_16 250 (dk_at dksX4_blinded_0 21 rfl rfl)
theorem dX4_blinded_23 : decode cX4_blinded 23 = .ok (.istore_n 2, 1) := dk_61 (dk_at dksX4_blinded_0 23 rfl rfl)
theorem dX4_blinded_24 : decode cX4_blinded 24 = .ok (.iload_n 2, 1) := dk_28 (dk_at dksX4_blinded_1 0 rfl rfl)
theorem dX4_blinded_25 : decode cX4_blinded 25 = .ok (.ifCond .eq 9, 3) := dk_153 0 9 (dk_at dksX4_blinded_1 1 rfl rfl)
theorem dX4_blinded_28 : decode cX4_blinded 28 = .ok (.aload_n 0, 1) := dk_42 (dk_at dksX4_blinded_1 4 rfl rfl)
theorem dX4_blinded_29 : decode cX4_blinded 29 = .ok (.iload_n 2, 1) := dk_28 (dk_at dksX4_blinded_1 5 rfl rfl)
theorem dX4_blinded_30 : decode cX4_blinded 30 = .ok (.invokevirtual 97, 3) := dk_182 0 97 (dk_at dksX4_blinded_1 6 rfl rfl)
theorem dX4_blinded_33 : decode cX4_blinded 33 = .ok (.ireturn, 1) := dk_172 (dk_at dksX4_blinded_1 9 rfl rfl)
theorem dX4_blinded_34 : decode cX4_blinded 34 = .ok (.iconst 0, 1) := dk_3 (dk_at dksX4_blinded_1 10 rfl rfl)
theorem dX4_blinded_35 : decode cX4_blinded 35 = .ok (.istore_n 3, 1) := dk_62 (dk_at dksX4_blinded_1 11 rfl rfl)
theorem dX4_blinded_36 : decode cX4_blinded 36 = .ok (.iload_n 3, 1) := dk_29 (dk_at dksX4_blinded_1 12 rfl rfl)
theorem dX4_blinded_37 : decode cX4_blinded 37 = .ok (.aload_n 0, 1) := dk_42 (dk_at dksX4_blinded_1 13 rfl rfl)
theorem dX4_blinded_38 : decode cX4_blinded 38 = .ok (.getfield 84, 3) := dk_180 0 84 (dk_at dksX4_blinded_1 14 rfl rfl)
theorem dX4_blinded_41 : decode cX4_blinded 41 = .ok (.if_icmp .ge 32, 3) := dk_162 0 32 (dk_at dksX4_blinded_1 17 rfl rfl)
theorem dX4_blinded_44 : decode cX4_blinded 44 = .ok (.aload_n 0, 1) := dk_42 (dk_at dksX4_blinded_1 20 rfl rfl)
theorem dX4_blinded_45 : decode cX4_blinded 45 = .ok (.getfield 78, 3) := dk_180 0 78 (dk_at dksX4_blinded_1 21 rfl rfl)
theorem dX4_blinded_48 : decode cX4_blinded 48 = .ok (.iload_n 3, 1) := dk_29 (dk_at dksX4_blinded_2 0 rfl rfl)
theorem dX4_blinded_49 : decode cX4_blinded 49 = .ok (.aload_n 0, 1) := dk_42 (dk_at dksX4_blinded_2 1 rfl rfl)
theorem dX4_blinded_50 : decode cX4_blinded 50 = .ok (.iload_n 3, 1) := dk_29 (dk_at dksX4_blinded_2 2 rfl rfl)
theorem dX4_blinded_51 : decode cX4_blinded 51 = .ok (.invokevirtual 91, 3) := dk_182 0 91 (dk_at dksX4_blinded_2 3 rfl rfl)
theorem dX4_blinded_54 : decode cX4_blinded 54 = .ok (.ifCond .eq 11, 3) := dk_153 0 11 (dk_at dksX4_blinded_2 6 rfl rfl)
theorem dX4_blinded_57 : decode cX4_blinded 57 = .ok (.aload_n 0, 1) := dk_42 (dk_at dksX4_blinded_2 9 rfl rfl)
theorem dX4_blinded_58 : decode cX4_blinded 58 = .ok (.iload_n 3, 1) := dk_29 (dk_at dksX4_blinded_2 10 rfl rfl)
theorem dX4_blinded_59 : decode cX4_blinded 59 = .ok (.invokevirtual 204, 3) := dk_182 0 204 (dk_at dksX4_blinded_2 11 rfl rfl)
theorem dX4_blinded_62 : decode cX4_blinded 62 = .ok (.goto 4, 3) := dk_167 0 4 (dk_at dksX4_blinded_2 14 rfl rfl)
theorem dX4_blinded_65 : decode cX4_blinded 65 = .ok (.iconst 0, 1) := dk_3 (dk_at dksX4_blinded_2 17 rfl rfl)
theorem dX4_blinded_66 : decode cX4_blinded 66 = .ok (.iastore, 1) := dk_79 (dk_at dksX4_blinded_2 18 rfl rfl)
theorem dX4_blinded_67 : decode cX4_blinded 67 = .ok (.iinc 3 1, 3) := dk_132 3 1 (dk_at dksX4_blinded_2 19 rfl rfl)
theorem dX4_blinded_70 : decode cX4_blinded 70 = .ok (.goto (-34), 3) := dk_167 255 222 (dk_at dksX4_blinded_3 0 rfl rfl)
theorem dX4_blinded_73 : decode cX4_blinded 73 = .ok (.aload_n 0, 1) := dk_42 (dk_at dksX4_blinded_3 3 rfl rfl)
theorem dX4_blinded_74 : decode cX4_blinded 74 = .ok (.getfield 35, 3) := dk_180 0 35 (dk_at dksX4_blinded_3 4 rfl rfl)
theorem dX4_blinded_77 : decode cX4_blinded 77 = .ok (.iload_n 1, 1) := dk_27 (dk_at dksX4_blinded_3 7 rfl rfl)
theorem dX4_blinded_78 : decode cX4_blinded 78 = .ok (.dup2, 1) := dk_92 (dk_at dksX4_blinded_3 8 rfl rfl)
theorem dX4_blinded_79 : decode cX4_blinded 79 = .ok (.iaload, 1) := dk_46 (dk_at dksX4_blinded_3 9 rfl rfl)
theorem dX4_blinded_80 : decode cX4_blinded 80 = .ok (.iconst 1, 1) := dk_4 (dk_at dksX4_blinded_3 10 rfl rfl)
theorem dX4_blinded_81 : decode cX4_blinded 81 = .ok (.iadd, 1) := dk_96 (dk_at dksX4_blinded_3 11 rfl rfl)
theorem dX4_blinded_82 : decode cX4_blinded 82 = .ok (.iastore, 1) := dk_79 (dk_at dksX4_blinded_3 12 rfl rfl)
theorem dX4_blinded_83 : decode cX4_blinded 83 = .ok (.iconst 0, 1) := dk_3 (dk_at dksX4_blinded_3 13 rfl rfl)
theorem dX4_blinded_84 : decode cX4_blinded 84 = .ok (.istore_n 3, 1) := dk_62 (dk_at dksX4_blinded_3 14 rfl rfl)
theorem dX4_blinded_85 : decode cX4_blinded 85 = .ok (.iconst 0, 1) := dk_3 (dk_at dksX4_blinded_3 15 rfl rfl)
theorem dX4_blinded_86 : decode cX4_blinded 86 = .ok (.istore 4, 2) := dk_54 4 (dk_at dksX4_blinded_3 16 rfl rfl)
theorem dX4_blinded_88 : decode cX4_blinded 88 = .ok (.iload 4, 2) := dk_21 4 (dk_at dksX4_blinded_3 18 rfl rfl)
theorem dX4_blinded_90 : decode cX4_blinded 90 = .ok (.aload_n 0, 1) := dk_42 (dk_at dksX4_blinded_3 20 rfl rfl)
theorem dX4_blinded_91 : decode cX4_blinded 91 = .ok (.getfield 84, 3) := dk_180 0 84 (dk_at dksX4_blinded_3 21 rfl rfl)
theorem dX4_blinded_94 : decode cX4_blinded 94 = .ok (.if_icmp .ge 41, 3) := dk_162 0 41 (dk_at dksX4_blinded_4 0 rfl rfl)
theorem dX4_blinded_97 : decode cX4_blinded 97 = .ok (.aload_n 0, 1) := dk_42 (dk_at dksX4_blinded_4 3 rfl rfl)
theorem dX4_blinded_98 : decode cX4_blinded 98 = .ok (.iload 4, 2) := dk_21 4 (dk_at dksX4_blinded_4 4 rfl rfl)
theorem dX4_blinded_100 : decode cX4_blinded 100 = .ok (.invokevirtual 91, 3) := dk_182 0 91 (dk_at dksX4_blinded_4 6 rfl rfl)
theorem dX4_blinded_103 : decode cX4_blinded 103 = .ok (.ifCond .eq 26, 3) := dk_153 0 26 (dk_at dksX4_blinded_4 9 rfl rfl)
theorem dX4_blinded_106 : decode cX4_blinded 106 = .ok (.iload_n 3, 1) := dk_29 (dk_at dksX4_blinded_4 12 rfl rfl)
theorem dX4_blinded_107 : decode cX4_blinded 107 = .ok (.aload_n 0, 1) := dk_42 (dk_at dksX4_blinded_4 13 rfl rfl)
theorem dX4_blinded_108 : decode cX4_blinded 108 = .ok (.aload_n 0, 1) := dk_42 (dk_at dksX4_blinded_4 14 rfl rfl)
theorem dX4_blinded_109 : decode cX4_blinded 109 = .ok (.getfield 78, 3) := dk_180 0 78 (dk_at dksX4_blinded_4 15 rfl rfl)
theorem dX4_blinded_112 : decode cX4_blinded 112 = .ok (.iload 4, 2) := dk_21 4 (dk_at dksX4_blinded_4 18 rfl rfl)
theorem dX4_blinded_114 : decode cX4_blinded 114 = .ok (.iaload, 1) := dk_46 (dk_at dksX4_blinded_4 20 rfl rfl)
theorem dX4_blinded_115 : decode cX4_blinded 115 = .ok (.aload_n 0, 1) := dk_42 (dk_at dksX4_blinded_4 21 rfl rfl)
theorem dX4_blinded_116 : decode cX4_blinded 116 = .ok (.iload 4, 2) := dk_21 4 (dk_at dksX4_blinded_4 22 rfl rfl)
theorem dX4_blinded_118 : decode cX4_blinded 118 = .ok (.invokevirtual 204, 3) := dk_182 0 204 (dk_at dksX4_blinded_5 0 rfl rfl)
theorem dX4_blinded_121 : decode cX4_blinded 121 = .ok (.iconst (-1), 1) := dk_2 (dk_at dksX4_blinded_5 3 rfl rfl)
theorem dX4_blinded_122 : decode cX4_blinded 122 = .ok (.ixor, 1) := dk_130 (dk_at dksX4_blinded_5 4 rfl rfl)
theorem dX4_blinded_123 : decode cX4_blinded 123 = .ok (.iand, 1) := dk_126 (dk_at dksX4_blinded_5 5 rfl rfl)
theorem dX4_blinded_124 : decode cX4_blinded 124 = .ok (.invokevirtual 107, 3) := dk_182 0 107 (dk_at dksX4_blinded_5 6 rfl rfl)
theorem dX4_blinded_127 : decode cX4_blinded 127 = .ok (.iadd, 1) := dk_96 (dk_at dksX4_blinded_5 9 rfl rfl)
theorem dX4_blinded_128 : decode cX4_blinded 128 = .ok (.istore_n 3, 1) := dk_62 (dk_at dksX4_blinded_5 10 rfl rfl)
theorem dX4_blinded_129 : decode cX4_blinded 129 = .ok (.iinc 4 1, 3) := dk_132 4 1 (dk_at dksX4_blinded_5 11 rfl rfl)
theorem dX4_blinded_132 : decode cX4_blinded 132 = .ok (.goto (-44), 3) := dk_167 255 212 (dk_at dksX4_blinded_5 14 rfl rfl)
theorem dX4_blinded_135 : decode cX4_blinded 135 = .ok (.aload_n 0, 1) := dk_42 (dk_at dksX4_blinded_5 17 rfl rfl)
theorem dX4_blinded_136 : decode cX4_blinded 136 = .ok (.getfield 35, 3) := dk_180 0 35 (dk_at dksX4_blinded_5 18 rfl rfl)
theorem dX4_blinded_139 : decode cX4_blinded 139 = .ok (.iload_n 1, 1) := dk_27 (dk_at dksX4_blinded_5 21 rfl rfl)
theorem dX4_blinded_140 : decode cX4_blinded 140 = .ok (.dup2, 1) := dk_92 (dk_at dksX4_blinded_5 22 rfl rfl)
theorem dX4_blinded_141 : decode cX4_blinded 141 = .ok (.iaload, 1) := dk_46 (dk_at dksX4_blinded_5 23 rfl rfl)
theorem dX4_blinded_142 : decode cX4_blinded 142 = .ok (.iconst 1, 1) := dk_4 (dk_at dksX4_blinded_6 0 rfl rfl)
theorem dX4_blinded_143 : decode cX4_blinded 143 = .ok (.isub, 1) := dk_100 (dk_at dksX4_blinded_6 1 rfl rfl)
theorem dX4_blinded_144 : decode cX4_blinded 144 = .ok (.iastore, 1) := dk_79 (dk_at dksX4_blinded_6 2 rfl rfl)
theorem dX4_blinded_145 : decode cX4_blinded 145 = .ok (.iload_n 3, 1) := dk_29 (dk_at dksX4_blinded_6 3 rfl rfl)
theorem dX4_blinded_146 : decode cX4_blinded 146 = .ok (.ireturn, 1) := dk_172 (dk_at dksX4_blinded_6 4 rfl rfl)
abbrev cX4_felled : ByteArray := prog_21_method_71_code
def yX4_felled : MethodName := ⟨RX4, "felled", "(I)I"⟩
def dkwX4_felled_3 : List UInt8 := [79, 28, 172]
abbrev dktX4_felled_3 : List UInt8 := dkwX4_felled_3 ++ []
def dkwX4_felled_2 : List UInt8 := [180, 0, 29, 27, 16, 156, 79, 42, 42, 182, 0, 210, 182, 0, 107, 28, 100, 61, 42, 180, 0, 29, 27, 29]
abbrev dktX4_felled_2 : List UInt8 := dkwX4_felled_2 ++ dktX4_felled_3
def dkwX4_felled_1 : List UInt8 := [16, 254, 182, 0, 245, 172, 42, 42, 182, 0, 210, 182, 0, 107, 61, 42, 180, 0, 29, 27, 46, 62, 42]
abbrev dktX4_felled_1 : List UInt8 := dkwX4_felled_1 ++ dktX4_felled_2
def dkwX4_felled_0 : List UInt8 := [42, 27, 182, 0, 87, 154, 0, 9, 42, 2, 182, 0, 245, 172, 42, 27, 182, 0, 91, 153, 0, 10, 42]
abbrev dktX4_felled_0 : List UInt8 := dkwX4_felled_0 ++ dktX4_felled_1
theorem dksX4_felled_0 : cX4_felled.data.toList.drop 0 = dktX4_felled_0 := by decide +kernel
theorem dksX4_felled_1 : cX4_felled.data.toList.drop 23 = dktX4_felled_1 := dk_seg dksX4_felled_0 23 rfl rfl
theorem dksX4_felled_2 : cX4_felled.data.toList.drop 46 = dktX4_felled_2 := dk_seg dksX4_felled_1 23 rfl rfl
theorem dksX4_felled_3 : cX4_felled.data.toList.drop 70 = dktX4_felled_3 := dk_seg dksX4_felled_2 24 rfl rfl
theorem dX4_felled_0 : decode cX4_felled 0 = .ok (.aload_n 0, 1) := dk_42 (dk_at dksX4_felled_0 0 rfl rfl)
theorem dX4_felled_1 : decode cX4_felled 1 = .ok (.iload_n 1, 1) := dk_27 (dk_at dksX4_felled_0 1 rfl rfl)
theorem dX4_felled_2 : decode cX4_felled 2 = .ok (.invokevirtual 87, 3) := dk_182 0 87 (dk_at dksX4_felled_0 2 rfl rfl)
theorem dX4_felled_5 : decode cX4_felled 5 = .ok (.ifCond .ne 9, 3) := dk_154 0 9 (dk_at dksX4_felled_0 5 rfl rfl)
theorem dX4_felled_8 : decode cX4_felled 8 = .ok (.aload_n 0, 1) := dk_42 (dk_at dksX4_felled_0 8 rfl rfl)
theorem dX4_felled_9 : decode cX4_felled 9 = .ok (.iconst (-1), 1) := dk_2 (dk_at dksX4_felled_0 9 rfl rfl)
theorem dX4_felled_10 : decode cX4_felled 10 = .ok (.invokevirtual 245, 3) := dk_182 0 245 (dk_at dksX4_felled_0 10 rfl rfl)
theorem dX4_felled_13 : decode cX4_felled 13 = .ok (.ireturn, 1) := dk_172 (dk_at dksX4_felled_0 13 rfl rfl)
theorem dX4_felled_14 : decode cX4_felled 14 = .ok (.aload_n 0, 1) := dk_42 (dk_at dksX4_felled_0 14 rfl rfl)
theorem dX4_felled_15 : decode cX4_felled 15 = .ok (.iload_n 1, 1) := dk_27 (dk_at dksX4_felled_0 15 rfl rfl)
theorem dX4_felled_16 : decode cX4_felled 16 = .ok (.invokevirtual 91, 3) := dk_182 0 91 (dk_at dksX4_felled_0 16 rfl rfl)
theorem dX4_felled_19 : decode cX4_felled 19 = .ok (.ifCond .eq 10, 3) := dk_153 0 10 (dk_at dksX4_felled_0 19 rfl rfl)
theorem dX4_felled_22 : decode cX4_felled 22 = .ok (.aload_n 0, 1) := dk_42 (dk_at dksX4_felled_0 22 rfl rfl)
theorem dX4_felled_23 : decode cX4_felled 23 = .ok (.bipush (-2), 2) := dk_16 254 (dk_at dksX4_felled_1 0 rfl rfl)
theorem dX4_felled_25 : decode cX4_felled 25 = .ok (.invokevirtual 245, 3) := dk_182 0 245 (dk_at dksX4_felled_1 2 rfl rfl)
theorem dX4_felled_28 : decode cX4_felled 28 = .ok (.ireturn, 1) := dk_172 (dk_at dksX4_felled_1 5 rfl rfl)
theorem dX4_felled_29 : decode cX4_felled 29 = .ok (.aload_n 0, 1) := dk_42 (dk_at dksX4_felled_1 6 rfl rfl)
theorem dX4_felled_30 : decode cX4_felled 30 = .ok (.aload_n 0, 1) := dk_42 (dk_at dksX4_felled_1 7 rfl rfl)
theorem dX4_felled_31 : decode cX4_felled 31 = .ok (.invokevirtual 210, 3) := dk_182 0 210 (dk_at dksX4_felled_1 8 rfl rfl)
theorem dX4_felled_34 : decode cX4_felled 34 = .ok (.invokevirtual 107, 3) := dk_182 0 107 (dk_at dksX4_felled_1 11 rfl rfl)
theorem dX4_felled_37 : decode cX4_felled 37 = .ok (.istore_n 2, 1) := dk_61 (dk_at dksX4_felled_1 14 rfl rfl)
theorem dX4_felled_38 : decode cX4_felled 38 = .ok (.aload_n 0, 1) := dk_42 (dk_at dksX4_felled_1 15 rfl rfl)
theorem dX4_felled_39 : decode cX4_felled 39 = .ok (.getfield 29, 3) := dk_180 0 29 (dk_at dksX4_felled_1 16 rfl rfl)
theorem dX4_felled_42 : decode cX4_felled 42 = .ok (.iload_n 1, 1) := dk_27 (dk_at dksX4_felled_1 19 rfl rfl)
theorem dX4_felled_43 : decode cX4_felled 43 = .ok (.iaload, 1) := dk_46 (dk_at dksX4_felled_1 20 rfl rfl)
theorem dX4_felled_44 : decode cX4_felled 44 = .ok (.istore_n 3, 1) := dk_62 (dk_at dksX4_felled_1 21 rfl rfl)
theorem dX4_felled_45 : decode cX4_felled 45 = .ok (.aload_n 0, 1) := dk_42 (dk_at dksX4_felled_1 22 rfl rfl)
theorem dX4_felled_46 : decode cX4_felled 46 = .ok (.getfield 29, 3) := dk_180 0 29 (dk_at dksX4_felled_2 0 rfl rfl)
theorem dX4_felled_49 : decode cX4_felled 49 = .ok (.iload_n 1, 1) := dk_27 (dk_at dksX4_felled_2 3 rfl rfl)
theorem dX4_felled_50 : decode cX4_felled 50 = .ok (.bipush (-100), 2) := dk_16 156 (dk_at dksX4_felled_2 4 rfl rfl)
theorem dX4_felled_52 : decode cX4_felled 52 = .ok (.iastore, 1) := dk_79 (dk_at dksX4_felled_2 6 rfl rfl)
theorem dX4_felled_53 : decode cX4_felled 53 = .ok (.aload_n 0, 1) := dk_42 (dk_at dksX4_felled_2 7 rfl rfl)
theorem dX4_felled_54 : decode cX4_felled 54 = .ok (.aload_n 0, 1) := dk_42 (dk_at dksX4_felled_2 8 rfl rfl)
theorem dX4_felled_55 : decode cX4_felled 55 = .ok (.invokevirtual 210, 3) := dk_182 0 210 (dk_at dksX4_felled_2 9 rfl rfl)
theorem dX4_felled_58 : decode cX4_felled 58 = .ok (.invokevirtual 107, 3) := dk_182 0 107 (dk_at dksX4_felled_2 12 rfl rfl)
theorem dX4_felled_61 : decode cX4_felled 61 = .ok (.iload_n 2, 1) := dk_28 (dk_at dksX4_felled_2 15 rfl rfl)
theorem dX4_felled_62 : decode cX4_felled 62 = .ok (.isub, 1) := dk_100 (dk_at dksX4_felled_2 16 rfl rfl)
theorem dX4_felled_63 : decode cX4_felled 63 = .ok (.istore_n 2, 1) := dk_61 (dk_at dksX4_felled_2 17 rfl rfl)
theorem dX4_felled_64 : decode cX4_felled 64 = .ok (.aload_n 0, 1) := dk_42 (dk_at dksX4_felled_2 18 rfl rfl)
theorem dX4_felled_65 : decode cX4_felled 65 = .ok (.getfield 29, 3) := dk_180 0 29 (dk_at dksX4_felled_2 19 rfl rfl)
theorem dX4_felled_68 : decode cX4_felled 68 = .ok (.iload_n 1, 1) := dk_27 (dk_at dksX4_felled_2 22 rfl rfl)
theorem dX4_felled_69 : decode cX4_felled 69 = .ok (.iload_n 3, 1) := dk_29 (dk_at dksX4_felled_2 23 rfl rfl)
theorem dX4_felled_70 : decode cX4_felled 70 = .ok (.iastore, 1) := dk_79 (dk_at dksX4_felled_3 0 rfl rfl)
theorem dX4_felled_71 : decode cX4_felled 71 = .ok (.iload_n 2, 1) := dk_28 (dk_at dksX4_felled_3 1 rfl rfl)
theorem dX4_felled_72 : decode cX4_felled 72 = .ok (.ireturn, 1) := dk_172 (dk_at dksX4_felled_3 2 rfl rfl)
abbrev cX4_pairs : ByteArray := prog_21_method_72_code
def yX4_pairs : MethodName := ⟨RX4, "pairs", "()I"⟩
def dkwX4_pairs_2 : List UInt8 := [182, 0, 201, 153, 0, 6, 132, 1, 1, 132, 3, 1, 167, 255, 211, 132, 2, 1, 167, 255, 195, 27, 172]
abbrev dktX4_pairs_2 : List UInt8 := dkwX4_pairs_2 ++ []
def dkwX4_pairs_1 : List UInt8 := [153, 0, 32, 42, 29, 182, 0, 91, 153, 0, 24, 42, 28, 29, 182, 0, 201, 153, 0, 15, 42, 29, 28]
abbrev dktX4_pairs_1 : List UInt8 := dkwX4_pairs_1 ++ dktX4_pairs_2
def dkwX4_pairs_0 : List UInt8 := [3, 60, 3, 61, 28, 42, 180, 0, 84, 162, 0, 59, 3, 62, 29, 28, 162, 0, 46, 42, 28, 182, 0, 91]
abbrev dktX4_pairs_0 : List UInt8 := dkwX4_pairs_0 ++ dktX4_pairs_1
theorem dksX4_pairs_0 : cX4_pairs.data.toList.drop 0 = dktX4_pairs_0 := by decide +kernel
theorem dksX4_pairs_1 : cX4_pairs.data.toList.drop 24 = dktX4_pairs_1 := dk_seg dksX4_pairs_0 24 rfl rfl
theorem dksX4_pairs_2 : cX4_pairs.data.toList.drop 47 = dktX4_pairs_2 := dk_seg dksX4_pairs_1 23 rfl rfl
theorem dX4_pairs_0 : decode cX4_pairs 0 = .ok (.iconst 0, 1) := dk_3 (dk_at dksX4_pairs_0 0 rfl rfl)
theorem dX4_pairs_1 : decode cX4_pairs 1 = .ok (.istore_n 1, 1) := dk_60 (dk_at dksX4_pairs_0 1 rfl rfl)
theorem dX4_pairs_2 : decode cX4_pairs 2 = .ok (.iconst 0, 1) := dk_3 (dk_at dksX4_pairs_0 2 rfl rfl)
theorem dX4_pairs_3 : decode cX4_pairs 3 = .ok (.istore_n 2, 1) := dk_61 (dk_at dksX4_pairs_0 3 rfl rfl)
theorem dX4_pairs_4 : decode cX4_pairs 4 = .ok (.iload_n 2, 1) := dk_28 (dk_at dksX4_pairs_0 4 rfl rfl)
theorem dX4_pairs_5 : decode cX4_pairs 5 = .ok (.aload_n 0, 1) := dk_42 (dk_at dksX4_pairs_0 5 rfl rfl)
theorem dX4_pairs_6 : decode cX4_pairs 6 = .ok (.getfield 84, 3) := dk_180 0 84 (dk_at dksX4_pairs_0 6 rfl rfl)
theorem dX4_pairs_9 : decode cX4_pairs 9 = .ok (.if_icmp .ge 59, 3) := dk_162 0 59 (dk_at dksX4_pairs_0 9 rfl rfl)
theorem dX4_pairs_12 : decode cX4_pairs 12 = .ok (.iconst 0, 1) := dk_3 (dk_at dksX4_pairs_0 12 rfl rfl)
theorem dX4_pairs_13 : decode cX4_pairs 13 = .ok (.istore_n 3, 1) := dk_62 (dk_at dksX4_pairs_0 13 rfl rfl)
theorem dX4_pairs_14 : decode cX4_pairs 14 = .ok (.iload_n 3, 1) := dk_29 (dk_at dksX4_pairs_0 14 rfl rfl)
theorem dX4_pairs_15 : decode cX4_pairs 15 = .ok (.iload_n 2, 1) := dk_28 (dk_at dksX4_pairs_0 15 rfl rfl)
theorem dX4_pairs_16 : decode cX4_pairs 16 = .ok (.if_icmp .ge 46, 3) := dk_162 0 46 (dk_at dksX4_pairs_0 16 rfl rfl)
theorem dX4_pairs_19 : decode cX4_pairs 19 = .ok (.aload_n 0, 1) := dk_42 (dk_at dksX4_pairs_0 19 rfl rfl)
theorem dX4_pairs_20 : decode cX4_pairs 20 = .ok (.iload_n 2, 1) := dk_28 (dk_at dksX4_pairs_0 20 rfl rfl)
theorem dX4_pairs_21 : decode cX4_pairs 21 = .ok (.invokevirtual 91, 3) := dk_182 0 91 (dk_at dksX4_pairs_0 21 rfl rfl)
theorem dX4_pairs_24 : decode cX4_pairs 24 = .ok (.ifCond .eq 32, 3) := dk_153 0 32 (dk_at dksX4_pairs_1 0 rfl rfl)
theorem dX4_pairs_27 : decode cX4_pairs 27 = .ok (.aload_n 0, 1) := dk_42 (dk_at dksX4_pairs_1 3 rfl rfl)
theorem dX4_pairs_28 : decode cX4_pairs 28 = .ok (.iload_n 3, 1) := dk_29 (dk_at dksX4_pairs_1 4 rfl rfl)
theorem dX4_pairs_29 : decode cX4_pairs 29 = .ok (.invokevirtual 91, 3) := dk_182 0 91 (dk_at dksX4_pairs_1 5 rfl rfl)
theorem dX4_pairs_32 : decode cX4_pairs 32 = .ok (.ifCond .eq 24, 3) := dk_153 0 24 (dk_at dksX4_pairs_1 8 rfl rfl)
theorem dX4_pairs_35 : decode cX4_pairs 35 = .ok (.aload_n 0, 1) := dk_42 (dk_at dksX4_pairs_1 11 rfl rfl)
theorem dX4_pairs_36 : decode cX4_pairs 36 = .ok (.iload_n 2, 1) := dk_28 (dk_at dksX4_pairs_1 12 rfl rfl)
theorem dX4_pairs_37 : decode cX4_pairs 37 = .ok (.iload_n 3, 1) := dk_29 (dk_at dksX4_pairs_1 13 rfl rfl)
theorem dX4_pairs_38 : decode cX4_pairs 38 = .ok (.invokevirtual 201, 3) := dk_182 0 201 (dk_at dksX4_pairs_1 14 rfl rfl)
theorem dX4_pairs_41 : decode cX4_pairs 41 = .ok (.ifCond .eq 15, 3) := dk_153 0 15 (dk_at dksX4_pairs_1 17 rfl rfl)
theorem dX4_pairs_44 : decode cX4_pairs 44 = .ok (.aload_n 0, 1) := dk_42 (dk_at dksX4_pairs_1 20 rfl rfl)
theorem dX4_pairs_45 : decode cX4_pairs 45 = .ok (.iload_n 3, 1) := dk_29 (dk_at dksX4_pairs_1 21 rfl rfl)
theorem dX4_pairs_46 : decode cX4_pairs 46 = .ok (.iload_n 2, 1) := dk_28 (dk_at dksX4_pairs_1 22 rfl rfl)
theorem dX4_pairs_47 : decode cX4_pairs 47 = .ok (.invokevirtual 201, 3) := dk_182 0 201 (dk_at dksX4_pairs_2 0 rfl rfl)
theorem dX4_pairs_50 : decode cX4_pairs 50 = .ok (.ifCond .eq 6, 3) := dk_153 0 6 (dk_at dksX4_pairs_2 3 rfl rfl)
theorem dX4_pairs_53 : decode cX4_pairs 53 = .ok (.iinc 1 1, 3) := dk_132 1 1 (dk_at dksX4_pairs_2 6 rfl rfl)
theorem dX4_pairs_56 : decode cX4_pairs 56 = .ok (.iinc 3 1, 3) := dk_132 3 1 (dk_at dksX4_pairs_2 9 rfl rfl)
theorem dX4_pairs_59 : decode cX4_pairs 59 = .ok (.goto (-45), 3) := dk_167 255 211 (dk_at dksX4_pairs_2 12 rfl rfl)
theorem dX4_pairs_62 : decode cX4_pairs 62 = .ok (.iinc 2 1, 3) := dk_132 2 1 (dk_at dksX4_pairs_2 15 rfl rfl)
theorem dX4_pairs_65 : decode cX4_pairs 65 = .ok (.goto (-61), 3) := dk_167 255 195 (dk_at dksX4_pairs_2 18 rfl rfl)
theorem dX4_pairs_68 : decode cX4_pairs 68 = .ok (.iload_n 1, 1) := dk_27 (dk_at dksX4_pairs_2 21 rfl rfl)
theorem dX4_pairs_69 : decode cX4_pairs 69 = .ok (.ireturn, 1) := dk_172 (dk_at dksX4_pairs_2 22 rfl rfl)
abbrev cX4_back : ByteArray := prog_21_method_74_code
def yX4_back : MethodName := ⟨RX4, "back", "(I)I"⟩
def dkwX4_back_2 : List UInt8 := [160, 0, 6, 21, 4, 172, 132, 4, 1, 167, 255, 221, 2, 172]
abbrev dktX4_back_2 : List UInt8 := dkwX4_back_2 ++ []
def dkwX4_back_1 : List UInt8 := [16, 8, 163, 0, 34, 42, 42, 29, 182, 0, 104, 182, 0, 248, 62, 29, 2, 160, 0, 5, 2, 172, 29, 27]
abbrev dktX4_back_1 : List UInt8 := dkwX4_back_1 ++ dktX4_back_2
def dkwX4_back_0 : List UInt8 := [42, 27, 182, 0, 127, 61, 28, 153, 0, 9, 42, 28, 182, 0, 207, 172, 27, 62, 4, 54, 4, 21, 4]
abbrev dktX4_back_0 : List UInt8 := dkwX4_back_0 ++ dktX4_back_1
theorem dksX4_back_0 : cX4_back.data.toList.drop 0 = dktX4_back_0 := by decide +kernel
theorem dksX4_back_1 : cX4_back.data.toList.drop 23 = dktX4_back_1 := dk_seg dksX4_back_0 23 rfl rfl
theorem dksX4_back_2 : cX4_back.data.toList.drop 47 = dktX4_back_2 := dk_seg dksX4_back_1 24 rfl rfl
theorem dX4_back_0 : decode cX4_back 0 = .ok (.aload_n 0, 1) := dk_42 (dk_at dksX4_back_0 0 rfl rfl)
theorem dX4_back_1 : decode cX4_back 1 = .ok (.iload_n 1, 1) := dk_27 (dk_at dksX4_back_0 1 rfl rfl)
theorem dX4_back_2 : decode cX4_back 2 = .ok (.invokevirtual 127, 3) := dk_182 0 127 (dk_at dksX4_back_0 2 rfl rfl)
theorem dX4_back_5 : decode cX4_back 5 = .ok (.istore_n 2, 1) := dk_61 (dk_at dksX4_back_0 5 rfl rfl)
theorem dX4_back_6 : decode cX4_back 6 = .ok (.iload_n 2, 1) := dk_28 (dk_at dksX4_back_0 6 rfl rfl)
theorem dX4_back_7 : decode cX4_back 7 = .ok (.ifCond .eq 9, 3) := dk_153 0 9 (dk_at dksX4_back_0 7 rfl rfl)
theorem dX4_back_10 : decode cX4_back 10 = .ok (.aload_n 0, 1) := dk_42 (dk_at dksX4_back_0 10 rfl rfl)
theorem dX4_back_11 : decode cX4_back 11 = .ok (.iload_n 2, 1) := dk_28 (dk_at dksX4_back_0 11 rfl rfl)
theorem dX4_back_12 : decode cX4_back 12 = .ok (.invokevirtual 207, 3) := dk_182 0 207 (dk_at dksX4_back_0 12 rfl rfl)
theorem dX4_back_15 : decode cX4_back 15 = .ok (.ireturn, 1) := dk_172 (dk_at dksX4_back_0 15 rfl rfl)
theorem dX4_back_16 : decode cX4_back 16 = .ok (.iload_n 1, 1) := dk_27 (dk_at dksX4_back_0 16 rfl rfl)
theorem dX4_back_17 : decode cX4_back 17 = .ok (.istore_n 3, 1) := dk_62 (dk_at dksX4_back_0 17 rfl rfl)
theorem dX4_back_18 : decode cX4_back 18 = .ok (.iconst 1, 1) := dk_4 (dk_at dksX4_back_0 18 rfl rfl)
theorem dX4_back_19 : decode cX4_back 19 = .ok (.istore 4, 2) := dk_54 4 (dk_at dksX4_back_0 19 rfl rfl)
theorem dX4_back_21 : decode cX4_back 21 = .ok (.iload 4, 2) := dk_21 4 (dk_at dksX4_back_0 21 rfl rfl)
theorem dX4_back_23 : decode cX4_back 23 = .ok (.bipush 8, 2) := dk_16 8 (dk_at dksX4_back_1 0 rfl rfl)
theorem dX4_back_25 : decode cX4_back 25 = .ok (.if_icmp .gt 34, 3) := dk_163 0 34 (dk_at dksX4_back_1 2 rfl rfl)
theorem dX4_back_28 : decode cX4_back 28 = .ok (.aload_n 0, 1) := dk_42 (dk_at dksX4_back_1 5 rfl rfl)
theorem dX4_back_29 : decode cX4_back 29 = .ok (.aload_n 0, 1) := dk_42 (dk_at dksX4_back_1 6 rfl rfl)
theorem dX4_back_30 : decode cX4_back 30 = .ok (.iload_n 3, 1) := dk_29 (dk_at dksX4_back_1 7 rfl rfl)
theorem dX4_back_31 : decode cX4_back 31 = .ok (.invokevirtual 104, 3) := dk_182 0 104 (dk_at dksX4_back_1 8 rfl rfl)
theorem dX4_back_34 : decode cX4_back 34 = .ok (.invokevirtual 248, 3) := dk_182 0 248 (dk_at dksX4_back_1 11 rfl rfl)
theorem dX4_back_37 : decode cX4_back 37 = .ok (.istore_n 3, 1) := dk_62 (dk_at dksX4_back_1 14 rfl rfl)
theorem dX4_back_38 : decode cX4_back 38 = .ok (.iload_n 3, 1) := dk_29 (dk_at dksX4_back_1 15 rfl rfl)
theorem dX4_back_39 : decode cX4_back 39 = .ok (.iconst (-1), 1) := dk_2 (dk_at dksX4_back_1 16 rfl rfl)
theorem dX4_back_40 : decode cX4_back 40 = .ok (.if_icmp .ne 5, 3) := dk_160 0 5 (dk_at dksX4_back_1 17 rfl rfl)
theorem dX4_back_43 : decode cX4_back 43 = .ok (.iconst (-1), 1) := dk_2 (dk_at dksX4_back_1 20 rfl rfl)
theorem dX4_back_44 : decode cX4_back 44 = .ok (.ireturn, 1) := dk_172 (dk_at dksX4_back_1 21 rfl rfl)
theorem dX4_back_45 : decode cX4_back 45 = .ok (.iload_n 3, 1) := dk_29 (dk_at dksX4_back_1 22 rfl rfl)
theorem dX4_back_46 : decode cX4_back 46 = .ok (.iload_n 1, 1) := dk_27 (dk_at dksX4_back_1 23 rfl rfl)
theorem dX4_back_47 : decode cX4_back 47 = .ok (.if_icmp .ne 6, 3) := dk_160 0 6 (dk_at dksX4_back_2 0 rfl rfl)
theorem dX4_back_50 : decode cX4_back 50 = .ok (.iload 4, 2) := dk_21 4 (dk_at dksX4_back_2 3 rfl rfl)
theorem dX4_back_52 : decode cX4_back 52 = .ok (.ireturn, 1) := dk_172 (dk_at dksX4_back_2 5 rfl rfl)
theorem dX4_back_53 : decode cX4_back 53 = .ok (.iinc 4 1, 3) := dk_132 4 1 (dk_at dksX4_back_2 6 rfl rfl)
theorem dX4_back_56 : decode cX4_back 56 = .ok (.goto (-35), 3) := dk_167 255 221 (dk_at dksX4_back_2 9 rfl rfl)
theorem dX4_back_59 : decode cX4_back 59 = .ok (.iconst (-1), 1) := dk_2 (dk_at dksX4_back_2 12 rfl rfl)
theorem dX4_back_60 : decode cX4_back 60 = .ok (.ireturn, 1) := dk_172 (dk_at dksX4_back_2 13 rfl rfl)
abbrev cX4_firstOf : ByteArray := prog_21_method_73_code
def yX4_firstOf : MethodName := ⟨RX4, "firstOf", "(I)I"⟩
def dkwX4_firstOf_1 : List UInt8 := [167, 255, 236, 2, 172]
abbrev dktX4_firstOf_1 : List UInt8 := dkwX4_firstOf_1 ++ []
def dkwX4_firstOf_0 : List UInt8 := [3, 61, 28, 16, 8, 162, 0, 20, 27, 28, 122, 4, 126, 4, 160, 0, 5, 28, 172, 132, 2, 1]
abbrev dktX4_firstOf_0 : List UInt8 := dkwX4_firstOf_0 ++ dktX4_firstOf_1
theorem dksX4_firstOf_0 : cX4_firstOf.data.toList.drop 0 = dktX4_firstOf_0 := by decide +kernel
theorem dksX4_firstOf_1 : cX4_firstOf.data.toList.drop 22 = dktX4_firstOf_1 := dk_seg dksX4_firstOf_0 22 rfl rfl
theorem dX4_firstOf_0 : decode cX4_firstOf 0 = .ok (.iconst 0, 1) := dk_3 (dk_at dksX4_firstOf_0 0 rfl rfl)
theorem dX4_firstOf_1 : decode cX4_firstOf 1 = .ok (.istore_n 2, 1) := dk_61 (dk_at dksX4_firstOf_0 1 rfl rfl)
theorem dX4_firstOf_2 : decode cX4_firstOf 2 = .ok (.iload_n 2, 1) := dk_28 (dk_at dksX4_firstOf_0 2 rfl rfl)
theorem dX4_firstOf_3 : decode cX4_firstOf 3 = .ok (.bipush 8, 2) := dk_16 8 (dk_at dksX4_firstOf_0 3 rfl rfl)
theorem dX4_firstOf_5 : decode cX4_firstOf 5 = .ok (.if_icmp .ge 20, 3) := dk_162 0 20 (dk_at dksX4_firstOf_0 5 rfl rfl)
theorem dX4_firstOf_8 : decode cX4_firstOf 8 = .ok (.iload_n 1, 1) := dk_27 (dk_at dksX4_firstOf_0 8 rfl rfl)
theorem dX4_firstOf_9 : decode cX4_firstOf 9 = .ok (.iload_n 2, 1) := dk_28 (dk_at dksX4_firstOf_0 9 rfl rfl)
theorem dX4_firstOf_10 : decode cX4_firstOf 10 = .ok (.ishr, 1) := dk_122 (dk_at dksX4_firstOf_0 10 rfl rfl)
theorem dX4_firstOf_11 : decode cX4_firstOf 11 = .ok (.iconst 1, 1) := dk_4 (dk_at dksX4_firstOf_0 11 rfl rfl)
theorem dX4_firstOf_12 : decode cX4_firstOf 12 = .ok (.iand, 1) := dk_126 (dk_at dksX4_firstOf_0 12 rfl rfl)
theorem dX4_firstOf_13 : decode cX4_firstOf 13 = .ok (.iconst 1, 1) := dk_4 (dk_at dksX4_firstOf_0 13 rfl rfl)
theorem dX4_firstOf_14 : decode cX4_firstOf 14 = .ok (.if_icmp .ne 5, 3) := dk_160 0 5 (dk_at dksX4_firstOf_0 14 rfl rfl)
theorem dX4_firstOf_17 : decode cX4_firstOf 17 = .ok (.iload_n 2, 1) := dk_28 (dk_at dksX4_firstOf_0 17 rfl rfl)
theorem dX4_firstOf_18 : decode cX4_firstOf 18 = .ok (.ireturn, 1) := dk_172 (dk_at dksX4_firstOf_0 18 rfl rfl)
theorem dX4_firstOf_19 : decode cX4_firstOf 19 = .ok (.iinc 2 1, 3) := dk_132 2 1 (dk_at dksX4_firstOf_0 19 rfl rfl)
theorem dX4_firstOf_22 : decode cX4_firstOf 22 = .ok (.goto (-20), 3) := dk_167 255 236 (dk_at dksX4_firstOf_1 0 rfl rfl)
theorem dX4_firstOf_25 : decode cX4_firstOf 25 = .ok (.iconst (-1), 1) := dk_2 (dk_at dksX4_firstOf_1 3 rfl rfl)
theorem dX4_firstOf_26 : decode cX4_firstOf 26 = .ok (.ireturn, 1) := dk_172 (dk_at dksX4_firstOf_1 4 rfl rfl)
abbrev cX4_most : ByteArray := prog_21_method_75_code
def yX4_most : MethodName := ⟨RX4, "most", "()I"⟩
def dkwX4_most_4 : List UInt8 := [61, 132, 3, 1, 167, 255, 166, 27, 2, 160, 0, 12, 42, 16, 251, 182, 0, 97, 167, 0, 4, 27, 172]
abbrev dktX4_most_4 : List UInt8 := dkwX4_most_4 ++ []
def dkwX4_most_3 : List UInt8 := [132, 5, 1, 167, 255, 216, 27, 2, 159, 0, 12, 21, 4, 28, 163, 0, 6, 167, 0, 8, 29, 60, 21, 4]
abbrev dktX4_most_3 : List UInt8 := dkwX4_most_3 ++ dktX4_most_4
def dkwX4_most_2 : List UInt8 := [42, 21, 5, 182, 0, 91, 153, 0, 16, 42, 29, 21, 5, 182, 0, 201, 153, 0, 6, 132, 4, 1]
abbrev dktX4_most_2 : List UInt8 := dkwX4_most_2 ++ dktX4_most_3
def dkwX4_most_1 : List UInt8 := [167, 0, 71, 3, 54, 4, 3, 54, 5, 21, 5, 42, 180, 0, 84, 162, 0, 37, 21, 5, 29, 159, 0, 25]
abbrev dktX4_most_1 : List UInt8 := dkwX4_most_1 ++ dktX4_most_2
def dkwX4_most_0 : List UInt8 := [2, 60, 3, 61, 3, 62, 29, 42, 180, 0, 84, 162, 0, 88, 42, 29, 182, 0, 91, 154, 0, 6]
abbrev dktX4_most_0 : List UInt8 := dkwX4_most_0 ++ dktX4_most_1
theorem dksX4_most_0 : cX4_most.data.toList.drop 0 = dktX4_most_0 := by decide +kernel
theorem dksX4_most_1 : cX4_most.data.toList.drop 22 = dktX4_most_1 := dk_seg dksX4_most_0 22 rfl rfl
theorem dksX4_most_2 : cX4_most.data.toList.drop 46 = dktX4_most_2 := dk_seg dksX4_most_1 24 rfl rfl
theorem dksX4_most_3 : cX4_most.data.toList.drop 68 = dktX4_most_3 := dk_seg dksX4_most_2 22 rfl rfl
theorem dksX4_most_4 : cX4_most.data.toList.drop 92 = dktX4_most_4 := dk_seg dksX4_most_3 24 rfl rfl
theorem dX4_most_0 : decode cX4_most 0 = .ok (.iconst (-1), 1) := dk_2 (dk_at dksX4_most_0 0 rfl rfl)
theorem dX4_most_1 : decode cX4_most 1 = .ok (.istore_n 1, 1) := dk_60 (dk_at dksX4_most_0 1 rfl rfl)
theorem dX4_most_2 : decode cX4_most 2 = .ok (.iconst 0, 1) := dk_3 (dk_at dksX4_most_0 2 rfl rfl)
theorem dX4_most_3 : decode cX4_most 3 = .ok (.istore_n 2, 1) := dk_61 (dk_at dksX4_most_0 3 rfl rfl)
theorem dX4_most_4 : decode cX4_most 4 = .ok (.iconst 0, 1) := dk_3 (dk_at dksX4_most_0 4 rfl rfl)
theorem dX4_most_5 : decode cX4_most 5 = .ok (.istore_n 3, 1) := dk_62 (dk_at dksX4_most_0 5 rfl rfl)
theorem dX4_most_6 : decode cX4_most 6 = .ok (.iload_n 3, 1) := dk_29 (dk_at dksX4_most_0 6 rfl rfl)
theorem dX4_most_7 : decode cX4_most 7 = .ok (.aload_n 0, 1) := dk_42 (dk_at dksX4_most_0 7 rfl rfl)
theorem dX4_most_8 : decode cX4_most 8 = .ok (.getfield 84, 3) := dk_180 0 84 (dk_at dksX4_most_0 8 rfl rfl)
theorem dX4_most_11 : decode cX4_most 11 = .ok (.if_icmp .ge 88, 3) := dk_162 0 88 (dk_at dksX4_most_0 11 rfl rfl)
theorem dX4_most_14 : decode cX4_most 14 = .ok (.aload_n 0, 1) := dk_42 (dk_at dksX4_most_0 14 rfl rfl)
theorem dX4_most_15 : decode cX4_most 15 = .ok (.iload_n 3, 1) := dk_29 (dk_at dksX4_most_0 15 rfl rfl)
theorem dX4_most_16 : decode cX4_most 16 = .ok (.invokevirtual 91, 3) := dk_182 0 91 (dk_at dksX4_most_0 16 rfl rfl)
theorem dX4_most_19 : decode cX4_most 19 = .ok (.ifCond .ne 6, 3) := dk_154 0 6 (dk_at dksX4_most_0 19 rfl rfl)
theorem dX4_most_22 : decode cX4_most 22 = .ok (.goto 71, 3) := dk_167 0 71 (dk_at dksX4_most_1 0 rfl rfl)
theorem dX4_most_25 : decode cX4_most 25 = .ok (.iconst 0, 1) := dk_3 (dk_at dksX4_most_1 3 rfl rfl)
theorem dX4_most_26 : decode cX4_most 26 = .ok (.istore 4, 2) := dk_54 4 (dk_at dksX4_most_1 4 rfl rfl)
theorem dX4_most_28 : decode cX4_most 28 = .ok (.iconst 0, 1) := dk_3 (dk_at dksX4_most_1 6 rfl rfl)
theorem dX4_most_29 : decode cX4_most 29 = .ok (.istore 5, 2) := dk_54 5 (dk_at dksX4_most_1 7 rfl rfl)
theorem dX4_most_31 : decode cX4_most 31 = .ok (.iload 5, 2) := dk_21 5 (dk_at dksX4_most_1 9 rfl rfl)
theorem dX4_most_33 : decode cX4_most 33 = .ok (.aload_n 0, 1) := dk_42 (dk_at dksX4_most_1 11 rfl rfl)
theorem dX4_most_34 : decode cX4_most 34 = .ok (.getfield 84, 3) := dk_180 0 84 (dk_at dksX4_most_1 12 rfl rfl)
theorem dX4_most_37 : decode cX4_most 37 = .ok (.if_icmp .ge 37, 3) := dk_162 0 37 (dk_at dksX4_most_1 15 rfl rfl)
theorem dX4_most_40 : decode cX4_most 40 = .ok (.iload 5, 2) := dk_21 5 (dk_at dksX4_most_1 18 rfl rfl)
theorem dX4_most_42 : decode cX4_most 42 = .ok (.iload_n 3, 1) := dk_29 (dk_at dksX4_most_1 20 rfl rfl)
theorem dX4_most_43 : decode cX4_most 43 = .ok (.if_icmp .eq 25, 3) := dk_159 0 25 (dk_at dksX4_most_1 21 rfl rfl)
theorem dX4_most_46 : decode cX4_most 46 = .ok (.aload_n 0, 1) := dk_42 (dk_at dksX4_most_2 0 rfl rfl)
theorem dX4_most_47 : decode cX4_most 47 = .ok (.iload 5, 2) := dk_21 5 (dk_at dksX4_most_2 1 rfl rfl)
theorem dX4_most_49 : decode cX4_most 49 = .ok (.invokevirtual 91, 3) := dk_182 0 91 (dk_at dksX4_most_2 3 rfl rfl)
theorem dX4_most_52 : decode cX4_most 52 = .ok (.ifCond .eq 16, 3) := dk_153 0 16 (dk_at dksX4_most_2 6 rfl rfl)
theorem dX4_most_55 : decode cX4_most 55 = .ok (.aload_n 0, 1) := dk_42 (dk_at dksX4_most_2 9 rfl rfl)
theorem dX4_most_56 : decode cX4_most 56 = .ok (.iload_n 3, 1) := dk_29 (dk_at dksX4_most_2 10 rfl rfl)
theorem dX4_most_57 : decode cX4_most 57 = .ok (.iload 5, 2) := dk_21 5 (dk_at dksX4_most_2 11 rfl rfl)
theorem dX4_most_59 : decode cX4_most 59 = .ok (.invokevirtual 201, 3) := dk_182 0 201 (dk_at dksX4_most_2 13 rfl rfl)
theorem dX4_most_62 : decode cX4_most 62 = .ok (.ifCond .eq 6, 3) := dk_153 0 6 (dk_at dksX4_most_2 16 rfl rfl)
theorem dX4_most_65 : decode cX4_most 65 = .ok (.iinc 4 1, 3) := dk_132 4 1 (dk_at dksX4_most_2 19 rfl rfl)
theorem dX4_most_68 : decode cX4_most 68 = .ok (.iinc 5 1, 3) := dk_132 5 1 (dk_at dksX4_most_3 0 rfl rfl)
theorem dX4_most_71 : decode cX4_most 71 = .ok (.goto (-40), 3) := dk_167 255 216 (dk_at dksX4_most_3 3 rfl rfl)
theorem dX4_most_74 : decode cX4_most 74 = .ok (.iload_n 1, 1) := dk_27 (dk_at dksX4_most_3 6 rfl rfl)
theorem dX4_most_75 : decode cX4_most 75 = .ok (.iconst (-1), 1) := dk_2 (dk_at dksX4_most_3 7 rfl rfl)
theorem dX4_most_76 : decode cX4_most 76 = .ok (.if_icmp .eq 12, 3) := dk_159 0 12 (dk_at dksX4_most_3 8 rfl rfl)
theorem dX4_most_79 : decode cX4_most 79 = .ok (.iload 4, 2) := dk_21 4 (dk_at dksX4_most_3 11 rfl rfl)
theorem dX4_most_81 : decode cX4_most 81 = .ok (.iload_n 2, 1) := dk_28 (dk_at dksX4_most_3 13 rfl rfl)
theorem dX4_most_82 : decode cX4_most 82 = .ok (.if_icmp .gt 6, 3) := dk_163 0 6 (dk_at dksX4_most_3 14 rfl rfl)
theorem dX4_most_85 : decode cX4_most 85 = .ok (.goto 8, 3) := dk_167 0 8 (dk_at dksX4_most_3 17 rfl rfl)
theorem dX4_most_88 : decode cX4_most 88 = .ok (.iload_n 3, 1) := dk_29 (dk_at dksX4_most_3 20 rfl rfl)
theorem dX4_most_89 : decode cX4_most 89 = .ok (.istore_n 1, 1) := dk_60 (dk_at dksX4_most_3 21 rfl rfl)
theorem dX4_most_90 : decode cX4_most 90 = .ok (.iload 4, 2) := dk_21 4 (dk_at dksX4_most_3 22 rfl rfl)
theorem dX4_most_92 : decode cX4_most 92 = .ok (.istore_n 2, 1) := dk_61 (dk_at dksX4_most_4 0 rfl rfl)
theorem dX4_most_93 : decode cX4_most 93 = .ok (.iinc 3 1, 3) := dk_132 3 1 (dk_at dksX4_most_4 1 rfl rfl)
theorem dX4_most_96 : decode cX4_most 96 = .ok (.goto (-90), 3) := dk_167 255 166 (dk_at dksX4_most_4 4 rfl rfl)
theorem dX4_most_99 : decode cX4_most 99 = .ok (.iload_n 1, 1) := dk_27 (dk_at dksX4_most_4 7 rfl rfl)
theorem dX4_most_100 : decode cX4_most 100 = .ok (.iconst (-1), 1) := dk_2 (dk_at dksX4_most_4 8 rfl rfl)
theorem dX4_most_101 : decode cX4_most 101 = .ok (.if_icmp .ne 12, 3) := dk_160 0 12 (dk_at dksX4_most_4 9 rfl rfl)
theorem dX4_most_104 : decode cX4_most 104 = .ok (.aload_n 0, 1) := dk_42 (dk_at dksX4_most_4 12 rfl rfl)
theorem dX4_most_105 : decode cX4_most 105 = .ok (.bipush (-5), 2) := dk_16 251 (dk_at dksX4_most_4 13 rfl rfl)
theorem dX4_most_107 : decode cX4_most 107 = .ok (.invokevirtual 97, 3) := dk_182 0 97 (dk_at dksX4_most_4 15 rfl rfl)
theorem dX4_most_110 : decode cX4_most 110 = .ok (.goto 4, 3) := dk_167 0 4 (dk_at dksX4_most_4 18 rfl rfl)
theorem dX4_most_113 : decode cX4_most 113 = .ok (.iload_n 1, 1) := dk_27 (dk_at dksX4_most_4 21 rfl rfl)
theorem dX4_most_114 : decode cX4_most 114 = .ok (.ireturn, 1) := dk_172 (dk_at dksX4_most_4 22 rfl rfl)
abbrev cX4_list : ByteArray := prog_21_method_77_code
def yX4_list : MethodName := ⟨RX4, "list", "(II)I"⟩
def dkwX4_list_6 : List UInt8 := [167, 0, 7, 42, 180, 0, 254, 172]
abbrev dktX4_list_6 : List UInt8 := dkwX4_list_6 ++ []
def dkwX4_list_5 : List UInt8 := [42, 21, 4, 181, 0, 7, 21, 5, 172, 42, 27, 182, 1, 4, 28, 154, 0, 10, 42, 180, 0, 251]
abbrev dktX4_list_5 : List UInt8 := dkwX4_list_5 ++ dktX4_list_6
def dkwX4_list_4 : List UInt8 := [160, 0, 7, 4, 167, 0, 4, 5, 96, 54, 5, 42, 89, 180, 0, 7, 4, 96, 181, 0, 7, 167, 255, 208]
abbrev dktX4_list_4 : List UInt8 := dkwX4_list_4 ++ dktX4_list_5
def dkwX4_list_3 : List UInt8 := [162, 0, 46, 42, 27, 182, 1, 4, 42, 180, 0, 254, 154, 0, 21, 21, 5, 42, 180, 0, 7, 4]
abbrev dktX4_list_3 : List UInt8 := dkwX4_list_3 ++ dktX4_list_4
def dkwX4_list_2 : List UInt8 := [160, 0, 77, 42, 180, 0, 7, 54, 4, 3, 54, 5, 42, 3, 181, 0, 7, 42, 180, 0, 7, 5]
abbrev dktX4_list_2 : List UInt8 := dkwX4_list_2 ++ dktX4_list_3
def dkwX4_list_1 : List UInt8 := [155, 0, 8, 28, 5, 164, 0, 6, 16, 251, 62, 29, 153, 0, 9, 42, 29, 182, 0, 207, 172, 28, 5]
abbrev dktX4_list_1 : List UInt8 := dkwX4_list_1 ++ dktX4_list_2
def dkwX4_list_0 : List UInt8 := [42, 27, 182, 0, 176, 62, 29, 154, 0, 28, 42, 180, 0, 53, 27, 46, 42, 180, 0, 84, 161, 0, 12, 28]
abbrev dktX4_list_0 : List UInt8 := dkwX4_list_0 ++ dktX4_list_1
theorem dksX4_list_0 : cX4_list.data.toList.drop 0 = dktX4_list_0 := by decide +kernel
theorem dksX4_list_1 : cX4_list.data.toList.drop 24 = dktX4_list_1 := dk_seg dksX4_list_0 24 rfl rfl
theorem dksX4_list_2 : cX4_list.data.toList.drop 47 = dktX4_list_2 := dk_seg dksX4_list_1 23 rfl rfl
theorem dksX4_list_3 : cX4_list.data.toList.drop 69 = dktX4_list_3 := dk_seg dksX4_list_2 22 rfl rfl
theorem dksX4_list_4 : cX4_list.data.toList.drop 91 = dktX4_list_4 := dk_seg dksX4_list_3 22 rfl rfl
theorem dksX4_list_5 : cX4_list.data.toList.drop 115 = dktX4_list_5 := dk_seg dksX4_list_4 24 rfl rfl
theorem dksX4_list_6 : cX4_list.data.toList.drop 137 = dktX4_list_6 := dk_seg dksX4_list_5 22 rfl rfl
theorem dX4_list_0 : decode cX4_list 0 = .ok (.aload_n 0, 1) := dk_42 (dk_at dksX4_list_0 0 rfl rfl)
theorem dX4_list_1 : decode cX4_list 1 = .ok (.iload_n 1, 1) := dk_27 (dk_at dksX4_list_0 1 rfl rfl)
theorem dX4_list_2 : decode cX4_list 2 = .ok (.invokevirtual 176, 3) := dk_182 0 176 (dk_at dksX4_list_0 2 rfl rfl)
theorem dX4_list_5 : decode cX4_list 5 = .ok (.istore_n 3, 1) := dk_62 (dk_at dksX4_list_0 5 rfl rfl)
theorem dX4_list_6 : decode cX4_list 6 = .ok (.iload_n 3, 1) := dk_29 (dk_at dksX4_list_0 6 rfl rfl)
theorem dX4_list_7 : decode cX4_list 7 = .ok (.ifCond .ne 28, 3) := dk_154 0 28 (dk_at dksX4_list_0 7 rfl rfl)
theorem dX4_list_10 : decode cX4_list 10 = .ok (.aload_n 0, 1) := dk_42 (dk_at dksX4_list_0 10 rfl rfl)
theorem dX4_list_11 : decode cX4_list 11 = .ok (.getfield 53, 3) := dk_180 0 53 (dk_at dksX4_list_0 11 rfl rfl)
theorem dX4_list_14 : decode cX4_list 14 = .ok (.iload_n 1, 1) := dk_27 (dk_at dksX4_list_0 14 rfl rfl)
theorem dX4_list_15 : decode cX4_list 15 = .ok (.iaload, 1) := dk_46 (dk_at dksX4_list_0 15 rfl rfl)
theorem dX4_list_16 : decode cX4_list 16 = .ok (.aload_n 0, 1) := dk_42 (dk_at dksX4_list_0 16 rfl rfl)
theorem dX4_list_17 : decode cX4_list 17 = .ok (.getfield 84, 3) := dk_180 0 84 (dk_at dksX4_list_0 17 rfl rfl)
theorem dX4_list_20 : decode cX4_list 20 = .ok (.if_icmp .lt 12, 3) := dk_161 0 12 (dk_at dksX4_list_0 20 rfl rfl)
theorem dX4_list_23 : decode cX4_list 23 = .ok (.iload_n 2, 1) := dk_28 (dk_at dksX4_list_0 23 rfl rfl)
theorem dX4_list_24 : decode cX4_list 24 = .ok (.ifCond .lt 8, 3) := dk_155 0 8 (dk_at dksX4_list_1 0 rfl rfl)
theorem dX4_list_27 : decode cX4_list 27 = .ok (.iload_n 2, 1) := dk_28 (dk_at dksX4_list_1 3 rfl rfl)
theorem dX4_list_28 : decode cX4_list 28 = .ok (.iconst 2, 1) := dk_5 (dk_at dksX4_list_1 4 rfl rfl)
theorem dX4_list_29 : decode cX4_list 29 = .ok (.if_icmp .le 6, 3) := dk_164 0 6 (dk_at dksX4_list_1 5 rfl rfl)
theorem dX4_list_32 : decode cX4_list 32 = .ok (.bipush (-5), 2) := dk_16 251 (dk_at dksX4_list_1 8 rfl rfl)
theorem dX4_list_34 : decode cX4_list 34 = .ok (.istore_n 3, 1) := dk_62 (dk_at dksX4_list_1 10 rfl rfl)
theorem dX4_list_35 : decode cX4_list 35 = .ok (.iload_n 3, 1) := dk_29 (dk_at dksX4_list_1 11 rfl rfl)
theorem dX4_list_36 : decode cX4_list 36 = .ok (.ifCond .eq 9, 3) := dk_153 0 9 (dk_at dksX4_list_1 12 rfl rfl)
theorem dX4_list_39 : decode cX4_list 39 = .ok (.aload_n 0, 1) := dk_42 (dk_at dksX4_list_1 15 rfl rfl)
theorem dX4_list_40 : decode cX4_list 40 = .ok (.iload_n 3, 1) := dk_29 (dk_at dksX4_list_1 16 rfl rfl)
theorem dX4_list_41 : decode cX4_list 41 = .ok (.invokevirtual 207, 3) := dk_182 0 207 (dk_at dksX4_list_1 17 rfl rfl)
theorem dX4_list_44 : decode cX4_list 44 = .ok (.ireturn, 1) := dk_172 (dk_at dksX4_list_1 20 rfl rfl)
theorem dX4_list_45 : decode cX4_list 45 = .ok (.iload_n 2, 1) := dk_28 (dk_at dksX4_list_1 21 rfl rfl)
theorem dX4_list_46 : decode cX4_list 46 = .ok (.iconst 2, 1) := dk_5 (dk_at dksX4_list_1 22 rfl rfl)
theorem dX4_list_47 : decode cX4_list 47 = .ok (.if_icmp .ne 77, 3) := dk_160 0 77 (dk_at dksX4_list_2 0 rfl rfl)
theorem dX4_list_50 : decode cX4_list 50 = .ok (.aload_n 0, 1) := dk_42 (dk_at dksX4_list_2 3 rfl rfl)
theorem dX4_list_51 : decode cX4_list 51 = .ok (.getfield 7, 3) := dk_180 0 7 (dk_at dksX4_list_2 4 rfl rfl)
theorem dX4_list_54 : decode cX4_list 54 = .ok (.istore 4, 2) := dk_54 4 (dk_at dksX4_list_2 7 rfl rfl)
theorem dX4_list_56 : decode cX4_list 56 = .ok (.iconst 0, 1) := dk_3 (dk_at dksX4_list_2 9 rfl rfl)
theorem dX4_list_57 : decode cX4_list 57 = .ok (.istore 5, 2) := dk_54 5 (dk_at dksX4_list_2 10 rfl rfl)
theorem dX4_list_59 : decode cX4_list 59 = .ok (.aload_n 0, 1) := dk_42 (dk_at dksX4_list_2 12 rfl rfl)
theorem dX4_list_60 : decode cX4_list 60 = .ok (.iconst 0, 1) := dk_3 (dk_at dksX4_list_2 13 rfl rfl)
theorem dX4_list_61 : decode cX4_list 61 = .ok (.putfield 7, 3) := dk_181 0 7 (dk_at dksX4_list_2 14 rfl rfl)
theorem dX4_list_64 : decode cX4_list 64 = .ok (.aload_n 0, 1) := dk_42 (dk_at dksX4_list_2 17 rfl rfl)
theorem dX4_list_65 : decode cX4_list 65 = .ok (.getfield 7, 3) := dk_180 0 7 (dk_at dksX4_list_2 18 rfl rfl)
theorem dX4_list_68 : decode cX4_list 68 = .ok (.iconst 2, 1) := dk_5 (dk_at dksX4_list_2 21 rfl rfl)
theorem dX4_list_69 : decode cX4_list 69 = .ok (.if_icmp .ge 46, 3) := dk_162 0 46 (dk_at dksX4_list_3 0 rfl rfl)
theorem dX4_list_72 : decode cX4_list 72 = .ok (.aload_n 0, 1) := dk_42 (dk_at dksX4_list_3 3 rfl rfl)
theorem dX4_list_73 : decode cX4_list 73 = .ok (.iload_n 1, 1) := dk_27 (dk_at dksX4_list_3 4 rfl rfl)
theorem dX4_list_74 : decode cX4_list 74 = .ok (.invokevirtual 260, 3) := dk_182 1 4 (dk_at dksX4_list_3 5 rfl rfl)
theorem dX4_list_77 : decode cX4_list 77 = .ok (.aload_n 0, 1) := dk_42 (dk_at dksX4_list_3 8 rfl rfl)
theorem dX4_list_78 : decode cX4_list 78 = .ok (.getfield 254, 3) := dk_180 0 254 (dk_at dksX4_list_3 9 rfl rfl)
theorem dX4_list_81 : decode cX4_list 81 = .ok (.ifCond .ne 21, 3) := dk_154 0 21 (dk_at dksX4_list_3 12 rfl rfl)
theorem dX4_list_84 : decode cX4_list 84 = .ok (.iload 5, 2) := dk_21 5 (dk_at dksX4_list_3 15 rfl rfl)
theorem dX4_list_86 : decode cX4_list 86 = .ok (.aload_n 0, 1) := dk_42 (dk_at dksX4_list_3 17 rfl rfl)
theorem dX4_list_87 : decode cX4_list 87 = .ok (.getfield 7, 3) := dk_180 0 7 (dk_at dksX4_list_3 18 rfl rfl)
theorem dX4_list_90 : decode cX4_list 90 = .ok (.iconst 1, 1) := dk_4 (dk_at dksX4_list_3 21 rfl rfl)
theorem dX4_list_91 : decode cX4_list 91 = .ok (.if_icmp .ne 7, 3) := dk_160 0 7 (dk_at dksX4_list_4 0 rfl rfl)
theorem dX4_list_94 : decode cX4_list 94 = .ok (.iconst 1, 1) := dk_4 (dk_at dksX4_list_4 3 rfl rfl)
theorem dX4_list_95 : decode cX4_list 95 = .ok (.goto 4, 3) := dk_167 0 4 (dk_at dksX4_list_4 4 rfl rfl)
theorem dX4_list_98 : decode cX4_list 98 = .ok (.iconst 2, 1) := dk_5 (dk_at dksX4_list_4 7 rfl rfl)
theorem dX4_list_99 : decode cX4_list 99 = .ok (.iadd, 1) := dk_96 (dk_at dksX4_list_4 8 rfl rfl)
theorem dX4_list_100 : decode cX4_list 100 = .ok (.istore 5, 2) := dk_54 5 (dk_at dksX4_list_4 9 rfl rfl)
theorem dX4_list_102 : decode cX4_list 102 = .ok (.aload_n 0, 1) := dk_42 (dk_at dksX4_list_4 11 rfl rfl)
theorem dX4_list_103 : decode cX4_list 103 = .ok (.dup, 1) := dk_89 (dk_at dksX4_list_4 12 rfl rfl)
theorem dX4_list_104 : decode cX4_list 104 = .ok (.getfield 7, 3) := dk_180 0 7 (dk_at dksX4_list_4 13 rfl rfl)
theorem dX4_list_107 : decode cX4_list 107 = .ok (.iconst 1, 1) := dk_4 (dk_at dksX4_list_4 16 rfl rfl)
theorem dX4_list_108 : decode cX4_list 108 = .ok (.iadd, 1) := dk_96 (dk_at dksX4_list_4 17 rfl rfl)
theorem dX4_list_109 : decode cX4_list 109 = .ok (.putfield 7, 3) := dk_181 0 7 (dk_at dksX4_list_4 18 rfl rfl)
theorem dX4_list_112 : decode cX4_list 112 = .ok (.goto (-48), 3) := dk_167 255 208 (dk_at dksX4_list_4 21 rfl rfl)
theorem dX4_list_115 : decode cX4_list 115 = .ok (.aload_n 0, 1) := dk_42 (dk_at dksX4_list_5 0 rfl rfl)
theorem dX4_list_116 : decode cX4_list 116 = .ok (.iload 4, 2) := dk_21 4 (dk_at dksX4_list_5 1 rfl rfl)
theorem dX4_list_118 : decode cX4_list 118 = .ok (.putfield 7, 3) := dk_181 0 7 (dk_at dksX4_list_5 3 rfl rfl)
theorem dX4_list_121 : decode cX4_list 121 = .ok (.iload 5, 2) := dk_21 5 (dk_at dksX4_list_5 6 rfl rfl)
theorem dX4_list_123 : decode cX4_list 123 = .ok (.ireturn, 1) := dk_172 (dk_at dksX4_list_5 8 rfl rfl)
theorem dX4_list_124 : decode cX4_list 124 = .ok (.aload_n 0, 1) := dk_42 (dk_at dksX4_list_5 9 rfl rfl)
theorem dX4_list_125 : decode cX4_list 125 = .ok (.iload_n 1, 1) := dk_27 (dk_at dksX4_list_5 10 rfl rfl)
theorem dX4_list_126 : decode cX4_list 126 = .ok (.invokevirtual 260, 3) := dk_182 1 4 (dk_at dksX4_list_5 11 rfl rfl)
theorem dX4_list_129 : decode cX4_list 129 = .ok (.iload_n 2, 1) := dk_28 (dk_at dksX4_list_5 14 rfl rfl)
theorem dX4_list_130 : decode cX4_list 130 = .ok (.ifCond .ne 10, 3) := dk_154 0 10 (dk_at dksX4_list_5 15 rfl rfl)
theorem dX4_list_133 : decode cX4_list 133 = .ok (.aload_n 0, 1) := dk_42 (dk_at dksX4_list_5 18 rfl rfl)
theorem dX4_list_134 : decode cX4_list 134 = .ok (.getfield 251, 3) := dk_180 0 251 (dk_at dksX4_list_5 19 rfl rfl)
theorem dX4_list_137 : decode cX4_list 137 = .ok (.goto 7, 3) := dk_167 0 7 (dk_at dksX4_list_6 0 rfl rfl)
theorem dX4_list_140 : decode cX4_list 140 = .ok (.aload_n 0, 1) := dk_42 (dk_at dksX4_list_6 3 rfl rfl)
theorem dX4_list_141 : decode cX4_list 141 = .ok (.getfield 254, 3) := dk_180 0 254 (dk_at dksX4_list_6 4 rfl rfl)
theorem dX4_list_144 : decode cX4_list 144 = .ok (.ireturn, 1) := dk_172 (dk_at dksX4_list_6 7 rfl rfl)
abbrev cX4_lists : ByteArray := prog_21_method_76_code
def yX4_lists : MethodName := ⟨RX4, "lists", "(I)V"⟩
def dkwX4_lists_3 : List UInt8 := [28, 181, 0, 251, 42, 89, 180, 0, 254, 29, 96, 181, 0, 254, 132, 2, 1, 167, 255, 180, 177]
abbrev dktX4_lists_3 : List UInt8 := dkwX4_lists_3 ++ []
def dkwX4_lists_2 : List UInt8 := [180, 0, 84, 120, 4, 100, 126, 182, 0, 107, 62, 29, 158, 0, 16, 42, 180, 0, 251, 2, 160, 0, 8, 42]
abbrev dktX4_lists_2 : List UInt8 := dkwX4_lists_2 ++ dktX4_lists_3
def dkwX4_lists_1 : List UInt8 := [182, 1, 1, 42, 28, 182, 0, 91, 153, 0, 11, 42, 28, 182, 0, 204, 167, 0, 4, 3, 130, 4, 42]
abbrev dktX4_lists_1 : List UInt8 := dkwX4_lists_1 ++ dktX4_lists_2
def dkwX4_lists_0 : List UInt8 := [42, 2, 181, 0, 251, 42, 3, 181, 0, 254, 3, 61, 28, 42, 180, 0, 84, 162, 0, 74, 42, 42, 27, 28]
abbrev dktX4_lists_0 : List UInt8 := dkwX4_lists_0 ++ dktX4_lists_1
theorem dksX4_lists_0 : cX4_lists.data.toList.drop 0 = dktX4_lists_0 := by decide +kernel
theorem dksX4_lists_1 : cX4_lists.data.toList.drop 24 = dktX4_lists_1 := dk_seg dksX4_lists_0 24 rfl rfl
theorem dksX4_lists_2 : cX4_lists.data.toList.drop 47 = dktX4_lists_2 := dk_seg dksX4_lists_1 23 rfl rfl
theorem dksX4_lists_3 : cX4_lists.data.toList.drop 71 = dktX4_lists_3 := dk_seg dksX4_lists_2 24 rfl rfl
theorem dX4_lists_0 : decode cX4_lists 0 = .ok (.aload_n 0, 1) := dk_42 (dk_at dksX4_lists_0 0 rfl rfl)
theorem dX4_lists_1 : decode cX4_lists 1 = .ok (.iconst (-1), 1) := dk_2 (dk_at dksX4_lists_0 1 rfl rfl)
theorem dX4_lists_2 : decode cX4_lists 2 = .ok (.putfield 251, 3) := dk_181 0 251 (dk_at dksX4_lists_0 2 rfl rfl)
theorem dX4_lists_5 : decode cX4_lists 5 = .ok (.aload_n 0, 1) := dk_42 (dk_at dksX4_lists_0 5 rfl rfl)
theorem dX4_lists_6 : decode cX4_lists 6 = .ok (.iconst 0, 1) := dk_3 (dk_at dksX4_lists_0 6 rfl rfl)
theorem dX4_lists_7 : decode cX4_lists 7 = .ok (.putfield 254, 3) := dk_181 0 254 (dk_at dksX4_lists_0 7 rfl rfl)
theorem dX4_lists_10 : decode cX4_lists 10 = .ok (.iconst 0, 1) := dk_3 (dk_at dksX4_lists_0 10 rfl rfl)
theorem dX4_lists_11 : decode cX4_lists 11 = .ok (.istore_n 2, 1) := dk_61 (dk_at dksX4_lists_0 11 rfl rfl)
theorem dX4_lists_12 : decode cX4_lists 12 = .ok (.iload_n 2, 1) := dk_28 (dk_at dksX4_lists_0 12 rfl rfl)
theorem dX4_lists_13 : decode cX4_lists 13 = .ok (.aload_n 0, 1) := dk_42 (dk_at dksX4_lists_0 13 rfl rfl)
theorem dX4_lists_14 : decode cX4_lists 14 = .ok (.getfield 84, 3) := dk_180 0 84 (dk_at dksX4_lists_0 14 rfl rfl)
theorem dX4_lists_17 : decode cX4_lists 17 = .ok (.if_icmp .ge 74, 3) := dk_162 0 74 (dk_at dksX4_lists_0 17 rfl rfl)
theorem dX4_lists_20 : decode cX4_lists 20 = .ok (.aload_n 0, 1) := dk_42 (dk_at dksX4_lists_0 20 rfl rfl)
theorem dX4_lists_21 : decode cX4_lists 21 = .ok (.aload_n 0, 1) := dk_42 (dk_at dksX4_lists_0 21 rfl rfl)
theorem dX4_lists_22 : decode cX4_lists 22 = .ok (.iload_n 1, 1) := dk_27 (dk_at dksX4_lists_0 22 rfl rfl)
theorem dX4_lists_23 : decode cX4_lists 23 = .ok (.iload_n 2, 1) := dk_28 (dk_at dksX4_lists_0 23 rfl rfl)
theorem dX4_lists_24 : decode cX4_lists 24 = .ok (.invokevirtual 257, 3) := dk_182 1 1 (dk_at dksX4_lists_1 0 rfl rfl)
theorem dX4_lists_27 : decode cX4_lists 27 = .ok (.aload_n 0, 1) := dk_42 (dk_at dksX4_lists_1 3 rfl rfl)
theorem dX4_lists_28 : decode cX4_lists 28 = .ok (.iload_n 2, 1) := dk_28 (dk_at dksX4_lists_1 4 rfl rfl)
theorem dX4_lists_29 : decode cX4_lists 29 = .ok (.invokevirtual 91, 3) := dk_182 0 91 (dk_at dksX4_lists_1 5 rfl rfl)
theorem dX4_lists_32 : decode cX4_lists 32 = .ok (.ifCond .eq 11, 3) := dk_153 0 11 (dk_at dksX4_lists_1 8 rfl rfl)
theorem dX4_lists_35 : decode cX4_lists 35 = .ok (.aload_n 0, 1) := dk_42 (dk_at dksX4_lists_1 11 rfl rfl)
theorem dX4_lists_36 : decode cX4_lists 36 = .ok (.iload_n 2, 1) := dk_28 (dk_at dksX4_lists_1 12 rfl rfl)
theorem dX4_lists_37 : decode cX4_lists 37 = .ok (.invokevirtual 204, 3) := dk_182 0 204 (dk_at dksX4_lists_1 13 rfl rfl)
theorem dX4_lists_40 : decode cX4_lists 40 = .ok (.goto 4, 3) := dk_167 0 4 (dk_at dksX4_lists_1 16 rfl rfl)
theorem dX4_lists_43 : decode cX4_lists 43 = .ok (.iconst 0, 1) := dk_3 (dk_at dksX4_lists_1 19 rfl rfl)
theorem dX4_lists_44 : decode cX4_lists 44 = .ok (.ixor, 1) := dk_130 (dk_at dksX4_lists_1 20 rfl rfl)
theorem dX4_lists_45 : decode cX4_lists 45 = .ok (.iconst 1, 1) := dk_4 (dk_at dksX4_lists_1 21 rfl rfl)
theorem dX4_lists_46 : decode cX4_lists 46 = .ok (.aload_n 0, 1) := dk_42 (dk_at dksX4_lists_1 22 rfl rfl)
theorem dX4_lists_47 : decode cX4_lists 47 = .ok (.getfield 84, 3) := dk_180 0 84 (dk_at dksX4_lists_2 0 rfl rfl)
theorem dX4_lists_50 : decode cX4_lists 50 = .ok (.ishl, 1) := dk_120 (dk_at dksX4_lists_2 3 rfl rfl)
theorem dX4_lists_51 : decode cX4_lists 51 = .ok (.iconst 1, 1) := dk_4 (dk_at dksX4_lists_2 4 rfl rfl)
theorem dX4_lists_52 : decode cX4_lists 52 = .ok (.isub, 1) := dk_100 (dk_at dksX4_lists_2 5 rfl rfl)
theorem dX4_lists_53 : decode cX4_lists 53 = .ok (.iand, 1) := dk_126 (dk_at dksX4_lists_2 6 rfl rfl)
theorem dX4_lists_54 : decode cX4_lists 54 = .ok (.invokevirtual 107, 3) := dk_182 0 107 (dk_at dksX4_lists_2 7 rfl rfl)
theorem dX4_lists_57 : decode cX4_lists 57 = .ok (.istore_n 3, 1) := dk_62 (dk_at dksX4_lists_2 10 rfl rfl)
theorem dX4_lists_58 : decode cX4_lists 58 = .ok (.iload_n 3, 1) := dk_29 (dk_at dksX4_lists_2 11 rfl rfl)
theorem dX4_lists_59 : decode cX4_lists 59 = .ok (.ifCond .le 16, 3) := dk_158 0 16 (dk_at dksX4_lists_2 12 rfl rfl)
theorem dX4_lists_62 : decode cX4_lists 62 = .ok (.aload_n 0, 1) := dk_42 (dk_at dksX4_lists_2 15 rfl rfl)
theorem dX4_lists_63 : decode cX4_lists 63 = .ok (.getfield 251, 3) := dk_180 0 251 (dk_at dksX4_lists_2 16 rfl rfl)
theorem dX4_lists_66 : decode cX4_lists 66 = .ok (.iconst (-1), 1) := dk_2 (dk_at dksX4_lists_2 19 rfl rfl)
theorem dX4_lists_67 : decode cX4_lists 67 = .ok (.if_icmp .ne 8, 3) := dk_160 0 8 (dk_at dksX4_lists_2 20 rfl rfl)
theorem dX4_lists_70 : decode cX4_lists 70 = .ok (.aload_n 0, 1) := dk_42 (dk_at dksX4_lists_2 23 rfl rfl)
theorem dX4_lists_71 : decode cX4_lists 71 = .ok (.iload_n 2, 1) := dk_28 (dk_at dksX4_lists_3 0 rfl rfl)
theorem dX4_lists_72 : decode cX4_lists 72 = .ok (.putfield 251, 3) := dk_181 0 251 (dk_at dksX4_lists_3 1 rfl rfl)
theorem dX4_lists_75 : decode cX4_lists 75 = .ok (.aload_n 0, 1) := dk_42 (dk_at dksX4_lists_3 4 rfl rfl)
theorem dX4_lists_76 : decode cX4_lists 76 = .ok (.dup, 1) := dk_89 (dk_at dksX4_lists_3 5 rfl rfl)
theorem dX4_lists_77 : decode cX4_lists 77 = .ok (.getfield 254, 3) := dk_180 0 254 (dk_at dksX4_lists_3 6 rfl rfl)
theorem dX4_lists_80 : decode cX4_lists 80 = .ok (.iload_n 3, 1) := dk_29 (dk_at dksX4_lists_3 9 rfl rfl)
theorem dX4_lists_81 : decode cX4_lists 81 = .ok (.iadd, 1) := dk_96 (dk_at dksX4_lists_3 10 rfl rfl)
theorem dX4_lists_82 : decode cX4_lists 82 = .ok (.putfield 254, 3) := dk_181 0 254 (dk_at dksX4_lists_3 11 rfl rfl)
theorem dX4_lists_85 : decode cX4_lists 85 = .ok (.iinc 2 1, 3) := dk_132 2 1 (dk_at dksX4_lists_3 14 rfl rfl)
theorem dX4_lists_88 : decode cX4_lists 88 = .ok (.goto (-76), 3) := dk_167 255 180 (dk_at dksX4_lists_3 17 rfl rfl)
theorem dX4_lists_91 : decode cX4_lists 91 = .ok (.return_, 1) := dk_177 (dk_at dksX4_lists_3 20 rfl rfl)
abbrev cX4_intAt : ByteArray := prog_21_method_18_code
def yX4_intAt : MethodName := ⟨RX4, "intAt", "(II)I"⟩
def dkwX4_intAt_0 : List UInt8 := [42, 180, 0, 59, 17, 0, 160, 27, 104, 28, 96, 47, 136, 172]
abbrev dktX4_intAt_0 : List UInt8 := dkwX4_intAt_0 ++ []
theorem dksX4_intAt_0 : cX4_intAt.data.toList.drop 0 = dktX4_intAt_0 := by decide +kernel
theorem dX4_intAt_0 : decode cX4_intAt 0 = .ok (.aload_n 0, 1) := dk_42 (dk_at dksX4_intAt_0 0 rfl rfl)
theorem dX4_intAt_1 : decode cX4_intAt 1 = .ok (.getfield 59, 3) := dk_180 0 59 (dk_at dksX4_intAt_0 1 rfl rfl)
theorem dX4_intAt_4 : decode cX4_intAt 4 = .ok (.sipush 160, 3) := dk_17 0 160 (dk_at dksX4_intAt_0 4 rfl rfl)
theorem dX4_intAt_7 : decode cX4_intAt 7 = .ok (.iload_n 1, 1) := dk_27 (dk_at dksX4_intAt_0 7 rfl rfl)
theorem dX4_intAt_8 : decode cX4_intAt 8 = .ok (.imul, 1) := dk_104 (dk_at dksX4_intAt_0 8 rfl rfl)
theorem dX4_intAt_9 : decode cX4_intAt 9 = .ok (.iload_n 2, 1) := dk_28 (dk_at dksX4_intAt_0 9 rfl rfl)
theorem dX4_intAt_10 : decode cX4_intAt 10 = .ok (.iadd, 1) := dk_96 (dk_at dksX4_intAt_0 10 rfl rfl)
theorem dX4_intAt_11 : decode cX4_intAt 11 = .ok (.laload, 1) := dk_47 (dk_at dksX4_intAt_0 11 rfl rfl)
theorem dX4_intAt_12 : decode cX4_intAt 12 = .ok (.l2i, 1) := dk_136 (dk_at dksX4_intAt_0 12 rfl rfl)
theorem dX4_intAt_13 : decode cX4_intAt 13 = .ok (.ireturn, 1) := dk_172 (dk_at dksX4_intAt_0 13 rfl rfl)
abbrev cX4_night : ByteArray := prog_21_method_78_code
def yX4_night : MethodName := ⟨RX4, "night", "(I)I"⟩
def dkwX4_night_4 : List UInt8 := [172]
abbrev dktX4_night_4 : List UInt8 := dkwX4_night_4 ++ []
def dkwX4_night_3 : List UInt8 := [120, 128, 61, 42, 180, 0, 41, 29, 4, 42, 180, 0, 41, 29, 46, 100, 79, 132, 3, 1, 167, 255, 192, 28]
abbrev dktX4_night_3 : List UInt8 := dkwX4_night_3 ++ dktX4_night_4
def dkwX4_night_2 : List UInt8 := [180, 0, 41, 29, 4, 42, 180, 0, 41, 29, 46, 100, 79, 42, 182, 0, 210, 27, 160, 0, 9, 28, 4, 29]
abbrev dktX4_night_2 : List UInt8 := dkwX4_night_2 ++ dktX4_night_3
def dkwX4_night_1 : List UInt8 := [3, 62, 29, 42, 180, 0, 84, 162, 0, 62, 42, 29, 182, 0, 91, 154, 0, 6, 167, 0, 45, 42]
abbrev dktX4_night_1 : List UInt8 := dkwX4_night_1 ++ dktX4_night_2
def dkwX4_night_0 : List UInt8 := [27, 155, 0, 14, 27, 42, 182, 0, 235, 2, 130, 126, 153, 0, 10, 42, 16, 250, 182, 0, 97, 172, 3, 61]
abbrev dktX4_night_0 : List UInt8 := dkwX4_night_0 ++ dktX4_night_1
theorem dksX4_night_0 : cX4_night.data.toList.drop 0 = dktX4_night_0 := by decide +kernel
theorem dksX4_night_1 : cX4_night.data.toList.drop 24 = dktX4_night_1 := dk_seg dksX4_night_0 24 rfl rfl
theorem dksX4_night_2 : cX4_night.data.toList.drop 46 = dktX4_night_2 := dk_seg dksX4_night_1 22 rfl rfl
theorem dksX4_night_3 : cX4_night.data.toList.drop 70 = dktX4_night_3 := dk_seg dksX4_night_2 24 rfl rfl
theorem dksX4_night_4 : cX4_night.data.toList.drop 94 = dktX4_night_4 := dk_seg dksX4_night_3 24 rfl rfl
theorem dX4_night_0 : decode cX4_night 0 = .ok (.iload_n 1, 1) := dk_27 (dk_at dksX4_night_0 0 rfl rfl)
theorem dX4_night_1 : decode cX4_night 1 = .ok (.ifCond .lt 14, 3) := dk_155 0 14 (dk_at dksX4_night_0 1 rfl rfl)
theorem dX4_night_4 : decode cX4_night 4 = .ok (.iload_n 1, 1) := dk_27 (dk_at dksX4_night_0 4 rfl rfl)
theorem dX4_night_5 : decode cX4_night 5 = .ok (.aload_n 0, 1) := dk_42 (dk_at dksX4_night_0 5 rfl rfl)
theorem dX4_night_6 : decode cX4_night 6 = .ok (.invokevirtual 235, 3) := dk_182 0 235 (dk_at dksX4_night_0 6 rfl rfl)
theorem dX4_night_9 : decode cX4_night 9 = .ok (.iconst (-1), 1) := dk_2 (dk_at dksX4_night_0 9 rfl rfl)
theorem dX4_night_10 : decode cX4_night 10 = .ok (.ixor, 1) := dk_130 (dk_at dksX4_night_0 10 rfl rfl)
theorem dX4_night_11 : decode cX4_night 11 = .ok (.iand, 1) := dk_126 (dk_at dksX4_night_0 11 rfl rfl)
theorem dX4_night_12 : decode cX4_night 12 = .ok (.ifCond .eq 10, 3) := dk_153 0 10 (dk_at dksX4_night_0 12 rfl rfl)
theorem dX4_night_15 : decode cX4_night 15 = .ok (.aload_n 0, 1) := dk_42 (dk_at dksX4_night_0 15 rfl rfl)
theorem dX4_night_16 : decode cX4_night 16 = .ok (.bipush (-6), 2) := dk_16 250 (dk_at dksX4_night_0 16 rfl rfl)
theorem dX4_night_18 : decode cX4_night 18 = .ok (.invokevirtual 97, 3) := dk_182 0 97 (dk_at dksX4_night_0 18 rfl rfl)
theorem dX4_night_21 : decode cX4_night 21 = .ok (.ireturn, 1) := dk_172 (dk_at dksX4_night_0 21 rfl rfl)
theorem dX4_night_22 : decode cX4_night 22 = .ok (.iconst 0, 1) := dk_3 (dk_at dksX4_night_0 22 rfl rfl)
theorem dX4_night_23 : decode cX4_night 23 = .ok (.istore_n 2, 1) := dk_61 (dk_at dksX4_night_0 23 rfl rfl)
theorem dX4_night_24 : decode cX4_night 24 = .ok (.iconst 0, 1) := dk_3 (dk_at dksX4_night_1 0 rfl rfl)
theorem dX4_night_25 : decode cX4_night 25 = .ok (.istore_n 3, 1) := dk_62 (dk_at dksX4_night_1 1 rfl rfl)
theorem dX4_night_26 : decode cX4_night 26 = .ok (.iload_n 3, 1) := dk_29 (dk_at dksX4_night_1 2 rfl rfl)
theorem dX4_night_27 : decode cX4_night 27 = .ok (.aload_n 0, 1) := dk_42 (dk_at dksX4_night_1 3 rfl rfl)
theorem dX4_night_28 : decode cX4_night 28 = .ok (.getfield 84, 3) := dk_180 0 84 (dk_at dksX4_night_1 4 rfl rfl)
theorem dX4_night_31 : decode cX4_night 31 = .ok (.if_icmp .ge 62, 3) := dk_162 0 62 (dk_at dksX4_night_1 7 rfl rfl)
theorem dX4_night_34 : decode cX4_night 34 = .ok (.aload_n 0, 1) := dk_42 (dk_at dksX4_night_1 10 rfl rfl)
theorem dX4_night_35 : decode cX4_night 35 = .ok (.iload_n 3, 1) := dk_29 (dk_at dksX4_night_1 11 rfl rfl)
theorem dX4_night_36 : decode cX4_night 36 = .ok (.invokevirtual 91, 3) := dk_182 0 91 (dk_at dksX4_night_1 12 rfl rfl)
theorem dX4_night_39 : decode cX4_night 39 = .ok (.ifCond .ne 6, 3) := dk_154 0 6 (dk_at dksX4_night_1 15 rfl rfl)
theorem dX4_night_42 : decode cX4_night 42 = .ok (.goto 45, 3) := dk_167 0 45 (dk_at dksX4_night_1 18 rfl rfl)
theorem dX4_night_45 : decode cX4_night 45 = .ok (.aload_n 0, 1) := dk_42 (dk_at dksX4_night_1 21 rfl rfl)
theorem dX4_night_46 : decode cX4_night 46 = .ok (.getfield 41, 3) := dk_180 0 41 (dk_at dksX4_night_2 0 rfl rfl)
theorem dX4_night_49 : decode cX4_night 49 = .ok (.iload_n 3, 1) := dk_29 (dk_at dksX4_night_2 3 rfl rfl)
theorem dX4_night_50 : decode cX4_night 50 = .ok (.iconst 1, 1) := dk_4 (dk_at dksX4_night_2 4 rfl rfl)
theorem dX4_night_51 : decode cX4_night 51 = .ok (.aload_n 0, 1) := dk_42 (dk_at dksX4_night_2 5 rfl rfl)
theorem dX4_night_52 : decode cX4_night 52 = .ok (.getfield 41, 3) := dk_180 0 41 (dk_at dksX4_night_2 6 rfl rfl)
theorem dX4_night_55 : decode cX4_night 55 = .ok (.iload_n 3, 1) := dk_29 (dk_at dksX4_night_2 9 rfl rfl)
theorem dX4_night_56 : decode cX4_night 56 = .ok (.iaload, 1) := dk_46 (dk_at dksX4_night_2 10 rfl rfl)
theorem dX4_night_57 : decode cX4_night 57 = .ok (.isub, 1) := dk_100 (dk_at dksX4_night_2 11 rfl rfl)
theorem dX4_night_58 : decode cX4_night 58 = .ok (.iastore, 1) := dk_79 (dk_at dksX4_night_2 12 rfl rfl)
theorem dX4_night_59 : decode cX4_night 59 = .ok (.aload_n 0, 1) := dk_42 (dk_at dksX4_night_2 13 rfl rfl)
theorem dX4_night_60 : decode cX4_night 60 = .ok (.invokevirtual 210, 3) := dk_182 0 210 (dk_at dksX4_night_2 14 rfl rfl)
theorem dX4_night_63 : decode cX4_night 63 = .ok (.iload_n 1, 1) := dk_27 (dk_at dksX4_night_2 17 rfl rfl)
theorem dX4_night_64 : decode cX4_night 64 = .ok (.if_icmp .ne 9, 3) := dk_160 0 9 (dk_at dksX4_night_2 18 rfl rfl)
theorem dX4_night_67 : decode cX4_night 67 = .ok (.iload_n 2, 1) := dk_28 (dk_at dksX4_night_2 21 rfl rfl)
theorem dX4_night_68 : decode cX4_night 68 = .ok (.iconst 1, 1) := dk_4 (dk_at dksX4_night_2 22 rfl rfl)
theorem dX4_night_69 : decode cX4_night 69 = .ok (.iload_n 3, 1) := dk_29 (dk_at dksX4_night_2 23 rfl rfl)
theorem dX4_night_70 : decode cX4_night 70 = .ok (.ishl, 1) := dk_120 (dk_at dksX4_night_3 0 rfl rfl)
theorem dX4_night_71 : decode cX4_night 71 = .ok (.ior, 1) := dk_128 (dk_at dksX4_night_3 1 rfl rfl)
theorem dX4_night_72 : decode cX4_night 72 = .ok (.istore_n 2, 1) := dk_61 (dk_at dksX4_night_3 2 rfl rfl)
theorem dX4_night_73 : decode cX4_night 73 = .ok (.aload_n 0, 1) := dk_42 (dk_at dksX4_night_3 3 rfl rfl)
theorem dX4_night_74 : decode cX4_night 74 = .ok (.getfield 41, 3) := dk_180 0 41 (dk_at dksX4_night_3 4 rfl rfl)
theorem dX4_night_77 : decode cX4_night 77 = .ok (.iload_n 3, 1) := dk_29 (dk_at dksX4_night_3 7 rfl rfl)
theorem dX4_night_78 : decode cX4_night 78 = .ok (.iconst 1, 1) := dk_4 (dk_at dksX4_night_3 8 rfl rfl)
theorem dX4_night_79 : decode cX4_night 79 = .ok (.aload_n 0, 1) := dk_42 (dk_at dksX4_night_3 9 rfl rfl)
theorem dX4_night_80 : decode cX4_night 80 = .ok (.getfield 41, 3) := dk_180 0 41 (dk_at dksX4_night_3 10 rfl rfl)
theorem dX4_night_83 : decode cX4_night 83 = .ok (.iload_n 3, 1) := dk_29 (dk_at dksX4_night_3 13 rfl rfl)
theorem dX4_night_84 : decode cX4_night 84 = .ok (.iaload, 1) := dk_46 (dk_at dksX4_night_3 14 rfl rfl)
theorem dX4_night_85 : decode cX4_night 85 = .ok (.isub, 1) := dk_100 (dk_at dksX4_night_3 15 rfl rfl)
theorem dX4_night_86 : decode cX4_night 86 = .ok (.iastore, 1) := dk_79 (dk_at dksX4_night_3 16 rfl rfl)
theorem dX4_night_87 : decode cX4_night 87 = .ok (.iinc 3 1, 3) := dk_132 3 1 (dk_at dksX4_night_3 17 rfl rfl)
theorem dX4_night_90 : decode cX4_night 90 = .ok (.goto (-64), 3) := dk_167 255 192 (dk_at dksX4_night_3 20 rfl rfl)
theorem dX4_night_93 : decode cX4_night 93 = .ok (.iload_n 2, 1) := dk_28 (dk_at dksX4_night_3 23 rfl rfl)
theorem dX4_night_94 : decode cX4_night 94 = .ok (.ireturn, 1) := dk_172 (dk_at dksX4_night_4 0 rfl rfl)
abbrev cX4_shuts : ByteArray := prog_21_method_79_code
def yX4_shuts : MethodName := ⟨RX4, "shuts", "()I"⟩
def dkwX4_shuts_1 : List UInt8 := [42, 180, 0, 219, 172]
abbrev dktX4_shuts_1 : List UInt8 := dkwX4_shuts_1 ++ []
def dkwX4_shuts_0 : List UInt8 := [42, 3, 182, 0, 228, 42, 180, 0, 222, 153, 0, 10, 42, 16, 250, 182, 0, 97, 172, 42, 4, 182, 0, 228]
abbrev dktX4_shuts_0 : List UInt8 := dkwX4_shuts_0 ++ dktX4_shuts_1
theorem dksX4_shuts_0 : cX4_shuts.data.toList.drop 0 = dktX4_shuts_0 := by decide +kernel
theorem dksX4_shuts_1 : cX4_shuts.data.toList.drop 24 = dktX4_shuts_1 := dk_seg dksX4_shuts_0 24 rfl rfl
theorem dX4_shuts_0 : decode cX4_shuts 0 = .ok (.aload_n 0, 1) := dk_42 (dk_at dksX4_shuts_0 0 rfl rfl)
theorem dX4_shuts_1 : decode cX4_shuts 1 = .ok (.iconst 0, 1) := dk_3 (dk_at dksX4_shuts_0 1 rfl rfl)
theorem dX4_shuts_2 : decode cX4_shuts 2 = .ok (.invokevirtual 228, 3) := dk_182 0 228 (dk_at dksX4_shuts_0 2 rfl rfl)
theorem dX4_shuts_5 : decode cX4_shuts 5 = .ok (.aload_n 0, 1) := dk_42 (dk_at dksX4_shuts_0 5 rfl rfl)
theorem dX4_shuts_6 : decode cX4_shuts 6 = .ok (.getfield 222, 3) := dk_180 0 222 (dk_at dksX4_shuts_0 6 rfl rfl)
theorem dX4_shuts_9 : decode cX4_shuts 9 = .ok (.ifCond .eq 10, 3) := dk_153 0 10 (dk_at dksX4_shuts_0 9 rfl rfl)
theorem dX4_shuts_12 : decode cX4_shuts 12 = .ok (.aload_n 0, 1) := dk_42 (dk_at dksX4_shuts_0 12 rfl rfl)
theorem dX4_shuts_13 : decode cX4_shuts 13 = .ok (.bipush (-6), 2) := dk_16 250 (dk_at dksX4_shuts_0 13 rfl rfl)
theorem dX4_shuts_15 : decode cX4_shuts 15 = .ok (.invokevirtual 97, 3) := dk_182 0 97 (dk_at dksX4_shuts_0 15 rfl rfl)
theorem dX4_shuts_18 : decode cX4_shuts 18 = .ok (.ireturn, 1) := dk_172 (dk_at dksX4_shuts_0 18 rfl rfl)
theorem dX4_shuts_19 : decode cX4_shuts 19 = .ok (.aload_n 0, 1) := dk_42 (dk_at dksX4_shuts_0 19 rfl rfl)
theorem dX4_shuts_20 : decode cX4_shuts 20 = .ok (.iconst 1, 1) := dk_4 (dk_at dksX4_shuts_0 20 rfl rfl)
theorem dX4_shuts_21 : decode cX4_shuts 21 = .ok (.invokevirtual 228, 3) := dk_182 0 228 (dk_at dksX4_shuts_0 21 rfl rfl)
theorem dX4_shuts_24 : decode cX4_shuts 24 = .ok (.aload_n 0, 1) := dk_42 (dk_at dksX4_shuts_1 0 rfl rfl)
theorem dX4_shuts_25 : decode cX4_shuts 25 = .ok (.getfield 219, 3) := dk_180 0 219 (dk_at dksX4_shuts_1 1 rfl rfl)
theorem dX4_shuts_28 : decode cX4_shuts 28 = .ok (.ireturn, 1) := dk_172 (dk_at dksX4_shuts_1 4 rfl rfl)
abbrev cX4_opens : ByteArray := prog_21_method_81_code
def yX4_opens : MethodName := ⟨RX4, "opens", "()I"⟩
def dkwX4_opens_1 : List UInt8 := [42, 180, 0, 44, 28, 3, 79, 42, 180, 0, 41, 28, 3, 79, 132, 2, 1, 167, 255, 231, 27, 172]
abbrev dktX4_opens_1 : List UInt8 := dkwX4_opens_1 ++ []
def dkwX4_opens_0 : List UInt8 := [42, 182, 1, 7, 42, 42, 182, 0, 232, 182, 0, 107, 96, 60, 3, 61, 28, 42, 180, 0, 84, 162, 0, 23]
abbrev dktX4_opens_0 : List UInt8 := dkwX4_opens_0 ++ dktX4_opens_1
theorem dksX4_opens_0 : cX4_opens.data.toList.drop 0 = dktX4_opens_0 := by decide +kernel
theorem dksX4_opens_1 : cX4_opens.data.toList.drop 24 = dktX4_opens_1 := dk_seg dksX4_opens_0 24 rfl rfl
theorem dX4_opens_0 : decode cX4_opens 0 = .ok (.aload_n 0, 1) := dk_42 (dk_at dksX4_opens_0 0 rfl rfl)
theorem dX4_opens_1 : decode cX4_opens 1 = .ok (.invokevirtual 263, 3) := dk_182 1 7 (dk_at dksX4_opens_0 1 rfl rfl)
theorem dX4_opens_4 : decode cX4_opens 4 = .ok (.aload_n 0, 1) := dk_42 (dk_at dksX4_opens_0 4 rfl rfl)
theorem dX4_opens_5 : decode cX4_opens 5 = .ok (.aload_n 0, 1) := dk_42 (dk_at dksX4_opens_0 5 rfl rfl)
theorem dX4_opens_6 : decode cX4_opens 6 = .ok (.invokevirtual 232, 3) := dk_182 0 232 (dk_at dksX4_opens_0 6 rfl rfl)
theorem dX4_opens_9 : decode cX4_opens 9 = .ok (.invokevirtual 107, 3) := dk_182 0 107 (dk_at dksX4_opens_0 9 rfl rfl)
theorem dX4_opens_12 : decode cX4_opens 12 = .ok (.iadd, 1) := dk_96 (dk_at dksX4_opens_0 12 rfl rfl)
theorem dX4_opens_13 : decode cX4_opens 13 = .ok (.istore_n 1, 1) := dk_60 (dk_at dksX4_opens_0 13 rfl rfl)
theorem dX4_opens_14 : decode cX4_opens 14 = .ok (.iconst 0, 1) := dk_3 (dk_at dksX4_opens_0 14 rfl rfl)
theorem dX4_opens_15 : decode cX4_opens 15 = .ok (.istore_n 2, 1) := dk_61 (dk_at dksX4_opens_0 15 rfl rfl)
theorem dX4_opens_16 : decode cX4_opens 16 = .ok (.iload_n 2, 1) := dk_28 (dk_at dksX4_opens_0 16 rfl rfl)
theorem dX4_opens_17 : decode cX4_opens 17 = .ok (.aload_n 0, 1) := dk_42 (dk_at dksX4_opens_0 17 rfl rfl)
theorem dX4_opens_18 : decode cX4_opens 18 = .ok (.getfield 84, 3) := dk_180 0 84 (dk_at dksX4_opens_0 18 rfl rfl)
theorem dX4_opens_21 : decode cX4_opens 21 = .ok (.if_icmp .ge 23, 3) := dk_162 0 23 (dk_at dksX4_opens_0 21 rfl rfl)
theorem dX4_opens_24 : decode cX4_opens 24 = .ok (.aload_n 0, 1) := dk_42 (dk_at dksX4_opens_1 0 rfl rfl)
theorem dX4_opens_25 : decode cX4_opens 25 = .ok (.getfield 44, 3) := dk_180 0 44 (dk_at dksX4_opens_1 1 rfl rfl)
theorem dX4_opens_28 : decode cX4_opens 28 = .ok (.iload_n 2, 1) := dk_28 (dk_at dksX4_opens_1 4 rfl rfl)
theorem dX4_opens_29 : decode cX4_opens 29 = .ok (.iconst 0, 1) := dk_3 (dk_at dksX4_opens_1 5 rfl rfl)
theorem dX4_opens_30 : decode cX4_opens 30 = .ok (.iastore, 1) := dk_79 (dk_at dksX4_opens_1 6 rfl rfl)
theorem dX4_opens_31 : decode cX4_opens 31 = .ok (.aload_n 0, 1) := dk_42 (dk_at dksX4_opens_1 7 rfl rfl)
theorem dX4_opens_32 : decode cX4_opens 32 = .ok (.getfield 41, 3) := dk_180 0 41 (dk_at dksX4_opens_1 8 rfl rfl)
theorem dX4_opens_35 : decode cX4_opens 35 = .ok (.iload_n 2, 1) := dk_28 (dk_at dksX4_opens_1 11 rfl rfl)
theorem dX4_opens_36 : decode cX4_opens 36 = .ok (.iconst 0, 1) := dk_3 (dk_at dksX4_opens_1 12 rfl rfl)
theorem dX4_opens_37 : decode cX4_opens 37 = .ok (.iastore, 1) := dk_79 (dk_at dksX4_opens_1 13 rfl rfl)
theorem dX4_opens_38 : decode cX4_opens 38 = .ok (.iinc 2 1, 3) := dk_132 2 1 (dk_at dksX4_opens_1 14 rfl rfl)
theorem dX4_opens_41 : decode cX4_opens 41 = .ok (.goto (-25), 3) := dk_167 255 231 (dk_at dksX4_opens_1 17 rfl rfl)
theorem dX4_opens_44 : decode cX4_opens 44 = .ok (.iload_n 1, 1) := dk_27 (dk_at dksX4_opens_1 20 rfl rfl)
theorem dX4_opens_45 : decode cX4_opens 45 = .ok (.ireturn, 1) := dk_172 (dk_at dksX4_opens_1 21 rfl rfl)
abbrev cX4_shutMany : ByteArray := prog_21_method_80_code
def yX4_shutMany : MethodName := ⟨RX4, "shutMany", "()I"⟩
def dkwX4_shutMany_1 : List UInt8 := [60, 132, 2, 1, 167, 255, 232, 27, 172]
abbrev dktX4_shutMany_1 : List UInt8 := dkwX4_shutMany_1 ++ []
def dkwX4_shutMany_0 : List UInt8 := [3, 60, 3, 61, 28, 42, 180, 0, 84, 162, 0, 22, 27, 42, 42, 180, 0, 44, 28, 46, 182, 0, 107, 96]
abbrev dktX4_shutMany_0 : List UInt8 := dkwX4_shutMany_0 ++ dktX4_shutMany_1
theorem dksX4_shutMany_0 : cX4_shutMany.data.toList.drop 0 = dktX4_shutMany_0 := by decide +kernel
theorem dksX4_shutMany_1 : cX4_shutMany.data.toList.drop 24 = dktX4_shutMany_1 := dk_seg dksX4_shutMany_0 24 rfl rfl
theorem dX4_shutMany_0 : decode cX4_shutMany 0 = .ok (.iconst 0, 1) := dk_3 (dk_at dksX4_shutMany_0 0 rfl rfl)
theorem dX4_shutMany_1 : decode cX4_shutMany 1 = .ok (.istore_n 1, 1) := dk_60 (dk_at dksX4_shutMany_0 1 rfl rfl)
theorem dX4_shutMany_2 : decode cX4_shutMany 2 = .ok (.iconst 0, 1) := dk_3 (dk_at dksX4_shutMany_0 2 rfl rfl)
theorem dX4_shutMany_3 : decode cX4_shutMany 3 = .ok (.istore_n 2, 1) := dk_61 (dk_at dksX4_shutMany_0 3 rfl rfl)
theorem dX4_shutMany_4 : decode cX4_shutMany 4 = .ok (.iload_n 2, 1) := dk_28 (dk_at dksX4_shutMany_0 4 rfl rfl)
theorem dX4_shutMany_5 : decode cX4_shutMany 5 = .ok (.aload_n 0, 1) := dk_42 (dk_at dksX4_shutMany_0 5 rfl rfl)
theorem dX4_shutMany_6 : decode cX4_shutMany 6 = .ok (.getfield 84, 3) := dk_180 0 84 (dk_at dksX4_shutMany_0 6 rfl rfl)
theorem dX4_shutMany_9 : decode cX4_shutMany 9 = .ok (.if_icmp .ge 22, 3) := dk_162 0 22 (dk_at dksX4_shutMany_0 9 rfl rfl)
theorem dX4_shutMany_12 : decode cX4_shutMany 12 = .ok (.iload_n 1, 1) := dk_27 (dk_at dksX4_shutMany_0 12 rfl rfl)
theorem dX4_shutMany_13 : decode cX4_shutMany 13 = .ok (.aload_n 0, 1) := dk_42 (dk_at dksX4_shutMany_0 13 rfl rfl)
theorem dX4_shutMany_14 : decode cX4_shutMany 14 = .ok (.aload_n 0, 1) := dk_42 (dk_at dksX4_shutMany_0 14 rfl rfl)
theorem dX4_shutMany_15 : decode cX4_shutMany 15 = .ok (.getfield 44, 3) := dk_180 0 44 (dk_at dksX4_shutMany_0 15 rfl rfl)
theorem dX4_shutMany_18 : decode cX4_shutMany 18 = .ok (.iload_n 2, 1) := dk_28 (dk_at dksX4_shutMany_0 18 rfl rfl)
theorem dX4_shutMany_19 : decode cX4_shutMany 19 = .ok (.iaload, 1) := dk_46 (dk_at dksX4_shutMany_0 19 rfl rfl)
theorem dX4_shutMany_20 : decode cX4_shutMany 20 = .ok (.invokevirtual 107, 3) := dk_182 0 107 (dk_at dksX4_shutMany_0 20 rfl rfl)
theorem dX4_shutMany_23 : decode cX4_shutMany 23 = .ok (.iadd, 1) := dk_96 (dk_at dksX4_shutMany_0 23 rfl rfl)
theorem dX4_shutMany_24 : decode cX4_shutMany 24 = .ok (.istore_n 1, 1) := dk_60 (dk_at dksX4_shutMany_1 0 rfl rfl)
theorem dX4_shutMany_25 : decode cX4_shutMany 25 = .ok (.iinc 2 1, 3) := dk_132 2 1 (dk_at dksX4_shutMany_1 1 rfl rfl)
theorem dX4_shutMany_28 : decode cX4_shutMany 28 = .ok (.goto (-24), 3) := dk_167 255 232 (dk_at dksX4_shutMany_1 4 rfl rfl)
theorem dX4_shutMany_31 : decode cX4_shutMany 31 = .ok (.iload_n 1, 1) := dk_27 (dk_at dksX4_shutMany_1 7 rfl rfl)
theorem dX4_shutMany_32 : decode cX4_shutMany 32 = .ok (.ireturn, 1) := dk_172 (dk_at dksX4_shutMany_1 8 rfl rfl)
abbrev cX4_years : ByteArray := prog_21_method_83_code
def yX4_years : MethodName := ⟨RX4, "years", "(I)I"⟩
def dkwX4_years_6 : List UInt8 := [181, 0, 173, 132, 3, 1, 167, 255, 133, 42, 180, 0, 173, 28, 100, 172]
abbrev dktX4_years_6 : List UInt8 := dkwX4_years_6 ++ []
def dkwX4_years_5 : List UInt8 := [42, 89, 180, 0, 173, 42, 42, 182, 0, 235, 182, 0, 107, 42, 42, 182, 0, 210, 182, 0, 107, 100, 96]
abbrev dktX4_years_5 : List UInt8 := dkwX4_years_5 ++ dktX4_years_6
def dkwX4_years_4 : List UInt8 := [180, 0, 35, 21, 4, 16, 20, 79, 132, 4, 1, 167, 255, 183, 42, 4, 42, 180, 0, 7, 100, 181, 0, 7]
abbrev dktX4_years_4 : List UInt8 := dkwX4_years_4 ++ dktX4_years_5
def dkwX4_years_3 : List UInt8 := [21, 4, 92, 46, 42, 182, 1, 11, 96, 79, 42, 180, 0, 35, 21, 4, 46, 16, 20, 164, 0, 12, 42]
abbrev dktX4_years_3 : List UInt8 := dkwX4_years_3 ++ dktX4_years_4
def dkwX4_years_2 : List UInt8 := [46, 5, 159, 0, 18, 42, 180, 0, 26, 21, 4, 46, 16, 6, 159, 0, 6, 167, 0, 38, 42, 180, 0, 35]
abbrev dktX4_years_2 : List UInt8 := dkwX4_years_2 ++ dktX4_years_3
def dkwX4_years_1 : List UInt8 := [62, 29, 27, 162, 0, 124, 3, 54, 4, 21, 4, 42, 180, 0, 84, 162, 0, 70, 42, 180, 0, 26, 21, 4]
abbrev dktX4_years_1 : List UInt8 := dkwX4_years_1 ++ dktX4_years_2
def dkwX4_years_0 : List UInt8 := [27, 4, 161, 0, 9, 27, 16, 30, 164, 0, 10, 42, 16, 250, 182, 0, 97, 172, 42, 180, 0, 173, 61, 3]
abbrev dktX4_years_0 : List UInt8 := dkwX4_years_0 ++ dktX4_years_1
theorem dksX4_years_0 : cX4_years.data.toList.drop 0 = dktX4_years_0 := by decide +kernel
theorem dksX4_years_1 : cX4_years.data.toList.drop 24 = dktX4_years_1 := dk_seg dksX4_years_0 24 rfl rfl
theorem dksX4_years_2 : cX4_years.data.toList.drop 48 = dktX4_years_2 := dk_seg dksX4_years_1 24 rfl rfl
theorem dksX4_years_3 : cX4_years.data.toList.drop 72 = dktX4_years_3 := dk_seg dksX4_years_2 24 rfl rfl
theorem dksX4_years_4 : cX4_years.data.toList.drop 95 = dktX4_years_4 := dk_seg dksX4_years_3 23 rfl rfl
theorem dksX4_years_5 : cX4_years.data.toList.drop 119 = dktX4_years_5 := dk_seg dksX4_years_4 24 rfl rfl
theorem dksX4_years_6 : cX4_years.data.toList.drop 142 = dktX4_years_6 := dk_seg dksX4_years_5 23 rfl rfl
theorem dX4_years_0 : decode cX4_years 0 = .ok (.iload_n 1, 1) := dk_27 (dk_at dksX4_years_0 0 rfl rfl)
theorem dX4_years_1 : decode cX4_years 1 = .ok (.iconst 1, 1) := dk_4 (dk_at dksX4_years_0 1 rfl rfl)
theorem dX4_years_2 : decode cX4_years 2 = .ok (.if_icmp .lt 9, 3) := dk_161 0 9 (dk_at dksX4_years_0 2 rfl rfl)
theorem dX4_years_5 : decode cX4_years 5 = .ok (.iload_n 1, 1) := dk_27 (dk_at dksX4_years_0 5 rfl rfl)
theorem dX4_years_6 : decode cX4_years 6 = .ok (.bipush 30, 2) := dk_16 30 (dk_at dksX4_years_0 6 rfl rfl)
theorem dX4_years_8 : decode cX4_years 8 = .ok (.if_icmp .le 10, 3) := dk_164 0 10 (dk_at dksX4_years_0 8 rfl rfl)
theorem dX4_years_11 : decode cX4_years 11 = .ok (.aload_n 0, 1) := dk_42 (dk_at dksX4_years_0 11 rfl rfl)
theorem dX4_years_12 : decode cX4_years 12 = .ok (.bipush (-6), 2) := dk_16 250 (dk_at dksX4_years_0 12 rfl rfl)
theorem dX4_years_14 : decode cX4_years 14 = .ok (.invokevirtual 97, 3) := dk_182 0 97 (dk_at dksX4_years_0 14 rfl rfl)
theorem dX4_years_17 : decode cX4_years 17 = .ok (.ireturn, 1) := dk_172 (dk_at dksX4_years_0 17 rfl rfl)
theorem dX4_years_18 : decode cX4_years 18 = .ok (.aload_n 0, 1) := dk_42 (dk_at dksX4_years_0 18 rfl rfl)
theorem dX4_years_19 : decode cX4_years 19 = .ok (.getfield 173, 3) := dk_180 0 173 (dk_at dksX4_years_0 19 rfl rfl)
theorem dX4_years_22 : decode cX4_years 22 = .ok (.istore_n 2, 1) := dk_61 (dk_at dksX4_years_0 22 rfl rfl)
theorem dX4_years_23 : decode cX4_years 23 = .ok (.iconst 0, 1) := dk_3 (dk_at dksX4_years_0 23 rfl rfl)
theorem dX4_years_24 : decode cX4_years 24 = .ok (.istore_n 3, 1) := dk_62 (dk_at dksX4_years_1 0 rfl rfl)
theorem dX4_years_25 : decode cX4_years 25 = .ok (.iload_n 3, 1) := dk_29 (dk_at dksX4_years_1 1 rfl rfl)
theorem dX4_years_26 : decode cX4_years 26 = .ok (.iload_n 1, 1) := dk_27 (dk_at dksX4_years_1 2 rfl rfl)
theorem dX4_years_27 : decode cX4_years 27 = .ok (.if_icmp .ge 124, 3) := dk_162 0 124 (dk_at dksX4_years_1 3 rfl rfl)
theorem dX4_years_30 : decode cX4_years 30 = .ok (.iconst 0, 1) := dk_3 (dk_at dksX4_years_1 6 rfl rfl)
theorem dX4_years_31 : decode cX4_years 31 = .ok (.istore 4, 2) := dk_54 4 (dk_at dksX4_years_1 7 rfl rfl)
theorem dX4_years_33 : decode cX4_years 33 = .ok (.iload 4, 2) := dk_21 4 (dk_at dksX4_years_1 9 rfl rfl)
theorem dX4_years_35 : decode cX4_years 35 = .ok (.aload_n 0, 1) := dk_42 (dk_at dksX4_years_1 11 rfl rfl)
theorem dX4_years_36 : decode cX4_years 36 = .ok (.getfield 84, 3) := dk_180 0 84 (dk_at dksX4_years_1 12 rfl rfl)
theorem dX4_years_39 : decode cX4_years 39 = .ok (.if_icmp .ge 70, 3) := dk_162 0 70 (dk_at dksX4_years_1 15 rfl rfl)
theorem dX4_years_42 : decode cX4_years 42 = .ok (.aload_n 0, 1) := dk_42 (dk_at dksX4_years_1 18 rfl rfl)
theorem dX4_years_43 : decode cX4_years 43 = .ok (.getfield 26, 3) := dk_180 0 26 (dk_at dksX4_years_1 19 rfl rfl)
theorem dX4_years_46 : decode cX4_years 46 = .ok (.iload 4, 2) := dk_21 4 (dk_at dksX4_years_1 22 rfl rfl)
theorem dX4_years_48 : decode cX4_years 48 = .ok (.iaload, 1) := dk_46 (dk_at dksX4_years_2 0 rfl rfl)
theorem dX4_years_49 : decode cX4_years 49 = .ok (.iconst 2, 1) := dk_5 (dk_at dksX4_years_2 1 rfl rfl)
theorem dX4_years_50 : decode cX4_years 50 = .ok (.if_icmp .eq 18, 3) := dk_159 0 18 (dk_at dksX4_years_2 2 rfl rfl)
theorem dX4_years_53 : decode cX4_years 53 = .ok (.aload_n 0, 1) := dk_42 (dk_at dksX4_years_2 5 rfl rfl)
theorem dX4_years_54 : decode cX4_years 54 = .ok (.getfield 26, 3) := dk_180 0 26 (dk_at dksX4_years_2 6 rfl rfl)
theorem dX4_years_57 : decode cX4_years 57 = .ok (.iload 4, 2) := dk_21 4 (dk_at dksX4_years_2 9 rfl rfl)
theorem dX4_years_59 : decode cX4_years 59 = .ok (.iaload, 1) := dk_46 (dk_at dksX4_years_2 11 rfl rfl)
theorem dX4_years_60 : decode cX4_years 60 = .ok (.bipush 6, 2) := dk_16 6 (dk_at dksX4_years_2 12 rfl rfl)
theorem dX4_years_62 : decode cX4_years 62 = .ok (.if_icmp .eq 6, 3) := dk_159 0 6 (dk_at dksX4_years_2 14 rfl rfl)
theorem dX4_years_65 : decode cX4_years 65 = .ok (.goto 38, 3) := dk_167 0 38 (dk_at dksX4_years_2 17 rfl rfl)
theorem dX4_years_68 : decode cX4_years 68 = .ok (.aload_n 0, 1) := dk_42 (dk_at dksX4_years_2 20 rfl rfl)
theorem dX4_years_69 : decode cX4_years 69 = .ok (.getfield 35, 3) := dk_180 0 35 (dk_at dksX4_years_2 21 rfl rfl)
theorem dX4_years_72 : decode cX4_years 72 = .ok (.iload 4, 2) := dk_21 4 (dk_at dksX4_years_3 0 rfl rfl)
theorem dX4_years_74 : decode cX4_years 74 = .ok (.dup2, 1) := dk_92 (dk_at dksX4_years_3 2 rfl rfl)
theorem dX4_years_75 : decode cX4_years 75 = .ok (.iaload, 1) := dk_46 (dk_at dksX4_years_3 3 rfl rfl)
theorem dX4_years_76 : decode cX4_years 76 = .ok (.aload_n 0, 1) := dk_42 (dk_at dksX4_years_3 4 rfl rfl)
theorem dX4_years_77 : decode cX4_years 77 = .ok (.invokevirtual 267, 3) := dk_182 1 11 (dk_at dksX4_years_3 5 rfl rfl)
theorem dX4_years_80 : decode cX4_years 80 = .ok (.iadd, 1) := dk_96 (dk_at dksX4_years_3 8 rfl rfl)
theorem dX4_years_81 : decode cX4_years 81 = .ok (.iastore, 1) := dk_79 (dk_at dksX4_years_3 9 rfl rfl)
theorem dX4_years_82 : decode cX4_years 82 = .ok (.aload_n 0, 1) := dk_42 (dk_at dksX4_years_3 10 rfl rfl)
theorem dX4_years_83 : decode cX4_years 83 = .ok (.getfield 35, 3) := dk_180 0 35 (dk_at dksX4_years_3 11 rfl rfl)
theorem dX4_years_86 : decode cX4_years 86 = .ok (.iload 4, 2) := dk_21 4 (dk_at dksX4_years_3 14 rfl rfl)
theorem dX4_years_88 : decode cX4_years 88 = .ok (.iaload, 1) := dk_46 (dk_at dksX4_years_3 16 rfl rfl)
theorem dX4_years_89 : decode cX4_years 89 = .ok (.bipush 20, 2) := dk_16 20 (dk_at dksX4_years_3 17 rfl rfl)
theorem dX4_years_91 : decode cX4_years 91 = .ok (.if_icmp .le 12, 3) := dk_164 0 12 (dk_at dksX4_years_3 19 rfl rfl)
theorem dX4_years_94 : decode cX4_years 94 = .ok (.aload_n 0, 1) := dk_42 (dk_at dksX4_years_3 22 rfl rfl)
theorem dX4_years_95 : decode cX4_years 95 = .ok (.getfield 35, 3) := dk_180 0 35 (dk_at dksX4_years_4 0 rfl rfl)
theorem dX4_years_98 : decode cX4_years 98 = .ok (.iload 4, 2) := dk_21 4 (dk_at dksX4_years_4 3 rfl rfl)
theorem dX4_years_100 : decode cX4_years 100 = .ok (.bipush 20, 2) := dk_16 20 (dk_at dksX4_years_4 5 rfl rfl)
theorem dX4_years_102 : decode cX4_years 102 = .ok (.iastore, 1) := dk_79 (dk_at dksX4_years_4 7 rfl rfl)
theorem dX4_years_103 : decode cX4_years 103 = .ok (.iinc 4 1, 3) := dk_132 4 1 (dk_at dksX4_years_4 8 rfl rfl)
theorem dX4_years_106 : decode cX4_years 106 = .ok (.goto (-73), 3) := dk_167 255 183 (dk_at dksX4_years_4 11 rfl rfl)
theorem dX4_years_109 : decode cX4_years 109 = .ok (.aload_n 0, 1) := dk_42 (dk_at dksX4_years_4 14 rfl rfl)
theorem dX4_years_110 : decode cX4_years 110 = .ok (.iconst 1, 1) := dk_4 (dk_at dksX4_years_4 15 rfl rfl)
theorem dX4_years_111 : decode cX4_years 111 = .ok (.aload_n 0, 1) := dk_42 (dk_at dksX4_years_4 16 rfl rfl)
theorem dX4_years_112 : decode cX4_years 112 = .ok (.getfield 7, 3) := dk_180 0 7 (dk_at dksX4_years_4 17 rfl rfl)
theorem dX4_years_115 : decode cX4_years 115 = .ok (.isub, 1) := dk_100 (dk_at dksX4_years_4 20 rfl rfl)
theorem dX4_years_116 : decode cX4_years 116 = .ok (.putfield 7, 3) := dk_181 0 7 (dk_at dksX4_years_4 21 rfl rfl)
theorem dX4_years_119 : decode cX4_years 119 = .ok (.aload_n 0, 1) := dk_42 (dk_at dksX4_years_5 0 rfl rfl)
theorem dX4_years_120 : decode cX4_years 120 = .ok (.dup, 1) := dk_89 (dk_at dksX4_years_5 1 rfl rfl)
theorem dX4_years_121 : decode cX4_years 121 = .ok (.getfield 173, 3) := dk_180 0 173 (dk_at dksX4_years_5 2 rfl rfl)
theorem dX4_years_124 : decode cX4_years 124 = .ok (.aload_n 0, 1) := dk_42 (dk_at dksX4_years_5 5 rfl rfl)
theorem dX4_years_125 : decode cX4_years 125 = .ok (.aload_n 0, 1) := dk_42 (dk_at dksX4_years_5 6 rfl rfl)
theorem dX4_years_126 : decode cX4_years 126 = .ok (.invokevirtual 235, 3) := dk_182 0 235 (dk_at dksX4_years_5 7 rfl rfl)
theorem dX4_years_129 : decode cX4_years 129 = .ok (.invokevirtual 107, 3) := dk_182 0 107 (dk_at dksX4_years_5 10 rfl rfl)
theorem dX4_years_132 : decode cX4_years 132 = .ok (.aload_n 0, 1) := dk_42 (dk_at dksX4_years_5 13 rfl rfl)
theorem dX4_years_133 : decode cX4_years 133 = .ok (.aload_n 0, 1) := dk_42 (dk_at dksX4_years_5 14 rfl rfl)
theorem dX4_years_134 : decode cX4_years 134 = .ok (.invokevirtual 210, 3) := dk_182 0 210 (dk_at dksX4_years_5 15 rfl rfl)
theorem dX4_years_137 : decode cX4_years 137 = .ok (.invokevirtual 107, 3) := dk_182 0 107 (dk_at dksX4_years_5 18 rfl rfl)
theorem dX4_years_140 : decode cX4_years 140 = .ok (.isub, 1) := dk_100 (dk_at dksX4_years_5 21 rfl rfl)
theorem dX4_years_141 : decode cX4_years 141 = .ok (.iadd, 1) := dk_96 (dk_at dksX4_years_5 22 rfl rfl)
theorem dX4_years_142 : decode cX4_years 142 = .ok (.putfield 173, 3) := dk_181 0 173 (dk_at dksX4_years_6 0 rfl rfl)
theorem dX4_years_145 : decode cX4_years 145 = .ok (.iinc 3 1, 3) := dk_132 3 1 (dk_at dksX4_years_6 3 rfl rfl)
theorem dX4_years_148 : decode cX4_years 148 = .ok (.goto (-123), 3) := dk_167 255 133 (dk_at dksX4_years_6 6 rfl rfl)
theorem dX4_years_151 : decode cX4_years 151 = .ok (.aload_n 0, 1) := dk_42 (dk_at dksX4_years_6 9 rfl rfl)
theorem dX4_years_152 : decode cX4_years 152 = .ok (.getfield 173, 3) := dk_180 0 173 (dk_at dksX4_years_6 10 rfl rfl)
theorem dX4_years_155 : decode cX4_years 155 = .ok (.iload_n 2, 1) := dk_28 (dk_at dksX4_years_6 13 rfl rfl)
theorem dX4_years_156 : decode cX4_years 156 = .ok (.isub, 1) := dk_100 (dk_at dksX4_years_6 14 rfl rfl)
theorem dX4_years_157 : decode cX4_years 157 = .ok (.ireturn, 1) := dk_172 (dk_at dksX4_years_6 15 rfl rfl)
abbrev cX4_draws3 : ByteArray := prog_21_method_82_code
def yX4_draws3 : MethodName := ⟨RX4, "draws3", "()I"⟩
def dkwX4_draws3_1 : List UInt8 := [112, 172]
abbrev dktX4_draws3_1 : List UInt8 := dkwX4_draws3_1 ++ []
def dkwX4_draws3_0 : List UInt8 := [42, 42, 180, 0, 16, 19, 1, 10, 104, 17, 48, 57, 96, 181, 0, 16, 42, 180, 0, 16, 16, 16, 124, 6]
abbrev dktX4_draws3_0 : List UInt8 := dkwX4_draws3_0 ++ dktX4_draws3_1
theorem dksX4_draws3_0 : cX4_draws3.data.toList.drop 0 = dktX4_draws3_0 := by decide +kernel
theorem dksX4_draws3_1 : cX4_draws3.data.toList.drop 24 = dktX4_draws3_1 := dk_seg dksX4_draws3_0 24 rfl rfl
theorem dX4_draws3_0 : decode cX4_draws3 0 = .ok (.aload_n 0, 1) := dk_42 (dk_at dksX4_draws3_0 0 rfl rfl)
theorem dX4_draws3_1 : decode cX4_draws3 1 = .ok (.aload_n 0, 1) := dk_42 (dk_at dksX4_draws3_0 1 rfl rfl)
theorem dX4_draws3_2 : decode cX4_draws3 2 = .ok (.getfield 16, 3) := dk_180 0 16 (dk_at dksX4_draws3_0 2 rfl rfl)
theorem dX4_draws3_5 : decode cX4_draws3 5 = .ok (.ldc_w 266, 3) := dk_19 1 10 (dk_at dksX4_draws3_0 5 rfl rfl)
theorem dX4_draws3_8 : decode cX4_draws3 8 = .ok (.imul, 1) := dk_104 (dk_at dksX4_draws3_0 8 rfl rfl)
theorem dX4_draws3_9 : decode cX4_draws3 9 = .ok (.sipush 12345, 3) := dk_17 48 57 (dk_at dksX4_draws3_0 9 rfl rfl)
theorem dX4_draws3_12 : decode cX4_draws3 12 = .ok (.iadd, 1) := dk_96 (dk_at dksX4_draws3_0 12 rfl rfl)
theorem dX4_draws3_13 : decode cX4_draws3 13 = .ok (.putfield 16, 3) := dk_181 0 16 (dk_at dksX4_draws3_0 13 rfl rfl)
theorem dX4_draws3_16 : decode cX4_draws3 16 = .ok (.aload_n 0, 1) := dk_42 (dk_at dksX4_draws3_0 16 rfl rfl)
theorem dX4_draws3_17 : decode cX4_draws3 17 = .ok (.getfield 16, 3) := dk_180 0 16 (dk_at dksX4_draws3_0 17 rfl rfl)
theorem dX4_draws3_20 : decode cX4_draws3 20 = .ok (.bipush 16, 2) := dk_16 16 (dk_at dksX4_draws3_0 20 rfl rfl)
theorem dX4_draws3_22 : decode cX4_draws3 22 = .ok (.iushr, 1) := dk_124 (dk_at dksX4_draws3_0 22 rfl rfl)
theorem dX4_draws3_23 : decode cX4_draws3 23 = .ok (.iconst 3, 1) := dk_6 (dk_at dksX4_draws3_0 23 rfl rfl)
theorem dX4_draws3_24 : decode cX4_draws3 24 = .ok (.irem, 1) := dk_112 (dk_at dksX4_draws3_1 0 rfl rfl)
theorem dX4_draws3_25 : decode cX4_draws3 25 = .ok (.ireturn, 1) := dk_172 (dk_at dksX4_draws3_1 1 rfl rfl)
abbrev cX4_seed : ByteArray := prog_21_method_84_code
def yX4_seed : MethodName := ⟨RX4, "seed", "(I)I"⟩
def dkwX4_seed_0 : List UInt8 := [42, 180, 0, 16, 61, 42, 27, 181, 0, 16, 28, 172]
abbrev dktX4_seed_0 : List UInt8 := dkwX4_seed_0 ++ []
theorem dksX4_seed_0 : cX4_seed.data.toList.drop 0 = dktX4_seed_0 := by decide +kernel
theorem dX4_seed_0 : decode cX4_seed 0 = .ok (.aload_n 0, 1) := dk_42 (dk_at dksX4_seed_0 0 rfl rfl)
theorem dX4_seed_1 : decode cX4_seed 1 = .ok (.getfield 16, 3) := dk_180 0 16 (dk_at dksX4_seed_0 1 rfl rfl)
theorem dX4_seed_4 : decode cX4_seed 4 = .ok (.istore_n 2, 1) := dk_61 (dk_at dksX4_seed_0 4 rfl rfl)
theorem dX4_seed_5 : decode cX4_seed 5 = .ok (.aload_n 0, 1) := dk_42 (dk_at dksX4_seed_0 5 rfl rfl)
theorem dX4_seed_6 : decode cX4_seed 6 = .ok (.iload_n 1, 1) := dk_27 (dk_at dksX4_seed_0 6 rfl rfl)
theorem dX4_seed_7 : decode cX4_seed 7 = .ok (.putfield 16, 3) := dk_181 0 16 (dk_at dksX4_seed_0 7 rfl rfl)
theorem dX4_seed_10 : decode cX4_seed 10 = .ok (.iload_n 2, 1) := dk_28 (dk_at dksX4_seed_0 10 rfl rfl)
theorem dX4_seed_11 : decode cX4_seed 11 = .ok (.ireturn, 1) := dk_172 (dk_at dksX4_seed_0 11 rfl rfl)
abbrev cX4_act : ByteArray := prog_21_method_89_code
def yX4_act : MethodName := ⟨RX4, "act", "(III)I"⟩
def dkwX4_act_2 : List UInt8 := [167, 0, 9, 42, 27, 29, 182, 1, 26, 172]
abbrev dktX4_act_2 : List UInt8 := dkwX4_act_2 ++ []
def dkwX4_act_1 : List UInt8 := [28, 154, 0, 12, 42, 27, 29, 182, 1, 20, 167, 0, 23, 28, 4, 160, 0, 12, 42, 27, 29, 182, 1, 23]
abbrev dktX4_act_1 : List UInt8 := dkwX4_act_1 ++ dktX4_act_2
def dkwX4_act_0 : List UInt8 := [42, 3, 181, 1, 14, 42, 27, 182, 0, 87, 153, 0, 12, 28, 155, 0, 8, 28, 5, 164, 0, 5, 3, 172]
abbrev dktX4_act_0 : List UInt8 := dkwX4_act_0 ++ dktX4_act_1
theorem dksX4_act_0 : cX4_act.data.toList.drop 0 = dktX4_act_0 := by decide +kernel
theorem dksX4_act_1 : cX4_act.data.toList.drop 24 = dktX4_act_1 := dk_seg dksX4_act_0 24 rfl rfl
theorem dksX4_act_2 : cX4_act.data.toList.drop 48 = dktX4_act_2 := dk_seg dksX4_act_1 24 rfl rfl
theorem dX4_act_0 : decode cX4_act 0 = .ok (.aload_n 0, 1) := dk_42 (dk_at dksX4_act_0 0 rfl rfl)
theorem dX4_act_1 : decode cX4_act 1 = .ok (.iconst 0, 1) := dk_3 (dk_at dksX4_act_0 1 rfl rfl)
theorem dX4_act_2 : decode cX4_act 2 = .ok (.putfield 270, 3) := dk_181 1 14 (dk_at dksX4_act_0 2 rfl rfl)
theorem dX4_act_5 : decode cX4_act 5 = .ok (.aload_n 0, 1) := dk_42 (dk_at dksX4_act_0 5 rfl rfl)
theorem dX4_act_6 : decode cX4_act 6 = .ok (.iload_n 1, 1) := dk_27 (dk_at dksX4_act_0 6 rfl rfl)
theorem dX4_act_7 : decode cX4_act 7 = .ok (.invokevirtual 87, 3) := dk_182 0 87 (dk_at dksX4_act_0 7 rfl rfl)
theorem dX4_act_10 : decode cX4_act 10 = .ok (.ifCond .eq 12, 3) := dk_153 0 12 (dk_at dksX4_act_0 10 rfl rfl)
theorem dX4_act_13 : decode cX4_act 13 = .ok (.iload_n 2, 1) := dk_28 (dk_at dksX4_act_0 13 rfl rfl)
theorem dX4_act_14 : decode cX4_act 14 = .ok (.ifCond .lt 8, 3) := dk_155 0 8 (dk_at dksX4_act_0 14 rfl rfl)
theorem dX4_act_17 : decode cX4_act 17 = .ok (.iload_n 2, 1) := dk_28 (dk_at dksX4_act_0 17 rfl rfl)
theorem dX4_act_18 : decode cX4_act 18 = .ok (.iconst 2, 1) := dk_5 (dk_at dksX4_act_0 18 rfl rfl)
theorem dX4_act_19 : decode cX4_act 19 = .ok (.if_icmp .le 5, 3) := dk_164 0 5 (dk_at dksX4_act_0 19 rfl rfl)
theorem dX4_act_22 : decode cX4_act 22 = .ok (.iconst 0, 1) := dk_3 (dk_at dksX4_act_0 22 rfl rfl)
theorem dX4_act_23 : decode cX4_act 23 = .ok (.ireturn, 1) := dk_172 (dk_at dksX4_act_0 23 rfl rfl)
theorem dX4_act_24 : decode cX4_act 24 = .ok (.iload_n 2, 1) := dk_28 (dk_at dksX4_act_1 0 rfl rfl)
theorem dX4_act_25 : decode cX4_act 25 = .ok (.ifCond .ne 12, 3) := dk_154 0 12 (dk_at dksX4_act_1 1 rfl rfl)
theorem dX4_act_28 : decode cX4_act 28 = .ok (.aload_n 0, 1) := dk_42 (dk_at dksX4_act_1 4 rfl rfl)
theorem dX4_act_29 : decode cX4_act 29 = .ok (.iload_n 1, 1) := dk_27 (dk_at dksX4_act_1 5 rfl rfl)
theorem dX4_act_30 : decode cX4_act 30 = .ok (.iload_n 3, 1) := dk_29 (dk_at dksX4_act_1 6 rfl rfl)
theorem dX4_act_31 : decode cX4_act 31 = .ok (.invokevirtual 276, 3) := dk_182 1 20 (dk_at dksX4_act_1 7 rfl rfl)
theorem dX4_act_34 : decode cX4_act 34 = .ok (.goto 23, 3) := dk_167 0 23 (dk_at dksX4_act_1 10 rfl rfl)
theorem dX4_act_37 : decode cX4_act 37 = .ok (.iload_n 2, 1) := dk_28 (dk_at dksX4_act_1 13 rfl rfl)
theorem dX4_act_38 : decode cX4_act 38 = .ok (.iconst 1, 1) := dk_4 (dk_at dksX4_act_1 14 rfl rfl)
theorem dX4_act_39 : decode cX4_act 39 = .ok (.if_icmp .ne 12, 3) := dk_160 0 12 (dk_at dksX4_act_1 15 rfl rfl)
theorem dX4_act_42 : decode cX4_act 42 = .ok (.aload_n 0, 1) := dk_42 (dk_at dksX4_act_1 18 rfl rfl)
theorem dX4_act_43 : decode cX4_act 43 = .ok (.iload_n 1, 1) := dk_27 (dk_at dksX4_act_1 19 rfl rfl)
theorem dX4_act_44 : decode cX4_act 44 = .ok (.iload_n 3, 1) := dk_29 (dk_at dksX4_act_1 20 rfl rfl)
theorem dX4_act_45 : decode cX4_act 45 = .ok (.invokevirtual 279, 3) := dk_182 1 23 (dk_at dksX4_act_1 21 rfl rfl)
theorem dX4_act_48 : decode cX4_act 48 = .ok (.goto 9, 3) := dk_167 0 9 (dk_at dksX4_act_2 0 rfl rfl)
theorem dX4_act_51 : decode cX4_act 51 = .ok (.aload_n 0, 1) := dk_42 (dk_at dksX4_act_2 3 rfl rfl)
theorem dX4_act_52 : decode cX4_act 52 = .ok (.iload_n 1, 1) := dk_27 (dk_at dksX4_act_2 4 rfl rfl)
theorem dX4_act_53 : decode cX4_act 53 = .ok (.iload_n 3, 1) := dk_29 (dk_at dksX4_act_2 5 rfl rfl)
theorem dX4_act_54 : decode cX4_act 54 = .ok (.invokevirtual 282, 3) := dk_182 1 26 (dk_at dksX4_act_2 6 rfl rfl)
theorem dX4_act_57 : decode cX4_act 57 = .ok (.ireturn, 1) := dk_172 (dk_at dksX4_act_2 9 rfl rfl)
abbrev cX4_standing : ByteArray := prog_21_method_86_code
def yX4_standing : MethodName := ⟨RX4, "standing", "(II)I"⟩
def dkwX4_standing_4 : List UInt8 := [160, 0, 10, 21, 5, 5, 104, 167, 0, 5, 21, 5, 172]
abbrev dktX4_standing_4 : List UInt8 := dkwX4_standing_4 ++ []
def dkwX4_standing_3 : List UInt8 := [167, 0, 6, 28, 27, 96, 54, 5, 29, 7, 160, 0, 10, 21, 5, 27, 100, 167, 0, 18, 29, 16, 6]
abbrev dktX4_standing_3 : List UInt8 := dkwX4_standing_3 ++ dktX4_standing_4
def dkwX4_standing_2 : List UInt8 := [182, 1, 17, 42, 16, 10, 182, 1, 17, 21, 4, 153, 0, 16, 28, 27, 96, 42, 180, 0, 38, 27, 46, 96]
abbrev dktX4_standing_2 : List UInt8 := dkwX4_standing_2 ++ dktX4_standing_3
def dkwX4_standing_1 : List UInt8 := [182, 1, 17, 29, 16, 6, 160, 0, 9, 42, 16, 70, 182, 1, 17, 21, 4, 153, 0, 9, 42, 16, 20]
abbrev dktX4_standing_1 : List UInt8 := dkwX4_standing_1 ++ dktX4_standing_2
def dkwX4_standing_0 : List UInt8 := [42, 180, 0, 26, 27, 46, 62, 42, 27, 182, 0, 91, 54, 4, 29, 7, 160, 0, 9, 42, 16, 51]
abbrev dktX4_standing_0 : List UInt8 := dkwX4_standing_0 ++ dktX4_standing_1
theorem dksX4_standing_0 : cX4_standing.data.toList.drop 0 = dktX4_standing_0 := by decide +kernel
theorem dksX4_standing_1 : cX4_standing.data.toList.drop 22 = dktX4_standing_1 := dk_seg dksX4_standing_0 22 rfl rfl
theorem dksX4_standing_2 : cX4_standing.data.toList.drop 45 = dktX4_standing_2 := dk_seg dksX4_standing_1 23 rfl rfl
theorem dksX4_standing_3 : cX4_standing.data.toList.drop 69 = dktX4_standing_3 := dk_seg dksX4_standing_2 24 rfl rfl
theorem dksX4_standing_4 : cX4_standing.data.toList.drop 92 = dktX4_standing_4 := dk_seg dksX4_standing_3 23 rfl rfl
theorem dX4_standing_0 : decode cX4_standing 0 = .ok (.aload_n 0, 1) := dk_42 (dk_at dksX4_standing_0 0 rfl rfl)
theorem dX4_standing_1 : decode cX4_standing 1 = .ok (.getfield 26, 3) := dk_180 0 26 (dk_at dksX4_standing_0 1 rfl rfl)
theorem dX4_standing_4 : decode cX4_standing 4 = .ok (.iload_n 1, 1) := dk_27 (dk_at dksX4_standing_0 4 rfl rfl)
theorem dX4_standing_5 : decode cX4_standing 5 = .ok (.iaload, 1) := dk_46 (dk_at dksX4_standing_0 5 rfl rfl)
theorem dX4_standing_6 : decode cX4_standing 6 = .ok (.istore_n 3, 1) := dk_62 (dk_at dksX4_standing_0 6 rfl rfl)
theorem dX4_standing_7 : decode cX4_standing 7 = .ok (.aload_n 0, 1) := dk_42 (dk_at dksX4_standing_0 7 rfl rfl)
theorem dX4_standing_8 : decode cX4_standing 8 = .ok (.iload_n 1, 1) := dk_27 (dk_at dksX4_standing_0 8 rfl rfl)
theorem dX4_standing_9 : decode cX4_standing 9 = .ok (.invokevirtual 91, 3) := dk_182 0 91 (dk_at dksX4_standing_0 9 rfl rfl)
theorem dX4_standing_12 : decode cX4_standing 12 = .ok (.istore 4, 2) := dk_54 4 (dk_at dksX4_standing_0 12 rfl rfl)
theorem dX4_standing_14 : decode cX4_standing 14 = .ok (.iload_n 3, 1) := dk_29 (dk_at dksX4_standing_0 14 rfl rfl)
theorem dX4_standing_15 : decode cX4_standing 15 = .ok (.iconst 4, 1) := dk_7 (dk_at dksX4_standing_0 15 rfl rfl)
theorem dX4_standing_16 : decode cX4_standing 16 = .ok (.if_icmp .ne 9, 3) := dk_160 0 9 (dk_at dksX4_standing_0 16 rfl rfl)
theorem dX4_standing_19 : decode cX4_standing 19 = .ok (.aload_n 0, 1) := dk_42 (dk_at dksX4_standing_0 19 rfl rfl)
theorem dX4_standing_20 : decode cX4_standing 20 = .ok (.bipush 51, 2) := dk_16 51 (dk_at dksX4_standing_0 20 rfl rfl)
theorem dX4_standing_22 : decode cX4_standing 22 = .ok (.invokevirtual 273, 3) := dk_182 1 17 (dk_at dksX4_standing_1 0 rfl rfl)
theorem dX4_standing_25 : decode cX4_standing 25 = .ok (.iload_n 3, 1) := dk_29 (dk_at dksX4_standing_1 3 rfl rfl)
theorem dX4_standing_26 : decode cX4_standing 26 = .ok (.bipush 6, 2) := dk_16 6 (dk_at dksX4_standing_1 4 rfl rfl)
theorem dX4_standing_28 : decode cX4_standing 28 = .ok (.if_icmp .ne 9, 3) := dk_160 0 9 (dk_at dksX4_standing_1 6 rfl rfl)
theorem dX4_standing_31 : decode cX4_standing 31 = .ok (.aload_n 0, 1) := dk_42 (dk_at dksX4_standing_1 9 rfl rfl)
theorem dX4_standing_32 : decode cX4_standing 32 = .ok (.bipush 70, 2) := dk_16 70 (dk_at dksX4_standing_1 10 rfl rfl)
theorem dX4_standing_34 : decode cX4_standing 34 = .ok (.invokevirtual 273, 3) := dk_182 1 17 (dk_at dksX4_standing_1 12 rfl rfl)
theorem dX4_standing_37 : decode cX4_standing 37 = .ok (.iload 4, 2) := dk_21 4 (dk_at dksX4_standing_1 15 rfl rfl)
theorem dX4_standing_39 : decode cX4_standing 39 = .ok (.ifCond .eq 9, 3) := dk_153 0 9 (dk_at dksX4_standing_1 17 rfl rfl)
theorem dX4_standing_42 : decode cX4_standing 42 = .ok (.aload_n 0, 1) := dk_42 (dk_at dksX4_standing_1 20 rfl rfl)
theorem dX4_standing_43 : decode cX4_standing 43 = .ok (.bipush 20, 2) := dk_16 20 (dk_at dksX4_standing_1 21 rfl rfl)
theorem dX4_standing_45 : decode cX4_standing 45 = .ok (.invokevirtual 273, 3) := dk_182 1 17 (dk_at dksX4_standing_2 0 rfl rfl)
theorem dX4_standing_48 : decode cX4_standing 48 = .ok (.aload_n 0, 1) := dk_42 (dk_at dksX4_standing_2 3 rfl rfl)
theorem dX4_standing_49 : decode cX4_standing 49 = .ok (.bipush 10, 2) := dk_16 10 (dk_at dksX4_standing_2 4 rfl rfl)
theorem dX4_standing_51 : decode cX4_standing 51 = .ok (.invokevirtual 273, 3) := dk_182 1 17 (dk_at dksX4_standing_2 6 rfl rfl)
theorem dX4_standing_54 : decode cX4_standing 54 = .ok (.iload 4, 2) := dk_21 4 (dk_at dksX4_standing_2 9 rfl rfl)
theorem dX4_standing_56 : decode cX4_standing 56 = .ok (.ifCond .eq 16, 3) := dk_153 0 16 (dk_at dksX4_standing_2 11 rfl rfl)
theorem dX4_standing_59 : decode cX4_standing 59 = .ok (.iload_n 2, 1) := dk_28 (dk_at dksX4_standing_2 14 rfl rfl)
theorem dX4_standing_60 : decode cX4_standing 60 = .ok (.iload_n 1, 1) := dk_27 (dk_at dksX4_standing_2 15 rfl rfl)
theorem dX4_standing_61 : decode cX4_standing 61 = .ok (.iadd, 1) := dk_96 (dk_at dksX4_standing_2 16 rfl rfl)
theorem dX4_standing_62 : decode cX4_standing 62 = .ok (.aload_n 0, 1) := dk_42 (dk_at dksX4_standing_2 17 rfl rfl)
theorem dX4_standing_63 : decode cX4_standing 63 = .ok (.getfield 38, 3) := dk_180 0 38 (dk_at dksX4_standing_2 18 rfl rfl)
theorem dX4_standing_66 : decode cX4_standing 66 = .ok (.iload_n 1, 1) := dk_27 (dk_at dksX4_standing_2 21 rfl rfl)
theorem dX4_standing_67 : decode cX4_standing 67 = .ok (.iaload, 1) := dk_46 (dk_at dksX4_standing_2 22 rfl rfl)
theorem dX4_standing_68 : decode cX4_standing 68 = .ok (.iadd, 1) := dk_96 (dk_at dksX4_standing_2 23 rfl rfl)
theorem dX4_standing_69 : decode cX4_standing 69 = .ok (.goto 6, 3) := dk_167 0 6 (dk_at dksX4_standing_3 0 rfl rfl)
theorem dX4_standing_72 : decode cX4_standing 72 = .ok (.iload_n 2, 1) := dk_28 (dk_at dksX4_standing_3 3 rfl rfl)
theorem dX4_standing_73 : decode cX4_standing 73 = .ok (.iload_n 1, 1) := dk_27 (dk_at dksX4_standing_3 4 rfl rfl)
theorem dX4_standing_74 : decode cX4_standing 74 = .ok (.iadd, 1) := dk_96 (dk_at dksX4_standing_3 5 rfl rfl)
theorem dX4_standing_75 : decode cX4_standing 75 = .ok (.istore 5, 2) := dk_54 5 (dk_at dksX4_standing_3 6 rfl rfl)
theorem dX4_standing_77 : decode cX4_standing 77 = .ok (.iload_n 3, 1) := dk_29 (dk_at dksX4_standing_3 8 rfl rfl)
theorem dX4_standing_78 : decode cX4_standing 78 = .ok (.iconst 4, 1) := dk_7 (dk_at dksX4_standing_3 9 rfl rfl)
theorem dX4_standing_79 : decode cX4_standing 79 = .ok (.if_icmp .ne 10, 3) := dk_160 0 10 (dk_at dksX4_standing_3 10 rfl rfl)
theorem dX4_standing_82 : decode cX4_standing 82 = .ok (.iload 5, 2) := dk_21 5 (dk_at dksX4_standing_3 13 rfl rfl)
theorem dX4_standing_84 : decode cX4_standing 84 = .ok (.iload_n 1, 1) := dk_27 (dk_at dksX4_standing_3 15 rfl rfl)
theorem dX4_standing_85 : decode cX4_standing 85 = .ok (.isub, 1) := dk_100 (dk_at dksX4_standing_3 16 rfl rfl)
theorem dX4_standing_86 : decode cX4_standing 86 = .ok (.goto 18, 3) := dk_167 0 18 (dk_at dksX4_standing_3 17 rfl rfl)
theorem dX4_standing_89 : decode cX4_standing 89 = .ok (.iload_n 3, 1) := dk_29 (dk_at dksX4_standing_3 20 rfl rfl)
theorem dX4_standing_90 : decode cX4_standing 90 = .ok (.bipush 6, 2) := dk_16 6 (dk_at dksX4_standing_3 21 rfl rfl)
theorem dX4_standing_92 : decode cX4_standing 92 = .ok (.if_icmp .ne 10, 3) := dk_160 0 10 (dk_at dksX4_standing_4 0 rfl rfl)
theorem dX4_standing_95 : decode cX4_standing 95 = .ok (.iload 5, 2) := dk_21 5 (dk_at dksX4_standing_4 3 rfl rfl)
theorem dX4_standing_97 : decode cX4_standing 97 = .ok (.iconst 2, 1) := dk_5 (dk_at dksX4_standing_4 5 rfl rfl)
theorem dX4_standing_98 : decode cX4_standing 98 = .ok (.imul, 1) := dk_104 (dk_at dksX4_standing_4 6 rfl rfl)
theorem dX4_standing_99 : decode cX4_standing 99 = .ok (.goto 5, 3) := dk_167 0 5 (dk_at dksX4_standing_4 7 rfl rfl)
theorem dX4_standing_102 : decode cX4_standing 102 = .ok (.iload 5, 2) := dk_21 5 (dk_at dksX4_standing_4 10 rfl rfl)
theorem dX4_standing_104 : decode cX4_standing 104 = .ok (.ireturn, 1) := dk_172 (dk_at dksX4_standing_4 12 rfl rfl)
abbrev cX4_body : ByteArray := prog_21_method_85_code
def yX4_body : MethodName := ⟨RX4, "body", "(I)V"⟩
def dkwX4_body_1 : List UInt8 := [4, 96, 181, 1, 14, 177]
abbrev dktX4_body_1 : List UInt8 := dkwX4_body_1 ++ []
def dkwX4_body_0 : List UInt8 := [42, 180, 1, 14, 16, 20, 162, 0, 13, 42, 180, 0, 81, 42, 180, 1, 14, 27, 79, 42, 89, 180, 1, 14]
abbrev dktX4_body_0 : List UInt8 := dkwX4_body_0 ++ dktX4_body_1
theorem dksX4_body_0 : cX4_body.data.toList.drop 0 = dktX4_body_0 := by decide +kernel
theorem dksX4_body_1 : cX4_body.data.toList.drop 24 = dktX4_body_1 := dk_seg dksX4_body_0 24 rfl rfl
theorem dX4_body_0 : decode cX4_body 0 = .ok (.aload_n 0, 1) := dk_42 (dk_at dksX4_body_0 0 rfl rfl)
theorem dX4_body_1 : decode cX4_body 1 = .ok (.getfield 270, 3) := dk_180 1 14 (dk_at dksX4_body_0 1 rfl rfl)
theorem dX4_body_4 : decode cX4_body 4 = .ok (.bipush 20, 2) := dk_16 20 (dk_at dksX4_body_0 4 rfl rfl)
theorem dX4_body_6 : decode cX4_body 6 = .ok (.if_icmp .ge 13, 3) := dk_162 0 13 (dk_at dksX4_body_0 6 rfl rfl)
theorem dX4_body_9 : decode cX4_body 9 = .ok (.aload_n 0, 1) := dk_42 (dk_at dksX4_body_0 9 rfl rfl)
theorem dX4_body_10 : decode cX4_body 10 = .ok (.getfield 81, 3) := dk_180 0 81 (dk_at dksX4_body_0 10 rfl rfl)
theorem dX4_body_13 : decode cX4_body 13 = .ok (.aload_n 0, 1) := dk_42 (dk_at dksX4_body_0 13 rfl rfl)
theorem dX4_body_14 : decode cX4_body 14 = .ok (.getfield 270, 3) := dk_180 1 14 (dk_at dksX4_body_0 14 rfl rfl)
theorem dX4_body_17 : decode cX4_body 17 = .ok (.iload_n 1, 1) := dk_27 (dk_at dksX4_body_0 17 rfl rfl)
theorem dX4_body_18 : decode cX4_body 18 = .ok (.iastore, 1) := dk_79 (dk_at dksX4_body_0 18 rfl rfl)
theorem dX4_body_19 : decode cX4_body 19 = .ok (.aload_n 0, 1) := dk_42 (dk_at dksX4_body_0 19 rfl rfl)
theorem dX4_body_20 : decode cX4_body 20 = .ok (.dup, 1) := dk_89 (dk_at dksX4_body_0 20 rfl rfl)
theorem dX4_body_21 : decode cX4_body 21 = .ok (.getfield 270, 3) := dk_180 1 14 (dk_at dksX4_body_0 21 rfl rfl)
theorem dX4_body_24 : decode cX4_body 24 = .ok (.iconst 1, 1) := dk_4 (dk_at dksX4_body_1 0 rfl rfl)
theorem dX4_body_25 : decode cX4_body 25 = .ok (.iadd, 1) := dk_96 (dk_at dksX4_body_1 1 rfl rfl)
theorem dX4_body_26 : decode cX4_body 26 = .ok (.putfield 270, 3) := dk_181 1 14 (dk_at dksX4_body_1 2 rfl rfl)
theorem dX4_body_29 : decode cX4_body 29 = .ok (.return_, 1) := dk_177 (dk_at dksX4_body_1 5 rfl rfl)
abbrev cX4_looking : ByteArray := prog_21_method_87_code
def yX4_looking : MethodName := ⟨RX4, "looking", "(II)I"⟩
def dkwX4_looking_4 : List UInt8 := [104, 167, 0, 5, 21, 5, 172]
abbrev dktX4_looking_4 : List UInt8 := dkwX4_looking_4 ++ []
def dkwX4_looking_3 : List UInt8 := [27, 21, 4, 182, 1, 20, 5, 104, 54, 5, 29, 5, 159, 0, 9, 29, 16, 6, 160, 0, 10, 21, 5, 6]
abbrev dktX4_looking_3 : List UInt8 := dkwX4_looking_3 ++ dktX4_looking_4
def dkwX4_looking_2 : List UInt8 := [29, 5, 159, 0, 9, 29, 16, 6, 160, 0, 9, 42, 16, 30, 182, 1, 17, 42, 16, 11, 182, 1, 17, 42]
abbrev dktX4_looking_2 : List UInt8 := dkwX4_looking_2 ++ dktX4_looking_3
def dkwX4_looking_1 : List UInt8 := [54, 4, 29, 16, 6, 160, 0, 19, 42, 16, 71, 182, 1, 17, 28, 42, 180, 0, 38, 27, 46, 100, 54, 4]
abbrev dktX4_looking_1 : List UInt8 := dkwX4_looking_1 ++ dktX4_looking_2
def dkwX4_looking_0 : List UInt8 := [42, 180, 0, 26, 27, 46, 62, 28, 54, 4, 29, 6, 160, 0, 14, 42, 16, 40, 182, 1, 17, 28, 4, 96]
abbrev dktX4_looking_0 : List UInt8 := dkwX4_looking_0 ++ dktX4_looking_1
theorem dksX4_looking_0 : cX4_looking.data.toList.drop 0 = dktX4_looking_0 := by decide +kernel
theorem dksX4_looking_1 : cX4_looking.data.toList.drop 24 = dktX4_looking_1 := dk_seg dksX4_looking_0 24 rfl rfl
theorem dksX4_looking_2 : cX4_looking.data.toList.drop 48 = dktX4_looking_2 := dk_seg dksX4_looking_1 24 rfl rfl
theorem dksX4_looking_3 : cX4_looking.data.toList.drop 72 = dktX4_looking_3 := dk_seg dksX4_looking_2 24 rfl rfl
theorem dksX4_looking_4 : cX4_looking.data.toList.drop 96 = dktX4_looking_4 := dk_seg dksX4_looking_3 24 rfl rfl
theorem dX4_looking_0 : decode cX4_looking 0 = .ok (.aload_n 0, 1) := dk_42 (dk_at dksX4_looking_0 0 rfl rfl)
theorem dX4_looking_1 : decode cX4_looking 1 = .ok (.getfield 26, 3) := dk_180 0 26 (dk_at dksX4_looking_0 1 rfl rfl)
theorem dX4_looking_4 : decode cX4_looking 4 = .ok (.iload_n 1, 1) := dk_27 (dk_at dksX4_looking_0 4 rfl rfl)
theorem dX4_looking_5 : decode cX4_looking 5 = .ok (.iaload, 1) := dk_46 (dk_at dksX4_looking_0 5 rfl rfl)
theorem dX4_looking_6 : decode cX4_looking 6 = .ok (.istore_n 3, 1) := dk_62 (dk_at dksX4_looking_0 6 rfl rfl)
theorem dX4_looking_7 : decode cX4_looking 7 = .ok (.iload_n 2, 1) := dk_28 (dk_at dksX4_looking_0 7 rfl rfl)
theorem dX4_looking_8 : decode cX4_looking 8 = .ok (.istore 4, 2) := dk_54 4 (dk_at dksX4_looking_0 8 rfl rfl)
theorem dX4_looking_10 : decode cX4_looking 10 = .ok (.iload_n 3, 1) := dk_29 (dk_at dksX4_looking_0 10 rfl rfl)
theorem dX4_looking_11 : decode cX4_looking 11 = .ok (.iconst 3, 1) := dk_6 (dk_at dksX4_looking_0 11 rfl rfl)
theorem dX4_looking_12 : decode cX4_looking 12 = .ok (.if_icmp .ne 14, 3) := dk_160 0 14 (dk_at dksX4_looking_0 12 rfl rfl)
theorem dX4_looking_15 : decode cX4_looking 15 = .ok (.aload_n 0, 1) := dk_42 (dk_at dksX4_looking_0 15 rfl rfl)
theorem dX4_looking_16 : decode cX4_looking 16 = .ok (.bipush 40, 2) := dk_16 40 (dk_at dksX4_looking_0 16 rfl rfl)
theorem dX4_looking_18 : decode cX4_looking 18 = .ok (.invokevirtual 273, 3) := dk_182 1 17 (dk_at dksX4_looking_0 18 rfl rfl)
theorem dX4_looking_21 : decode cX4_looking 21 = .ok (.iload_n 2, 1) := dk_28 (dk_at dksX4_looking_0 21 rfl rfl)
theorem dX4_looking_22 : decode cX4_looking 22 = .ok (.iconst 1, 1) := dk_4 (dk_at dksX4_looking_0 22 rfl rfl)
theorem dX4_looking_23 : decode cX4_looking 23 = .ok (.iadd, 1) := dk_96 (dk_at dksX4_looking_0 23 rfl rfl)
theorem dX4_looking_24 : decode cX4_looking 24 = .ok (.istore 4, 2) := dk_54 4 (dk_at dksX4_looking_1 0 rfl rfl)
theorem dX4_looking_26 : decode cX4_looking 26 = .ok (.iload_n 3, 1) := dk_29 (dk_at dksX4_looking_1 2 rfl rfl)
theorem dX4_looking_27 : decode cX4_looking 27 = .ok (.bipush 6, 2) := dk_16 6 (dk_at dksX4_looking_1 3 rfl rfl)
theorem dX4_looking_29 : decode cX4_looking 29 = .ok (.if_icmp .ne 19, 3) := dk_160 0 19 (dk_at dksX4_looking_1 5 rfl rfl)
theorem dX4_looking_32 : decode cX4_looking 32 = .ok (.aload_n 0, 1) := dk_42 (dk_at dksX4_looking_1 8 rfl rfl)
theorem dX4_looking_33 : decode cX4_looking 33 = .ok (.bipush 71, 2) := dk_16 71 (dk_at dksX4_looking_1 9 rfl rfl)
theorem dX4_looking_35 : decode cX4_looking 35 = .ok (.invokevirtual 273, 3) := dk_182 1 17 (dk_at dksX4_looking_1 11 rfl rfl)
theorem dX4_looking_38 : decode cX4_looking 38 = .ok (.iload_n 2, 1) := dk_28 (dk_at dksX4_looking_1 14 rfl rfl)
theorem dX4_looking_39 : decode cX4_looking 39 = .ok (.aload_n 0, 1) := dk_42 (dk_at dksX4_looking_1 15 rfl rfl)
theorem dX4_looking_40 : decode cX4_looking 40 = .ok (.getfield 38, 3) := dk_180 0 38 (dk_at dksX4_looking_1 16 rfl rfl)
theorem dX4_looking_43 : decode cX4_looking 43 = .ok (.iload_n 1, 1) := dk_27 (dk_at dksX4_looking_1 19 rfl rfl)
theorem dX4_looking_44 : decode cX4_looking 44 = .ok (.iaload, 1) := dk_46 (dk_at dksX4_looking_1 20 rfl rfl)
theorem dX4_looking_45 : decode cX4_looking 45 = .ok (.isub, 1) := dk_100 (dk_at dksX4_looking_1 21 rfl rfl)
theorem dX4_looking_46 : decode cX4_looking 46 = .ok (.istore 4, 2) := dk_54 4 (dk_at dksX4_looking_1 22 rfl rfl)
theorem dX4_looking_48 : decode cX4_looking 48 = .ok (.iload_n 3, 1) := dk_29 (dk_at dksX4_looking_2 0 rfl rfl)
theorem dX4_looking_49 : decode cX4_looking 49 = .ok (.iconst 2, 1) := dk_5 (dk_at dksX4_looking_2 1 rfl rfl)
theorem dX4_looking_50 : decode cX4_looking 50 = .ok (.if_icmp .eq 9, 3) := dk_159 0 9 (dk_at dksX4_looking_2 2 rfl rfl)
theorem dX4_looking_53 : decode cX4_looking 53 = .ok (.iload_n 3, 1) := dk_29 (dk_at dksX4_looking_2 5 rfl rfl)
theorem dX4_looking_54 : decode cX4_looking 54 = .ok (.bipush 6, 2) := dk_16 6 (dk_at dksX4_looking_2 6 rfl rfl)
theorem dX4_looking_56 : decode cX4_looking 56 = .ok (.if_icmp .ne 9, 3) := dk_160 0 9 (dk_at dksX4_looking_2 8 rfl rfl)
theorem dX4_looking_59 : decode cX4_looking 59 = .ok (.aload_n 0, 1) := dk_42 (dk_at dksX4_looking_2 11 rfl rfl)
theorem dX4_looking_60 : decode cX4_looking 60 = .ok (.bipush 30, 2) := dk_16 30 (dk_at dksX4_looking_2 12 rfl rfl)
theorem dX4_looking_62 : decode cX4_looking 62 = .ok (.invokevirtual 273, 3) := dk_182 1 17 (dk_at dksX4_looking_2 14 rfl rfl)
theorem dX4_looking_65 : decode cX4_looking 65 = .ok (.aload_n 0, 1) := dk_42 (dk_at dksX4_looking_2 17 rfl rfl)
theorem dX4_looking_66 : decode cX4_looking 66 = .ok (.bipush 11, 2) := dk_16 11 (dk_at dksX4_looking_2 18 rfl rfl)
theorem dX4_looking_68 : decode cX4_looking 68 = .ok (.invokevirtual 273, 3) := dk_182 1 17 (dk_at dksX4_looking_2 20 rfl rfl)
theorem dX4_looking_71 : decode cX4_looking 71 = .ok (.aload_n 0, 1) := dk_42 (dk_at dksX4_looking_2 23 rfl rfl)
theorem dX4_looking_72 : decode cX4_looking 72 = .ok (.iload_n 1, 1) := dk_27 (dk_at dksX4_looking_3 0 rfl rfl)
theorem dX4_looking_73 : decode cX4_looking 73 = .ok (.iload 4, 2) := dk_21 4 (dk_at dksX4_looking_3 1 rfl rfl)
theorem dX4_looking_75 : decode cX4_looking 75 = .ok (.invokevirtual 276, 3) := dk_182 1 20 (dk_at dksX4_looking_3 3 rfl rfl)
theorem dX4_looking_78 : decode cX4_looking 78 = .ok (.iconst 2, 1) := dk_5 (dk_at dksX4_looking_3 6 rfl rfl)
theorem dX4_looking_79 : decode cX4_looking 79 = .ok (.imul, 1) := dk_104 (dk_at dksX4_looking_3 7 rfl rfl)
theorem dX4_looking_80 : decode cX4_looking 80 = .ok (.istore 5, 2) := dk_54 5 (dk_at dksX4_looking_3 8 rfl rfl)
theorem dX4_looking_82 : decode cX4_looking 82 = .ok (.iload_n 3, 1) := dk_29 (dk_at dksX4_looking_3 10 rfl rfl)
theorem dX4_looking_83 : decode cX4_looking 83 = .ok (.iconst 2, 1) := dk_5 (dk_at dksX4_looking_3 11 rfl rfl)
theorem dX4_looking_84 : decode cX4_looking 84 = .ok (.if_icmp .eq 9, 3) := dk_159 0 9 (dk_at dksX4_looking_3 12 rfl rfl)
theorem dX4_looking_87 : decode cX4_looking 87 = .ok (.iload_n 3, 1) := dk_29 (dk_at dksX4_looking_3 15 rfl rfl)
theorem dX4_looking_88 : decode cX4_looking 88 = .ok (.bipush 6, 2) := dk_16 6 (dk_at dksX4_looking_3 16 rfl rfl)
theorem dX4_looking_90 : decode cX4_looking 90 = .ok (.if_icmp .ne 10, 3) := dk_160 0 10 (dk_at dksX4_looking_3 18 rfl rfl)
theorem dX4_looking_93 : decode cX4_looking 93 = .ok (.iload 5, 2) := dk_21 5 (dk_at dksX4_looking_3 21 rfl rfl)
theorem dX4_looking_95 : decode cX4_looking 95 = .ok (.iconst 3, 1) := dk_6 (dk_at dksX4_looking_3 23 rfl rfl)
theorem dX4_looking_96 : decode cX4_looking 96 = .ok (.imul, 1) := dk_104 (dk_at dksX4_looking_4 0 rfl rfl)
theorem dX4_looking_97 : decode cX4_looking 97 = .ok (.goto 5, 3) := dk_167 0 5 (dk_at dksX4_looking_4 1 rfl rfl)
theorem dX4_looking_100 : decode cX4_looking 100 = .ok (.iload 5, 2) := dk_21 5 (dk_at dksX4_looking_4 4 rfl rfl)
theorem dX4_looking_102 : decode cX4_looking 102 = .ok (.ireturn, 1) := dk_172 (dk_at dksX4_looking_4 6 rfl rfl)
abbrev cX4_hiding : ByteArray := prog_21_method_88_code
def yX4_hiding : MethodName := ⟨RX4, "hiding", "(II)I"⟩
def dkwX4_hiding_3 : List UInt8 := [29, 8, 160, 0, 10, 21, 4, 8, 130, 167, 0, 5, 21, 4, 172]
abbrev dktX4_hiding_3 : List UInt8 := dkwX4_hiding_3 ++ []
def dkwX4_hiding_2 : List UInt8 := [42, 180, 0, 38, 27, 46, 100, 182, 1, 20, 130, 54, 4, 29, 7, 160, 0, 9, 21, 4, 116, 167, 0, 17]
abbrev dktX4_hiding_2 : List UInt8 := dkwX4_hiding_2 ++ dktX4_hiding_3
def dkwX4_hiding_1 : List UInt8 := [16, 60, 182, 1, 17, 42, 16, 12, 182, 1, 17, 42, 27, 28, 182, 1, 23, 54, 4, 21, 4, 42, 27, 28]
abbrev dktX4_hiding_1 : List UInt8 := dkwX4_hiding_1 ++ dktX4_hiding_2
def dkwX4_hiding_0 : List UInt8 := [42, 180, 0, 26, 27, 46, 62, 29, 7, 160, 0, 9, 42, 16, 50, 182, 1, 17, 29, 8, 160, 0, 9, 42]
abbrev dktX4_hiding_0 : List UInt8 := dkwX4_hiding_0 ++ dktX4_hiding_1
theorem dksX4_hiding_0 : cX4_hiding.data.toList.drop 0 = dktX4_hiding_0 := by decide +kernel
theorem dksX4_hiding_1 : cX4_hiding.data.toList.drop 24 = dktX4_hiding_1 := dk_seg dksX4_hiding_0 24 rfl rfl
theorem dksX4_hiding_2 : cX4_hiding.data.toList.drop 48 = dktX4_hiding_2 := dk_seg dksX4_hiding_1 24 rfl rfl
theorem dksX4_hiding_3 : cX4_hiding.data.toList.drop 72 = dktX4_hiding_3 := dk_seg dksX4_hiding_2 24 rfl rfl
theorem dX4_hiding_0 : decode cX4_hiding 0 = .ok (.aload_n 0, 1) := dk_42 (dk_at dksX4_hiding_0 0 rfl rfl)
theorem dX4_hiding_1 : decode cX4_hiding 1 = .ok (.getfield 26, 3) := dk_180 0 26 (dk_at dksX4_hiding_0 1 rfl rfl)
theorem dX4_hiding_4 : decode cX4_hiding 4 = .ok (.iload_n 1, 1) := dk_27 (dk_at dksX4_hiding_0 4 rfl rfl)
theorem dX4_hiding_5 : decode cX4_hiding 5 = .ok (.iaload, 1) := dk_46 (dk_at dksX4_hiding_0 5 rfl rfl)
theorem dX4_hiding_6 : decode cX4_hiding 6 = .ok (.istore_n 3, 1) := dk_62 (dk_at dksX4_hiding_0 6 rfl rfl)
theorem dX4_hiding_7 : decode cX4_hiding 7 = .ok (.iload_n 3, 1) := dk_29 (dk_at dksX4_hiding_0 7 rfl rfl)
theorem dX4_hiding_8 : decode cX4_hiding 8 = .ok (.iconst 4, 1) := dk_7 (dk_at dksX4_hiding_0 8 rfl rfl)
theorem dX4_hiding_9 : decode cX4_hiding 9 = .ok (.if_icmp .ne 9, 3) := dk_160 0 9 (dk_at dksX4_hiding_0 9 rfl rfl)
theorem dX4_hiding_12 : decode cX4_hiding 12 = .ok (.aload_n 0, 1) := dk_42 (dk_at dksX4_hiding_0 12 rfl rfl)
theorem dX4_hiding_13 : decode cX4_hiding 13 = .ok (.bipush 50, 2) := dk_16 50 (dk_at dksX4_hiding_0 13 rfl rfl)
theorem dX4_hiding_15 : decode cX4_hiding 15 = .ok (.invokevirtual 273, 3) := dk_182 1 17 (dk_at dksX4_hiding_0 15 rfl rfl)
theorem dX4_hiding_18 : decode cX4_hiding 18 = .ok (.iload_n 3, 1) := dk_29 (dk_at dksX4_hiding_0 18 rfl rfl)
theorem dX4_hiding_19 : decode cX4_hiding 19 = .ok (.iconst 5, 1) := dk_8 (dk_at dksX4_hiding_0 19 rfl rfl)
theorem dX4_hiding_20 : decode cX4_hiding 20 = .ok (.if_icmp .ne 9, 3) := dk_160 0 9 (dk_at dksX4_hiding_0 20 rfl rfl)
theorem dX4_hiding_23 : decode cX4_hiding 23 = .ok (.aload_n 0, 1) := dk_42 (dk_at dksX4_hiding_0 23 rfl rfl)
theorem dX4_hiding_24 : decode cX4_hiding 24 = .ok (.bipush 60, 2) := dk_16 60 (dk_at dksX4_hiding_1 0 rfl rfl)
theorem dX4_hiding_26 : decode cX4_hiding 26 = .ok (.invokevirtual 273, 3) := dk_182 1 17 (dk_at dksX4_hiding_1 2 rfl rfl)
theorem dX4_hiding_29 : decode cX4_hiding 29 = .ok (.aload_n 0, 1) := dk_42 (dk_at dksX4_hiding_1 5 rfl rfl)
theorem dX4_hiding_30 : decode cX4_hiding 30 = .ok (.bipush 12, 2) := dk_16 12 (dk_at dksX4_hiding_1 6 rfl rfl)
theorem dX4_hiding_32 : decode cX4_hiding 32 = .ok (.invokevirtual 273, 3) := dk_182 1 17 (dk_at dksX4_hiding_1 8 rfl rfl)
theorem dX4_hiding_35 : decode cX4_hiding 35 = .ok (.aload_n 0, 1) := dk_42 (dk_at dksX4_hiding_1 11 rfl rfl)
theorem dX4_hiding_36 : decode cX4_hiding 36 = .ok (.iload_n 1, 1) := dk_27 (dk_at dksX4_hiding_1 12 rfl rfl)
theorem dX4_hiding_37 : decode cX4_hiding 37 = .ok (.iload_n 2, 1) := dk_28 (dk_at dksX4_hiding_1 13 rfl rfl)
theorem dX4_hiding_38 : decode cX4_hiding 38 = .ok (.invokevirtual 279, 3) := dk_182 1 23 (dk_at dksX4_hiding_1 14 rfl rfl)
theorem dX4_hiding_41 : decode cX4_hiding 41 = .ok (.istore 4, 2) := dk_54 4 (dk_at dksX4_hiding_1 17 rfl rfl)
theorem dX4_hiding_43 : decode cX4_hiding 43 = .ok (.iload 4, 2) := dk_21 4 (dk_at dksX4_hiding_1 19 rfl rfl)
theorem dX4_hiding_45 : decode cX4_hiding 45 = .ok (.aload_n 0, 1) := dk_42 (dk_at dksX4_hiding_1 21 rfl rfl)
theorem dX4_hiding_46 : decode cX4_hiding 46 = .ok (.iload_n 1, 1) := dk_27 (dk_at dksX4_hiding_1 22 rfl rfl)
theorem dX4_hiding_47 : decode cX4_hiding 47 = .ok (.iload_n 2, 1) := dk_28 (dk_at dksX4_hiding_1 23 rfl rfl)
theorem dX4_hiding_48 : decode cX4_hiding 48 = .ok (.aload_n 0, 1) := dk_42 (dk_at dksX4_hiding_2 0 rfl rfl)
theorem dX4_hiding_49 : decode cX4_hiding 49 = .ok (.getfield 38, 3) := dk_180 0 38 (dk_at dksX4_hiding_2 1 rfl rfl)
theorem dX4_hiding_52 : decode cX4_hiding 52 = .ok (.iload_n 1, 1) := dk_27 (dk_at dksX4_hiding_2 4 rfl rfl)
theorem dX4_hiding_53 : decode cX4_hiding 53 = .ok (.iaload, 1) := dk_46 (dk_at dksX4_hiding_2 5 rfl rfl)
theorem dX4_hiding_54 : decode cX4_hiding 54 = .ok (.isub, 1) := dk_100 (dk_at dksX4_hiding_2 6 rfl rfl)
theorem dX4_hiding_55 : decode cX4_hiding 55 = .ok (.invokevirtual 276, 3) := dk_182 1 20 (dk_at dksX4_hiding_2 7 rfl rfl)
theorem dX4_hiding_58 : decode cX4_hiding 58 = .ok (.ixor, 1) := dk_130 (dk_at dksX4_hiding_2 10 rfl rfl)
theorem dX4_hiding_59 : decode cX4_hiding 59 = .ok (.istore 4, 2) := dk_54 4 (dk_at dksX4_hiding_2 11 rfl rfl)
theorem dX4_hiding_61 : decode cX4_hiding 61 = .ok (.iload_n 3, 1) := dk_29 (dk_at dksX4_hiding_2 13 rfl rfl)
theorem dX4_hiding_62 : decode cX4_hiding 62 = .ok (.iconst 4, 1) := dk_7 (dk_at dksX4_hiding_2 14 rfl rfl)
theorem dX4_hiding_63 : decode cX4_hiding 63 = .ok (.if_icmp .ne 9, 3) := dk_160 0 9 (dk_at dksX4_hiding_2 15 rfl rfl)
theorem dX4_hiding_66 : decode cX4_hiding 66 = .ok (.iload 4, 2) := dk_21 4 (dk_at dksX4_hiding_2 18 rfl rfl)
theorem dX4_hiding_68 : decode cX4_hiding 68 = .ok (.ineg, 1) := dk_116 (dk_at dksX4_hiding_2 20 rfl rfl)
theorem dX4_hiding_69 : decode cX4_hiding 69 = .ok (.goto 17, 3) := dk_167 0 17 (dk_at dksX4_hiding_2 21 rfl rfl)
theorem dX4_hiding_72 : decode cX4_hiding 72 = .ok (.iload_n 3, 1) := dk_29 (dk_at dksX4_hiding_3 0 rfl rfl)
theorem dX4_hiding_73 : decode cX4_hiding 73 = .ok (.iconst 5, 1) := dk_8 (dk_at dksX4_hiding_3 1 rfl rfl)
theorem dX4_hiding_74 : decode cX4_hiding 74 = .ok (.if_icmp .ne 10, 3) := dk_160 0 10 (dk_at dksX4_hiding_3 2 rfl rfl)
theorem dX4_hiding_77 : decode cX4_hiding 77 = .ok (.iload 4, 2) := dk_21 4 (dk_at dksX4_hiding_3 5 rfl rfl)
theorem dX4_hiding_79 : decode cX4_hiding 79 = .ok (.iconst 5, 1) := dk_8 (dk_at dksX4_hiding_3 7 rfl rfl)
theorem dX4_hiding_80 : decode cX4_hiding 80 = .ok (.ixor, 1) := dk_130 (dk_at dksX4_hiding_3 8 rfl rfl)
theorem dX4_hiding_81 : decode cX4_hiding 81 = .ok (.goto 5, 3) := dk_167 0 5 (dk_at dksX4_hiding_3 9 rfl rfl)
theorem dX4_hiding_84 : decode cX4_hiding 84 = .ok (.iload 4, 2) := dk_21 4 (dk_at dksX4_hiding_3 12 rfl rfl)
theorem dX4_hiding_86 : decode cX4_hiding 86 = .ok (.ireturn, 1) := dk_172 (dk_at dksX4_hiding_3 14 rfl rfl)
abbrev cX4_trace : ByteArray := prog_21_method_90_code
def yX4_trace : MethodName := ⟨RX4, "trace", "(I)I"⟩
def dkwX4_trace_1 : List UInt8 := [167, 0, 4, 2, 172]
abbrev dktX4_trace_1 : List UInt8 := dkwX4_trace_1 ++ []
def dkwX4_trace_0 : List UInt8 := [27, 155, 0, 26, 27, 16, 20, 162, 0, 20, 27, 42, 180, 1, 14, 162, 0, 12, 42, 180, 0, 81, 27, 46]
abbrev dktX4_trace_0 : List UInt8 := dkwX4_trace_0 ++ dktX4_trace_1
theorem dksX4_trace_0 : cX4_trace.data.toList.drop 0 = dktX4_trace_0 := by decide +kernel
theorem dksX4_trace_1 : cX4_trace.data.toList.drop 24 = dktX4_trace_1 := dk_seg dksX4_trace_0 24 rfl rfl
theorem dX4_trace_0 : decode cX4_trace 0 = .ok (.iload_n 1, 1) := dk_27 (dk_at dksX4_trace_0 0 rfl rfl)
theorem dX4_trace_1 : decode cX4_trace 1 = .ok (.ifCond .lt 26, 3) := dk_155 0 26 (dk_at dksX4_trace_0 1 rfl rfl)
theorem dX4_trace_4 : decode cX4_trace 4 = .ok (.iload_n 1, 1) := dk_27 (dk_at dksX4_trace_0 4 rfl rfl)
theorem dX4_trace_5 : decode cX4_trace 5 = .ok (.bipush 20, 2) := dk_16 20 (dk_at dksX4_trace_0 5 rfl rfl)
theorem dX4_trace_7 : decode cX4_trace 7 = .ok (.if_icmp .ge 20, 3) := dk_162 0 20 (dk_at dksX4_trace_0 7 rfl rfl)
theorem dX4_trace_10 : decode cX4_trace 10 = .ok (.iload_n 1, 1) := dk_27 (dk_at dksX4_trace_0 10 rfl rfl)
theorem dX4_trace_11 : decode cX4_trace 11 = .ok (.aload_n 0, 1) := dk_42 (dk_at dksX4_trace_0 11 rfl rfl)
theorem dX4_trace_12 : decode cX4_trace 12 = .ok (.getfield 270, 3) := dk_180 1 14 (dk_at dksX4_trace_0 12 rfl rfl)
theorem dX4_trace_15 : decode cX4_trace 15 = .ok (.if_icmp .ge 12, 3) := dk_162 0 12 (dk_at dksX4_trace_0 15 rfl rfl)
theorem dX4_trace_18 : decode cX4_trace 18 = .ok (.aload_n 0, 1) := dk_42 (dk_at dksX4_trace_0 18 rfl rfl)
theorem dX4_trace_19 : decode cX4_trace 19 = .ok (.getfield 81, 3) := dk_180 0 81 (dk_at dksX4_trace_0 19 rfl rfl)
theorem dX4_trace_22 : decode cX4_trace 22 = .ok (.iload_n 1, 1) := dk_27 (dk_at dksX4_trace_0 22 rfl rfl)
theorem dX4_trace_23 : decode cX4_trace 23 = .ok (.iaload, 1) := dk_46 (dk_at dksX4_trace_0 23 rfl rfl)
theorem dX4_trace_24 : decode cX4_trace 24 = .ok (.goto 4, 3) := dk_167 0 4 (dk_at dksX4_trace_1 0 rfl rfl)
theorem dX4_trace_27 : decode cX4_trace 27 = .ok (.iconst (-1), 1) := dk_2 (dk_at dksX4_trace_1 3 rfl rfl)
theorem dX4_trace_28 : decode cX4_trace 28 = .ok (.ireturn, 1) := dk_172 (dk_at dksX4_trace_1 4 rfl rfl)
abbrev cX4_image : ByteArray := prog_21_method_91_code
def yX4_image : MethodName := ⟨RX4, "image", "()I"⟩
def dkwX4_image_0 : List UInt8 := [42, 4, 181, 1, 29, 42, 42, 180, 0, 75, 3, 182, 0, 179, 42, 180, 0, 84, 172]
abbrev dktX4_image_0 : List UInt8 := dkwX4_image_0 ++ []
theorem dksX4_image_0 : cX4_image.data.toList.drop 0 = dktX4_image_0 := by decide +kernel
theorem dX4_image_0 : decode cX4_image 0 = .ok (.aload_n 0, 1) := dk_42 (dk_at dksX4_image_0 0 rfl rfl)
theorem dX4_image_1 : decode cX4_image 1 = .ok (.iconst 1, 1) := dk_4 (dk_at dksX4_image_0 1 rfl rfl)
theorem dX4_image_2 : decode cX4_image 2 = .ok (.putfield 285, 3) := dk_181 1 29 (dk_at dksX4_image_0 2 rfl rfl)
theorem dX4_image_5 : decode cX4_image 5 = .ok (.aload_n 0, 1) := dk_42 (dk_at dksX4_image_0 5 rfl rfl)
theorem dX4_image_6 : decode cX4_image 6 = .ok (.aload_n 0, 1) := dk_42 (dk_at dksX4_image_0 6 rfl rfl)
theorem dX4_image_7 : decode cX4_image 7 = .ok (.getfield 75, 3) := dk_180 0 75 (dk_at dksX4_image_0 7 rfl rfl)
theorem dX4_image_10 : decode cX4_image 10 = .ok (.iconst 0, 1) := dk_3 (dk_at dksX4_image_0 10 rfl rfl)
theorem dX4_image_11 : decode cX4_image 11 = .ok (.invokevirtual 179, 3) := dk_182 0 179 (dk_at dksX4_image_0 11 rfl rfl)
theorem dX4_image_14 : decode cX4_image 14 = .ok (.aload_n 0, 1) := dk_42 (dk_at dksX4_image_0 14 rfl rfl)
theorem dX4_image_15 : decode cX4_image 15 = .ok (.getfield 84, 3) := dk_180 0 84 (dk_at dksX4_image_0 15 rfl rfl)
theorem dX4_image_18 : decode cX4_image 18 = .ok (.ireturn, 1) := dk_172 (dk_at dksX4_image_0 18 rfl rfl)
abbrev cX4_restore : ByteArray := prog_21_method_92_code
def yX4_restore : MethodName := ⟨RX4, "restore", "()I"⟩
def dkwX4_restore_2 : List UInt8 := [180, 0, 84, 161, 0, 10, 42, 180, 0, 47, 27, 3, 79, 132, 1, 1, 167, 255, 217, 42, 180, 0, 84, 172]
abbrev dktX4_restore_2 : List UInt8 := dkwX4_restore_2 ++ []
def dkwX4_restore_1 : List UInt8 := [60, 27, 16, 8, 162, 0, 39, 42, 180, 0, 47, 27, 46, 5, 160, 0, 23, 42, 180, 0, 56, 27, 46, 42]
abbrev dktX4_restore_1 : List UInt8 := dkwX4_restore_1 ++ dktX4_restore_2
def dkwX4_restore_0 : List UInt8 := [42, 180, 1, 29, 154, 0, 10, 42, 16, 250, 182, 0, 97, 172, 42, 42, 180, 0, 75, 4, 182, 0, 179, 3]
abbrev dktX4_restore_0 : List UInt8 := dkwX4_restore_0 ++ dktX4_restore_1
theorem dksX4_restore_0 : cX4_restore.data.toList.drop 0 = dktX4_restore_0 := by decide +kernel
theorem dksX4_restore_1 : cX4_restore.data.toList.drop 24 = dktX4_restore_1 := dk_seg dksX4_restore_0 24 rfl rfl
theorem dksX4_restore_2 : cX4_restore.data.toList.drop 48 = dktX4_restore_2 := dk_seg dksX4_restore_1 24 rfl rfl
theorem dX4_restore_0 : decode cX4_restore 0 = .ok (.aload_n 0, 1) := dk_42 (dk_at dksX4_restore_0 0 rfl rfl)
theorem dX4_restore_1 : decode cX4_restore 1 = .ok (.getfield 285, 3) := dk_180 1 29 (dk_at dksX4_restore_0 1 rfl rfl)
theorem dX4_restore_4 : decode cX4_restore 4 = .ok (.ifCond .ne 10, 3) := dk_154 0 10 (dk_at dksX4_restore_0 4 rfl rfl)
theorem dX4_restore_7 : decode cX4_restore 7 = .ok (.aload_n 0, 1) := dk_42 (dk_at dksX4_restore_0 7 rfl rfl)
theorem dX4_restore_8 : decode cX4_restore 8 = .ok (.bipush (-6), 2) := dk_16 250 (dk_at dksX4_restore_0 8 rfl rfl)
theorem dX4_restore_10 : decode cX4_restore 10 = .ok (.invokevirtual 97, 3) := dk_182 0 97 (dk_at dksX4_restore_0 10 rfl rfl)
theorem dX4_restore_13 : decode cX4_restore 13 = .ok (.ireturn, 1) := dk_172 (dk_at dksX4_restore_0 13 rfl rfl)
theorem dX4_restore_14 : decode cX4_restore 14 = .ok (.aload_n 0, 1) := dk_42 (dk_at dksX4_restore_0 14 rfl rfl)
theorem dX4_restore_15 : decode cX4_restore 15 = .ok (.aload_n 0, 1) := dk_42 (dk_at dksX4_restore_0 15 rfl rfl)
theorem dX4_restore_16 : decode cX4_restore 16 = .ok (.getfield 75, 3) := dk_180 0 75 (dk_at dksX4_restore_0 16 rfl rfl)
theorem dX4_restore_19 : decode cX4_restore 19 = .ok (.iconst 1, 1) := dk_4 (dk_at dksX4_restore_0 19 rfl rfl)
theorem dX4_restore_20 : decode cX4_restore 20 = .ok (.invokevirtual 179, 3) := dk_182 0 179 (dk_at dksX4_restore_0 20 rfl rfl)
theorem dX4_restore_23 : decode cX4_restore 23 = .ok (.iconst 0, 1) := dk_3 (dk_at dksX4_restore_0 23 rfl rfl)
theorem dX4_restore_24 : decode cX4_restore 24 = .ok (.istore_n 1, 1) := dk_60 (dk_at dksX4_restore_1 0 rfl rfl)
theorem dX4_restore_25 : decode cX4_restore 25 = .ok (.iload_n 1, 1) := dk_27 (dk_at dksX4_restore_1 1 rfl rfl)
theorem dX4_restore_26 : decode cX4_restore 26 = .ok (.bipush 8, 2) := dk_16 8 (dk_at dksX4_restore_1 2 rfl rfl)
theorem dX4_restore_28 : decode cX4_restore 28 = .ok (.if_icmp .ge 39, 3) := dk_162 0 39 (dk_at dksX4_restore_1 4 rfl rfl)
theorem dX4_restore_31 : decode cX4_restore 31 = .ok (.aload_n 0, 1) := dk_42 (dk_at dksX4_restore_1 7 rfl rfl)
theorem dX4_restore_32 : decode cX4_restore 32 = .ok (.getfield 47, 3) := dk_180 0 47 (dk_at dksX4_restore_1 8 rfl rfl)
theorem dX4_restore_35 : decode cX4_restore 35 = .ok (.iload_n 1, 1) := dk_27 (dk_at dksX4_restore_1 11 rfl rfl)
theorem dX4_restore_36 : decode cX4_restore 36 = .ok (.iaload, 1) := dk_46 (dk_at dksX4_restore_1 12 rfl rfl)
theorem dX4_restore_37 : decode cX4_restore 37 = .ok (.iconst 2, 1) := dk_5 (dk_at dksX4_restore_1 13 rfl rfl)
theorem dX4_restore_38 : decode cX4_restore 38 = .ok (.if_icmp .ne 23, 3) := dk_160 0 23 (dk_at dksX4_restore_1 14 rfl rfl)
theorem dX4_restore_41 : decode cX4_restore 41 = .ok (.aload_n 0, 1) := dk_42 (dk_at dksX4_restore_1 17 rfl rfl)
theorem dX4_restore_42 : decode cX4_restore 42 = .ok (.getfield 56, 3) := dk_180 0 56 (dk_at dksX4_restore_1 18 rfl rfl)
theorem dX4_restore_45 : decode cX4_restore 45 = .ok (.iload_n 1, 1) := dk_27 (dk_at dksX4_restore_1 21 rfl rfl)
theorem dX4_restore_46 : decode cX4_restore 46 = .ok (.iaload, 1) := dk_46 (dk_at dksX4_restore_1 22 rfl rfl)
theorem dX4_restore_47 : decode cX4_restore 47 = .ok (.aload_n 0, 1) := dk_42 (dk_at dksX4_restore_1 23 rfl rfl)
theorem dX4_restore_48 : decode cX4_restore 48 = .ok (.getfield 84, 3) := dk_180 0 84 (dk_at dksX4_restore_2 0 rfl rfl)
theorem dX4_restore_51 : decode cX4_restore 51 = .ok (.if_icmp .lt 10, 3) := dk_161 0 10 (dk_at dksX4_restore_2 3 rfl rfl)
theorem dX4_restore_54 : decode cX4_restore 54 = .ok (.aload_n 0, 1) := dk_42 (dk_at dksX4_restore_2 6 rfl rfl)
theorem dX4_restore_55 : decode cX4_restore 55 = .ok (.getfield 47, 3) := dk_180 0 47 (dk_at dksX4_restore_2 7 rfl rfl)
theorem dX4_restore_58 : decode cX4_restore 58 = .ok (.iload_n 1, 1) := dk_27 (dk_at dksX4_restore_2 10 rfl rfl)
theorem dX4_restore_59 : decode cX4_restore 59 = .ok (.iconst 0, 1) := dk_3 (dk_at dksX4_restore_2 11 rfl rfl)
theorem dX4_restore_60 : decode cX4_restore 60 = .ok (.iastore, 1) := dk_79 (dk_at dksX4_restore_2 12 rfl rfl)
theorem dX4_restore_61 : decode cX4_restore 61 = .ok (.iinc 1 1, 3) := dk_132 1 1 (dk_at dksX4_restore_2 13 rfl rfl)
theorem dX4_restore_64 : decode cX4_restore 64 = .ok (.goto (-39), 3) := dk_167 255 217 (dk_at dksX4_restore_2 16 rfl rfl)
theorem dX4_restore_67 : decode cX4_restore 67 = .ok (.aload_n 0, 1) := dk_42 (dk_at dksX4_restore_2 19 rfl rfl)
theorem dX4_restore_68 : decode cX4_restore 68 = .ok (.getfield 84, 3) := dk_180 0 84 (dk_at dksX4_restore_2 20 rfl rfl)
theorem dX4_restore_71 : decode cX4_restore 71 = .ok (.ireturn, 1) := dk_172 (dk_at dksX4_restore_2 23 rfl rfl)
abbrev cX4_status : ByteArray := prog_21_method_93_code
def yX4_status : MethodName := ⟨RX4, "status", "(I)I"⟩
def dkwX4_status_4 : List UInt8 := [172, 2, 172]
abbrev dktX4_status_4 : List UInt8 := dkwX4_status_4 ++ []
def dkwX4_status_3 : List UInt8 := [172, 42, 42, 182, 0, 232, 182, 0, 107, 172, 42, 180, 0, 173, 172, 42, 180, 0, 16, 172, 42, 180, 1, 14]
abbrev dktX4_status_3 : List UInt8 := dkwX4_status_3 ++ dktX4_status_4
def dkwX4_status_2 : List UInt8 := [42, 180, 0, 84, 172, 42, 182, 0, 235, 172, 42, 180, 0, 7, 172, 42, 180, 0, 13, 172, 42, 182, 1, 7]
abbrev dktX4_status_2 : List UInt8 := dkwX4_status_2 ++ dktX4_status_3
def dkwX4_status_1 : List UInt8 := [170, 0, 0, 0, 98, 0, 0, 0, 0, 0, 0, 0, 8, 0, 0, 0, 49, 0, 0, 0, 54, 0, 0, 0, 59, 0, 0, 0, 64, 0, 0, 0, 69, 0, 0, 0, 74, 0, 0, 0, 83, 0, 0, 0, 88, 0, 0, 0, 93]
abbrev dktX4_status_1 : List UInt8 := dkwX4_status_1 ++ dktX4_status_2
def dkwX4_status_0 : List UInt8 := [27, 16, 11, 161, 0, 19, 27, 16, 17, 163, 0, 13, 42, 180, 0, 22, 27, 16, 10, 100, 46, 172, 27]
abbrev dktX4_status_0 : List UInt8 := dkwX4_status_0 ++ dktX4_status_1
theorem dksX4_status_0 : cX4_status.data.toList.drop 0 = dktX4_status_0 := by decide +kernel
theorem dksX4_status_1 : cX4_status.data.toList.drop 23 = dktX4_status_1 := dk_seg dksX4_status_0 23 rfl rfl
theorem dksX4_status_2 : cX4_status.data.toList.drop 72 = dktX4_status_2 := dk_seg dksX4_status_1 49 rfl rfl
theorem dksX4_status_3 : cX4_status.data.toList.drop 96 = dktX4_status_3 := dk_seg dksX4_status_2 24 rfl rfl
theorem dksX4_status_4 : cX4_status.data.toList.drop 120 = dktX4_status_4 := dk_seg dksX4_status_3 24 rfl rfl
theorem dX4_status_0 : decode cX4_status 0 = .ok (.iload_n 1, 1) := dk_27 (dk_at dksX4_status_0 0 rfl rfl)
theorem dX4_status_1 : decode cX4_status 1 = .ok (.bipush 11, 2) := dk_16 11 (dk_at dksX4_status_0 1 rfl rfl)
theorem dX4_status_3 : decode cX4_status 3 = .ok (.if_icmp .lt 19, 3) := dk_161 0 19 (dk_at dksX4_status_0 3 rfl rfl)
theorem dX4_status_6 : decode cX4_status 6 = .ok (.iload_n 1, 1) := dk_27 (dk_at dksX4_status_0 6 rfl rfl)
theorem dX4_status_7 : decode cX4_status 7 = .ok (.bipush 17, 2) := dk_16 17 (dk_at dksX4_status_0 7 rfl rfl)
theorem dX4_status_9 : decode cX4_status 9 = .ok (.if_icmp .gt 13, 3) := dk_163 0 13 (dk_at dksX4_status_0 9 rfl rfl)
theorem dX4_status_12 : decode cX4_status 12 = .ok (.aload_n 0, 1) := dk_42 (dk_at dksX4_status_0 12 rfl rfl)
theorem dX4_status_13 : decode cX4_status 13 = .ok (.getfield 22, 3) := dk_180 0 22 (dk_at dksX4_status_0 13 rfl rfl)
theorem dX4_status_16 : decode cX4_status 16 = .ok (.iload_n 1, 1) := dk_27 (dk_at dksX4_status_0 16 rfl rfl)
theorem dX4_status_17 : decode cX4_status 17 = .ok (.bipush 10, 2) := dk_16 10 (dk_at dksX4_status_0 17 rfl rfl)
theorem dX4_status_19 : decode cX4_status 19 = .ok (.isub, 1) := dk_100 (dk_at dksX4_status_0 19 rfl rfl)
theorem dX4_status_20 : decode cX4_status 20 = .ok (.iaload, 1) := dk_46 (dk_at dksX4_status_0 20 rfl rfl)
theorem dX4_status_21 : decode cX4_status 21 = .ok (.ireturn, 1) := dk_172 (dk_at dksX4_status_0 21 rfl rfl)
theorem dX4_status_22 : decode cX4_status 22 = .ok (.iload_n 1, 1) := dk_27 (dk_at dksX4_status_0 22 rfl rfl)
theorem dX4_status_23 : decode cX4_status 23 = .ok (.tableswitch 98 0 8 #[49, 54, 59, 64, 69, 74, 83, 88, 93], 49) := by decide +kernel
theorem dX4_status_72 : decode cX4_status 72 = .ok (.aload_n 0, 1) := dk_42 (dk_at dksX4_status_2 0 rfl rfl)
theorem dX4_status_73 : decode cX4_status 73 = .ok (.getfield 84, 3) := dk_180 0 84 (dk_at dksX4_status_2 1 rfl rfl)
theorem dX4_status_76 : decode cX4_status 76 = .ok (.ireturn, 1) := dk_172 (dk_at dksX4_status_2 4 rfl rfl)
theorem dX4_status_77 : decode cX4_status 77 = .ok (.aload_n 0, 1) := dk_42 (dk_at dksX4_status_2 5 rfl rfl)
theorem dX4_status_78 : decode cX4_status 78 = .ok (.invokevirtual 235, 3) := dk_182 0 235 (dk_at dksX4_status_2 6 rfl rfl)
theorem dX4_status_81 : decode cX4_status 81 = .ok (.ireturn, 1) := dk_172 (dk_at dksX4_status_2 9 rfl rfl)
theorem dX4_status_82 : decode cX4_status 82 = .ok (.aload_n 0, 1) := dk_42 (dk_at dksX4_status_2 10 rfl rfl)
theorem dX4_status_83 : decode cX4_status 83 = .ok (.getfield 7, 3) := dk_180 0 7 (dk_at dksX4_status_2 11 rfl rfl)
theorem dX4_status_86 : decode cX4_status 86 = .ok (.ireturn, 1) := dk_172 (dk_at dksX4_status_2 14 rfl rfl)
theorem dX4_status_87 : decode cX4_status 87 = .ok (.aload_n 0, 1) := dk_42 (dk_at dksX4_status_2 15 rfl rfl)
theorem dX4_status_88 : decode cX4_status 88 = .ok (.getfield 13, 3) := dk_180 0 13 (dk_at dksX4_status_2 16 rfl rfl)
theorem dX4_status_91 : decode cX4_status 91 = .ok (.ireturn, 1) := dk_172 (dk_at dksX4_status_2 19 rfl rfl)
theorem dX4_status_92 : decode cX4_status 92 = .ok (.aload_n 0, 1) := dk_42 (dk_at dksX4_status_2 20 rfl rfl)
theorem dX4_status_93 : decode cX4_status 93 = .ok (.invokevirtual 263, 3) := dk_182 1 7 (dk_at dksX4_status_2 21 rfl rfl)
theorem dX4_status_96 : decode cX4_status 96 = .ok (.ireturn, 1) := dk_172 (dk_at dksX4_status_3 0 rfl rfl)
theorem dX4_status_97 : decode cX4_status 97 = .ok (.aload_n 0, 1) := dk_42 (dk_at dksX4_status_3 1 rfl rfl)
theorem dX4_status_98 : decode cX4_status 98 = .ok (.aload_n 0, 1) := dk_42 (dk_at dksX4_status_3 2 rfl rfl)
theorem dX4_status_99 : decode cX4_status 99 = .ok (.invokevirtual 232, 3) := dk_182 0 232 (dk_at dksX4_status_3 3 rfl rfl)
theorem dX4_status_102 : decode cX4_status 102 = .ok (.invokevirtual 107, 3) := dk_182 0 107 (dk_at dksX4_status_3 6 rfl rfl)
theorem dX4_status_105 : decode cX4_status 105 = .ok (.ireturn, 1) := dk_172 (dk_at dksX4_status_3 9 rfl rfl)
theorem dX4_status_106 : decode cX4_status 106 = .ok (.aload_n 0, 1) := dk_42 (dk_at dksX4_status_3 10 rfl rfl)
theorem dX4_status_107 : decode cX4_status 107 = .ok (.getfield 173, 3) := dk_180 0 173 (dk_at dksX4_status_3 11 rfl rfl)
theorem dX4_status_110 : decode cX4_status 110 = .ok (.ireturn, 1) := dk_172 (dk_at dksX4_status_3 14 rfl rfl)
theorem dX4_status_111 : decode cX4_status 111 = .ok (.aload_n 0, 1) := dk_42 (dk_at dksX4_status_3 15 rfl rfl)
theorem dX4_status_112 : decode cX4_status 112 = .ok (.getfield 16, 3) := dk_180 0 16 (dk_at dksX4_status_3 16 rfl rfl)
theorem dX4_status_115 : decode cX4_status 115 = .ok (.ireturn, 1) := dk_172 (dk_at dksX4_status_3 19 rfl rfl)
theorem dX4_status_116 : decode cX4_status 116 = .ok (.aload_n 0, 1) := dk_42 (dk_at dksX4_status_3 20 rfl rfl)
theorem dX4_status_117 : decode cX4_status 117 = .ok (.getfield 270, 3) := dk_180 1 14 (dk_at dksX4_status_3 21 rfl rfl)
theorem dX4_status_120 : decode cX4_status 120 = .ok (.ireturn, 1) := dk_172 (dk_at dksX4_status_4 0 rfl rfl)
theorem dX4_status_121 : decode cX4_status 121 = .ok (.iconst (-1), 1) := dk_2 (dk_at dksX4_status_4 1 rfl rfl)
theorem dX4_status_122 : decode cX4_status 122 = .ok (.ireturn, 1) := dk_172 (dk_at dksX4_status_4 2 rfl rfl)
theorem q79 : (Jvm.Cond.initialized "SeenByOneModel") ∈ lw_all := lw_g (lw_at lw_m1 5 rfl) rfl
theorem q1341 : (Jvm.Cond.instantiable "SeenByOneModel" (38 : Nat)) ∈ lw_all := lw_g (lw_at lw_m6 67 rfl) rfl
theorem q1343 : (Jvm.Cond.instanceMethod ({ cls := "SeenByOneModel", name := "<init>", desc := "()V" } : Jvm.MethodName)) ∈ lw_all := lw_g (lw_at lw_m6 69 rfl) rfl
theorem q1344 : (Jvm.Cond.code ({ cls := "SeenByOneModel", name := "<init>", desc := "()V" } : Jvm.MethodName) prog_21_method_1_code (1 : Nat) (Option.none : Option Jvm.ClassFile.FieldType)) ∈ lw_all := lw_g (lw_at lw_m6 70 rfl) rfl
theorem q1345 : (Jvm.Cond.methodLink "SeenByOneModel" (1 : Nat) ({ cls := "java/lang/Object", name := "<init>", desc := "()V" } : Jvm.MethodName)) ∈ lw_all := lw_g (lw_at lw_m6 71 rfl) rfl
theorem q1346 : (Jvm.Cond.fieldLink "SeenByOneModel" (84 : Nat) "SeenByOneModel" "things" "I") ∈ lw_all := lw_g (lw_at lw_m6 72 rfl) rfl
theorem q1347 : (Jvm.Cond.fieldLink "SeenByOneModel" (7 : Nat) "SeenByOneModel" "summer" "I") ∈ lw_all := lw_g (lw_at lw_m6 73 rfl) rfl
theorem q1348 : (Jvm.Cond.fieldLink "SeenByOneModel" (13 : Nat) "SeenByOneModel" "farthest" "I") ∈ lw_all := lw_g (lw_at lw_m6 74 rfl) rfl
theorem q1349 : (Jvm.Cond.fieldLink "SeenByOneModel" (173 : Nat) "SeenByOneModel" "fines" "I") ∈ lw_all := lw_g (lw_at lw_m6 75 rfl) rfl
theorem q1350 : (Jvm.Cond.fieldLink "SeenByOneModel" (16 : Nat) "SeenByOneModel" "seed" "I") ∈ lw_all := lw_g (lw_at lw_m6 76 rfl) rfl
theorem q1351 : (Jvm.Cond.fieldLink "SeenByOneModel" (19 : Nat) "SeenByOneModel" "fault" "I") ∈ lw_all := lw_g (lw_at lw_m6 77 rfl) rfl
theorem q1352 : (Jvm.Cond.fieldLink "SeenByOneModel" (22 : Nat) "SeenByOneModel" "refused" "[I") ∈ lw_all := lw_g (lw_at lw_m6 78 rfl) rfl
theorem q1353 : (Jvm.Cond.fieldLink "SeenByOneModel" (26 : Nat) "SeenByOneModel" "kind" "[I") ∈ lw_all := lw_g (lw_at lw_m6 79 rfl) rfl
theorem q1354 : (Jvm.Cond.fieldLink "SeenByOneModel" (29 : Nat) "SeenByOneModel" "xs" "[I") ∈ lw_all := lw_g (lw_at lw_m6 80 rfl) rfl
theorem q1355 : (Jvm.Cond.fieldLink "SeenByOneModel" (32 : Nat) "SeenByOneModel" "ys" "[I") ∈ lw_all := lw_g (lw_at lw_m6 81 rfl) rfl
theorem q1356 : (Jvm.Cond.fieldLink "SeenByOneModel" (35 : Nat) "SeenByOneModel" "high" "[I") ∈ lw_all := lw_g (lw_at lw_m6 82 rfl) rfl
theorem q1357 : (Jvm.Cond.fieldLink "SeenByOneModel" (38 : Nat) "SeenByOneModel" "part" "[I") ∈ lw_all := lw_g (lw_at lw_m6 83 rfl) rfl
theorem q1358 : (Jvm.Cond.fieldLink "SeenByOneModel" (41 : Nat) "SeenByOneModel" "drawn" "[I") ∈ lw_all := lw_g (lw_at lw_m6 84 rfl) rfl
theorem q1359 : (Jvm.Cond.fieldLink "SeenByOneModel" (44 : Nat) "SeenByOneModel" "shut" "[I") ∈ lw_all := lw_g (lw_at lw_m6 85 rfl) rfl
theorem q1360 : (Jvm.Cond.fieldLink "SeenByOneModel" (47 : Nat) "SeenByOneModel" "held" "[I") ∈ lw_all := lw_g (lw_at lw_m6 86 rfl) rfl
theorem q1361 : (Jvm.Cond.fieldLink "SeenByOneModel" (50 : Nat) "SeenByOneModel" "sort" "[I") ∈ lw_all := lw_g (lw_at lw_m6 87 rfl) rfl
theorem q1362 : (Jvm.Cond.fieldLink "SeenByOneModel" (53 : Nat) "SeenByOneModel" "size" "[I") ∈ lw_all := lw_g (lw_at lw_m6 88 rfl) rfl
theorem q1363 : (Jvm.Cond.fieldLink "SeenByOneModel" (56 : Nat) "SeenByOneModel" "shown" "[I") ∈ lw_all := lw_g (lw_at lw_m6 89 rfl) rfl
theorem q1364 : (Jvm.Cond.fieldLink "SeenByOneModel" (59 : Nat) "SeenByOneModel" "cells" "[J") ∈ lw_all := lw_g (lw_at lw_m6 90 rfl) rfl
theorem q1365 : (Jvm.Cond.fieldLink "SeenByOneModel" (63 : Nat) "SeenByOneModel" "carried" "[J") ∈ lw_all := lw_g (lw_at lw_m6 91 rfl) rfl
theorem q1366 : (Jvm.Cond.fieldLink "SeenByOneModel" (66 : Nat) "SeenByOneModel" "words" "[I") ∈ lw_all := lw_g (lw_at lw_m6 92 rfl) rfl
theorem q1367 : (Jvm.Cond.fieldLink "SeenByOneModel" (69 : Nat) "SeenByOneModel" "tell" "[I") ∈ lw_all := lw_g (lw_at lw_m6 93 rfl) rfl
theorem q1368 : (Jvm.Cond.fieldLink "SeenByOneModel" (139 : Nat) "SeenByOneModel" "base" "I") ∈ lw_all := lw_g (lw_at lw_m6 94 rfl) rfl
theorem q1369 : (Jvm.Cond.fieldLink "SeenByOneModel" (133 : Nat) "SeenByOneModel" "place" "I") ∈ lw_all := lw_g (lw_at lw_m6 95 rfl) rfl
theorem q1370 : (Jvm.Cond.fieldLink "SeenByOneModel" (136 : Nat) "SeenByOneModel" "end" "I") ∈ lw_all := lw_g (lw_at lw_m6 96 rfl) rfl
theorem q1371 : (Jvm.Cond.fieldLink "SeenByOneModel" (142 : Nat) "SeenByOneModel" "told" "I") ∈ lw_all := lw_g (lw_at lw_m6 97 rfl) rfl
theorem q1372 : (Jvm.Cond.fieldLink "SeenByOneModel" (130 : Nat) "SeenByOneModel" "wrongAt" "I") ∈ lw_all := lw_g (lw_at lw_m6 98 rfl) rfl
theorem q1373 : (Jvm.Cond.fieldLink "SeenByOneModel" (72 : Nat) "SeenByOneModel" "was" "[I") ∈ lw_all := lw_g (lw_at lw_m6 99 rfl) rfl
theorem q1374 : (Jvm.Cond.fieldLink "SeenByOneModel" (75 : Nat) "SeenByOneModel" "kept" "[I") ∈ lw_all := lw_g (lw_at lw_m6 100 rfl) rfl
theorem q1375 : (Jvm.Cond.fieldLink "SeenByOneModel" (219 : Nat) "SeenByOneModel" "cheapCost" "I") ∈ lw_all := lw_g (lw_at lw_m6 101 rfl) rfl
theorem q1376 : (Jvm.Cond.fieldLink "SeenByOneModel" (222 : Nat) "SeenByOneModel" "cheapNever" "I") ∈ lw_all := lw_g (lw_at lw_m6 102 rfl) rfl
theorem q1377 : (Jvm.Cond.fieldLink "SeenByOneModel" (225 : Nat) "SeenByOneModel" "cheapMany" "I") ∈ lw_all := lw_g (lw_at lw_m6 103 rfl) rfl
theorem q1378 : (Jvm.Cond.fieldLink "SeenByOneModel" (78 : Nat) "SeenByOneModel" "seen" "[I") ∈ lw_all := lw_g (lw_at lw_m6 104 rfl) rfl
theorem q1379 : (Jvm.Cond.fieldLink "SeenByOneModel" (251 : Nat) "SeenByOneModel" "toldAt" "I") ∈ lw_all := lw_g (lw_at lw_m6 105 rfl) rfl
theorem q1380 : (Jvm.Cond.fieldLink "SeenByOneModel" (254 : Nat) "SeenByOneModel" "toldOff" "I") ∈ lw_all := lw_g (lw_at lw_m6 106 rfl) rfl
theorem q1381 : (Jvm.Cond.fieldLink "SeenByOneModel" (81 : Nat) "SeenByOneModel" "trace" "[I") ∈ lw_all := lw_g (lw_at lw_m6 107 rfl) rfl
theorem q1382 : (Jvm.Cond.fieldLink "SeenByOneModel" (270 : Nat) "SeenByOneModel" "ran" "I") ∈ lw_all := lw_g (lw_at lw_m6 108 rfl) rfl
theorem q1383 : (Jvm.Cond.fieldLink "SeenByOneModel" (285 : Nat) "SeenByOneModel" "isKept" "Z") ∈ lw_all := lw_g (lw_at lw_m6 109 rfl) rfl
theorem q1384 : (Jvm.Cond.lays "SeenByOneModel" "SeenByOneModel" "things" "I") ∈ lw_all := lw_g (lw_at lw_m6 110 rfl) rfl
theorem q1385 : (Jvm.Cond.soleField "SeenByOneModel" "things") ∈ lw_all := lw_g (lw_at lw_m6 111 rfl) rfl
theorem q1386 : (Jvm.Cond.lays "SeenByOneModel" "SeenByOneModel" "summer" "I") ∈ lw_all := lw_g (lw_at lw_m6 112 rfl) rfl
theorem q1387 : (Jvm.Cond.soleField "SeenByOneModel" "summer") ∈ lw_all := lw_g (lw_at lw_m6 113 rfl) rfl
theorem q1388 : (Jvm.Cond.lays "SeenByOneModel" "SeenByOneModel" "farthest" "I") ∈ lw_all := lw_g (lw_at lw_m6 114 rfl) rfl
theorem q1389 : (Jvm.Cond.soleField "SeenByOneModel" "farthest") ∈ lw_all := lw_g (lw_at lw_m6 115 rfl) rfl
theorem q1390 : (Jvm.Cond.lays "SeenByOneModel" "SeenByOneModel" "fines" "I") ∈ lw_all := lw_g (lw_at lw_m6 116 rfl) rfl
theorem q1391 : (Jvm.Cond.soleField "SeenByOneModel" "fines") ∈ lw_all := lw_g (lw_at lw_m6 117 rfl) rfl
theorem q1392 : (Jvm.Cond.lays "SeenByOneModel" "SeenByOneModel" "seed" "I") ∈ lw_all := lw_g (lw_at lw_m6 118 rfl) rfl
theorem q1393 : (Jvm.Cond.soleField "SeenByOneModel" "seed") ∈ lw_all := lw_g (lw_at lw_m6 119 rfl) rfl
theorem q1394 : (Jvm.Cond.lays "SeenByOneModel" "SeenByOneModel" "fault" "I") ∈ lw_all := lw_g (lw_at lw_m6 120 rfl) rfl
theorem q1395 : (Jvm.Cond.soleField "SeenByOneModel" "fault") ∈ lw_all := lw_g (lw_at lw_m6 121 rfl) rfl
theorem q1396 : (Jvm.Cond.laysFinal "SeenByOneModel" "SeenByOneModel" "refused" "[I") ∈ lw_all := lw_g (lw_at lw_m6 122 rfl) rfl
theorem q1397 : (Jvm.Cond.soleField "SeenByOneModel" "refused") ∈ lw_all := lw_g (lw_at lw_m6 123 rfl) rfl
theorem q1398 : (Jvm.Cond.laysFinal "SeenByOneModel" "SeenByOneModel" "kind" "[I") ∈ lw_all := lw_g (lw_at lw_m6 124 rfl) rfl
theorem q1399 : (Jvm.Cond.soleField "SeenByOneModel" "kind") ∈ lw_all := lw_g (lw_at lw_m6 125 rfl) rfl
theorem q1400 : (Jvm.Cond.laysFinal "SeenByOneModel" "SeenByOneModel" "xs" "[I") ∈ lw_all := lw_g (lw_at lw_m6 126 rfl) rfl
theorem q1401 : (Jvm.Cond.soleField "SeenByOneModel" "xs") ∈ lw_all := lw_g (lw_at lw_m6 127 rfl) rfl
theorem q1402 : (Jvm.Cond.laysFinal "SeenByOneModel" "SeenByOneModel" "ys" "[I") ∈ lw_all := lw_g (lw_at lw_m6 128 rfl) rfl
theorem q1403 : (Jvm.Cond.soleField "SeenByOneModel" "ys") ∈ lw_all := lw_g (lw_at lw_m6 129 rfl) rfl
theorem q1404 : (Jvm.Cond.laysFinal "SeenByOneModel" "SeenByOneModel" "high" "[I") ∈ lw_all := lw_g (lw_at lw_m6 130 rfl) rfl
theorem q1405 : (Jvm.Cond.soleField "SeenByOneModel" "high") ∈ lw_all := lw_g (lw_at lw_m6 131 rfl) rfl
theorem q1406 : (Jvm.Cond.laysFinal "SeenByOneModel" "SeenByOneModel" "part" "[I") ∈ lw_all := lw_g (lw_at lw_m6 132 rfl) rfl
theorem q1407 : (Jvm.Cond.soleField "SeenByOneModel" "part") ∈ lw_all := lw_g (lw_at lw_m6 133 rfl) rfl
theorem q1408 : (Jvm.Cond.laysFinal "SeenByOneModel" "SeenByOneModel" "drawn" "[I") ∈ lw_all := lw_g (lw_at lw_m6 134 rfl) rfl
theorem q1409 : (Jvm.Cond.soleField "SeenByOneModel" "drawn") ∈ lw_all := lw_g (lw_at lw_m6 135 rfl) rfl
theorem q1410 : (Jvm.Cond.laysFinal "SeenByOneModel" "SeenByOneModel" "shut" "[I") ∈ lw_all := lw_g (lw_at lw_m6 136 rfl) rfl
theorem q1411 : (Jvm.Cond.soleField "SeenByOneModel" "shut") ∈ lw_all := lw_g (lw_at lw_m6 137 rfl) rfl
theorem q1412 : (Jvm.Cond.laysFinal "SeenByOneModel" "SeenByOneModel" "held" "[I") ∈ lw_all := lw_g (lw_at lw_m6 138 rfl) rfl
theorem q1413 : (Jvm.Cond.soleField "SeenByOneModel" "held") ∈ lw_all := lw_g (lw_at lw_m6 139 rfl) rfl
theorem q1414 : (Jvm.Cond.laysFinal "SeenByOneModel" "SeenByOneModel" "sort" "[I") ∈ lw_all := lw_g (lw_at lw_m6 140 rfl) rfl
theorem q1415 : (Jvm.Cond.soleField "SeenByOneModel" "sort") ∈ lw_all := lw_g (lw_at lw_m6 141 rfl) rfl
theorem q1416 : (Jvm.Cond.laysFinal "SeenByOneModel" "SeenByOneModel" "size" "[I") ∈ lw_all := lw_g (lw_at lw_m6 142 rfl) rfl
theorem q1417 : (Jvm.Cond.soleField "SeenByOneModel" "size") ∈ lw_all := lw_g (lw_at lw_m6 143 rfl) rfl
theorem q1418 : (Jvm.Cond.laysFinal "SeenByOneModel" "SeenByOneModel" "shown" "[I") ∈ lw_all := lw_g (lw_at lw_m6 144 rfl) rfl
theorem q1419 : (Jvm.Cond.soleField "SeenByOneModel" "shown") ∈ lw_all := lw_g (lw_at lw_m6 145 rfl) rfl
theorem q1420 : (Jvm.Cond.laysFinal "SeenByOneModel" "SeenByOneModel" "cells" "[J") ∈ lw_all := lw_g (lw_at lw_m6 146 rfl) rfl
theorem q1421 : (Jvm.Cond.soleField "SeenByOneModel" "cells") ∈ lw_all := lw_g (lw_at lw_m6 147 rfl) rfl
theorem q1422 : (Jvm.Cond.laysFinal "SeenByOneModel" "SeenByOneModel" "carried" "[J") ∈ lw_all := lw_g (lw_at lw_m6 148 rfl) rfl
theorem q1423 : (Jvm.Cond.soleField "SeenByOneModel" "carried") ∈ lw_all := lw_g (lw_at lw_m6 149 rfl) rfl
theorem q1424 : (Jvm.Cond.laysFinal "SeenByOneModel" "SeenByOneModel" "words" "[I") ∈ lw_all := lw_g (lw_at lw_m6 150 rfl) rfl
theorem q1425 : (Jvm.Cond.soleField "SeenByOneModel" "words") ∈ lw_all := lw_g (lw_at lw_m6 151 rfl) rfl
theorem q1426 : (Jvm.Cond.laysFinal "SeenByOneModel" "SeenByOneModel" "tell" "[I") ∈ lw_all := lw_g (lw_at lw_m6 152 rfl) rfl
theorem q1427 : (Jvm.Cond.soleField "SeenByOneModel" "tell") ∈ lw_all := lw_g (lw_at lw_m6 153 rfl) rfl
theorem q1428 : (Jvm.Cond.lays "SeenByOneModel" "SeenByOneModel" "base" "I") ∈ lw_all := lw_g (lw_at lw_m6 154 rfl) rfl
theorem q1429 : (Jvm.Cond.soleField "SeenByOneModel" "base") ∈ lw_all := lw_g (lw_at lw_m6 155 rfl) rfl
theorem q1430 : (Jvm.Cond.lays "SeenByOneModel" "SeenByOneModel" "place" "I") ∈ lw_all := lw_g (lw_at lw_m6 156 rfl) rfl
theorem q1431 : (Jvm.Cond.soleField "SeenByOneModel" "place") ∈ lw_all := lw_g (lw_at lw_m6 157 rfl) rfl
theorem q1432 : (Jvm.Cond.lays "SeenByOneModel" "SeenByOneModel" "end" "I") ∈ lw_all := lw_g (lw_at lw_m6 158 rfl) rfl
theorem q1433 : (Jvm.Cond.soleField "SeenByOneModel" "end") ∈ lw_all := lw_g (lw_at lw_m6 159 rfl) rfl
theorem q1434 : (Jvm.Cond.lays "SeenByOneModel" "SeenByOneModel" "told" "I") ∈ lw_all := lw_g (lw_at lw_m6 160 rfl) rfl
theorem q1435 : (Jvm.Cond.soleField "SeenByOneModel" "told") ∈ lw_all := lw_g (lw_at lw_m6 161 rfl) rfl
theorem q1436 : (Jvm.Cond.lays "SeenByOneModel" "SeenByOneModel" "wrongAt" "I") ∈ lw_all := lw_g (lw_at lw_m6 162 rfl) rfl
theorem q1437 : (Jvm.Cond.soleField "SeenByOneModel" "wrongAt") ∈ lw_all := lw_g (lw_at lw_m6 163 rfl) rfl
theorem q1438 : (Jvm.Cond.laysFinal "SeenByOneModel" "SeenByOneModel" "was" "[I") ∈ lw_all := lw_g (lw_at lw_m6 164 rfl) rfl
theorem q1439 : (Jvm.Cond.soleField "SeenByOneModel" "was") ∈ lw_all := lw_g (lw_at lw_m6 165 rfl) rfl
theorem q1440 : (Jvm.Cond.laysFinal "SeenByOneModel" "SeenByOneModel" "kept" "[I") ∈ lw_all := lw_g (lw_at lw_m6 166 rfl) rfl
theorem q1441 : (Jvm.Cond.soleField "SeenByOneModel" "kept") ∈ lw_all := lw_g (lw_at lw_m6 167 rfl) rfl
theorem q1442 : (Jvm.Cond.lays "SeenByOneModel" "SeenByOneModel" "cheapCost" "I") ∈ lw_all := lw_g (lw_at lw_m6 168 rfl) rfl
theorem q1443 : (Jvm.Cond.soleField "SeenByOneModel" "cheapCost") ∈ lw_all := lw_g (lw_at lw_m6 169 rfl) rfl
theorem q1444 : (Jvm.Cond.lays "SeenByOneModel" "SeenByOneModel" "cheapNever" "I") ∈ lw_all := lw_g (lw_at lw_m6 170 rfl) rfl
theorem q1445 : (Jvm.Cond.soleField "SeenByOneModel" "cheapNever") ∈ lw_all := lw_g (lw_at lw_m6 171 rfl) rfl
theorem q1446 : (Jvm.Cond.lays "SeenByOneModel" "SeenByOneModel" "cheapMany" "I") ∈ lw_all := lw_g (lw_at lw_m6 172 rfl) rfl
theorem q1447 : (Jvm.Cond.soleField "SeenByOneModel" "cheapMany") ∈ lw_all := lw_g (lw_at lw_m6 173 rfl) rfl
theorem q1448 : (Jvm.Cond.laysFinal "SeenByOneModel" "SeenByOneModel" "seen" "[I") ∈ lw_all := lw_g (lw_at lw_m6 174 rfl) rfl
theorem q1449 : (Jvm.Cond.soleField "SeenByOneModel" "seen") ∈ lw_all := lw_g (lw_at lw_m6 175 rfl) rfl
theorem q1450 : (Jvm.Cond.lays "SeenByOneModel" "SeenByOneModel" "toldAt" "I") ∈ lw_all := lw_g (lw_at lw_m6 176 rfl) rfl
theorem q1451 : (Jvm.Cond.soleField "SeenByOneModel" "toldAt") ∈ lw_all := lw_g (lw_at lw_m6 177 rfl) rfl
theorem q1452 : (Jvm.Cond.lays "SeenByOneModel" "SeenByOneModel" "toldOff" "I") ∈ lw_all := lw_g (lw_at lw_m6 178 rfl) rfl
theorem q1453 : (Jvm.Cond.soleField "SeenByOneModel" "toldOff") ∈ lw_all := lw_g (lw_at lw_m6 179 rfl) rfl
theorem q1454 : (Jvm.Cond.laysFinal "SeenByOneModel" "SeenByOneModel" "trace" "[I") ∈ lw_all := lw_g (lw_at lw_m6 180 rfl) rfl
theorem q1455 : (Jvm.Cond.soleField "SeenByOneModel" "trace") ∈ lw_all := lw_g (lw_at lw_m6 181 rfl) rfl
theorem q1456 : (Jvm.Cond.lays "SeenByOneModel" "SeenByOneModel" "ran" "I") ∈ lw_all := lw_g (lw_at lw_m6 182 rfl) rfl
theorem q1457 : (Jvm.Cond.soleField "SeenByOneModel" "ran") ∈ lw_all := lw_g (lw_at lw_m6 183 rfl) rfl
theorem q1458 : (Jvm.Cond.lays "SeenByOneModel" "SeenByOneModel" "isKept" "Z") ∈ lw_all := lw_g (lw_at lw_m6 184 rfl) rfl
theorem q1459 : (Jvm.Cond.soleField "SeenByOneModel" "isKept") ∈ lw_all := lw_g (lw_at lw_m6 185 rfl) rfl
theorem q1460 : (Jvm.Cond.superclass "SeenByOneModel" "java/lang/Object") ∈ lw_all := lw_g (lw_at lw_m6 186 rfl) rfl
theorem q1462 : (Jvm.Cond.instanceMethod ({ cls := "SeenByOneModel", name := "row", desc := "(III)I" } : Jvm.MethodName)) ∈ lw_all := lw_g (lw_at lw_m6 188 rfl) rfl
theorem q1463 : (Jvm.Cond.selects "SeenByOneModel" ({ cls := "SeenByOneModel", name := "row", desc := "(III)I" } : Jvm.MethodName) ({ cls := "SeenByOneModel", name := "row", desc := "(III)I" } : Jvm.MethodName)) ∈ lw_all := lw_g (lw_at lw_m6 189 rfl) rfl
theorem q1464 : (Jvm.Cond.code ({ cls := "SeenByOneModel", name := "row", desc := "(III)I" } : Jvm.MethodName) prog_21_method_10_code (5 : Nat) (Option.some Jvm.ClassFile.FieldType.int)) ∈ lw_all := lw_g (lw_at lw_m6 190 rfl) rfl
theorem q1465 : (Jvm.Cond.methodLink "SeenByOneModel" (94 : Nat) ({ cls := "SeenByOneModel", name := "isShelf", desc := "(I)Z" } : Jvm.MethodName)) ∈ lw_all := lw_g (lw_at lw_m6 191 rfl) rfl
theorem q1466 : (Jvm.Cond.privateMethod ({ cls := "SeenByOneModel", name := "isShelf", desc := "(I)Z" } : Jvm.MethodName)) ∈ lw_tbl := lw_at lw_m6 192 rfl
theorem q1467 : (Jvm.Cond.instanceMethod ({ cls := "SeenByOneModel", name := "isShelf", desc := "(I)Z" } : Jvm.MethodName)) ∈ lw_all := lw_g (lw_at lw_m6 193 rfl) rfl
theorem q1468 : (Jvm.Cond.code ({ cls := "SeenByOneModel", name := "isShelf", desc := "(I)Z" } : Jvm.MethodName) prog_21_method_5_code (2 : Nat) (Option.some Jvm.ClassFile.FieldType.boolean)) ∈ lw_all := lw_g (lw_at lw_m6 194 rfl) rfl
theorem q1469 : (Jvm.Cond.methodLink "SeenByOneModel" (97 : Nat) ({ cls := "SeenByOneModel", name := "no", desc := "(I)I" } : Jvm.MethodName)) ∈ lw_all := lw_g (lw_at lw_m6 195 rfl) rfl
theorem q1470 : (Jvm.Cond.privateMethod ({ cls := "SeenByOneModel", name := "no", desc := "(I)I" } : Jvm.MethodName)) ∈ lw_tbl := lw_at lw_m6 196 rfl
theorem q1471 : (Jvm.Cond.instanceMethod ({ cls := "SeenByOneModel", name := "no", desc := "(I)I" } : Jvm.MethodName)) ∈ lw_all := lw_g (lw_at lw_m6 197 rfl) rfl
theorem q1472 : (Jvm.Cond.code ({ cls := "SeenByOneModel", name := "no", desc := "(I)I" } : Jvm.MethodName) prog_21_method_2_code (2 : Nat) (Option.some Jvm.ClassFile.FieldType.int)) ∈ lw_all := lw_g (lw_at lw_m6 198 rfl) rfl
theorem q1474 : (Jvm.Cond.instanceMethod ({ cls := "SeenByOneModel", name := "set", desc := "(IIJ)I" } : Jvm.MethodName)) ∈ lw_all := lw_g (lw_at lw_m6 200 rfl) rfl
theorem q1475 : (Jvm.Cond.selects "SeenByOneModel" ({ cls := "SeenByOneModel", name := "set", desc := "(IIJ)I" } : Jvm.MethodName) ({ cls := "SeenByOneModel", name := "set", desc := "(IIJ)I" } : Jvm.MethodName)) ∈ lw_all := lw_g (lw_at lw_m6 201 rfl) rfl
theorem q1476 : (Jvm.Cond.code ({ cls := "SeenByOneModel", name := "set", desc := "(IIJ)I" } : Jvm.MethodName) prog_21_method_11_code (5 : Nat) (Option.some Jvm.ClassFile.FieldType.int)) ∈ lw_all := lw_g (lw_at lw_m6 202 rfl) rfl
theorem q1478 : (Jvm.Cond.instanceMethod ({ cls := "SeenByOneModel", name := "copy", desc := "(IIIII)I" } : Jvm.MethodName)) ∈ lw_all := lw_g (lw_at lw_m6 204 rfl) rfl
theorem q1479 : (Jvm.Cond.selects "SeenByOneModel" ({ cls := "SeenByOneModel", name := "copy", desc := "(IIIII)I" } : Jvm.MethodName) ({ cls := "SeenByOneModel", name := "copy", desc := "(IIIII)I" } : Jvm.MethodName)) ∈ lw_all := lw_g (lw_at lw_m6 205 rfl) rfl
theorem q1480 : (Jvm.Cond.code ({ cls := "SeenByOneModel", name := "copy", desc := "(IIIII)I" } : Jvm.MethodName) prog_21_method_12_code (7 : Nat) (Option.some Jvm.ClassFile.FieldType.int)) ∈ lw_all := lw_g (lw_at lw_m6 206 rfl) rfl
theorem q1482 : (Jvm.Cond.instanceMethod ({ cls := "SeenByOneModel", name := "element", desc := "(II)J" } : Jvm.MethodName)) ∈ lw_all := lw_g (lw_at lw_m6 208 rfl) rfl
theorem q1483 : (Jvm.Cond.selects "SeenByOneModel" ({ cls := "SeenByOneModel", name := "element", desc := "(II)J" } : Jvm.MethodName) ({ cls := "SeenByOneModel", name := "element", desc := "(II)J" } : Jvm.MethodName)) ∈ lw_all := lw_g (lw_at lw_m6 209 rfl) rfl
theorem q1484 : (Jvm.Cond.code ({ cls := "SeenByOneModel", name := "element", desc := "(II)J" } : Jvm.MethodName) prog_21_method_13_code (3 : Nat) (Option.some Jvm.ClassFile.FieldType.long)) ∈ lw_all := lw_g (lw_at lw_m6 210 rfl) rfl
theorem q1486 : (Jvm.Cond.instanceMethod ({ cls := "SeenByOneModel", name := "show", desc := "(II)I" } : Jvm.MethodName)) ∈ lw_all := lw_g (lw_at lw_m6 212 rfl) rfl
theorem q1487 : (Jvm.Cond.selects "SeenByOneModel" ({ cls := "SeenByOneModel", name := "show", desc := "(II)I" } : Jvm.MethodName) ({ cls := "SeenByOneModel", name := "show", desc := "(II)I" } : Jvm.MethodName)) ∈ lw_all := lw_g (lw_at lw_m6 213 rfl) rfl
theorem q1488 : (Jvm.Cond.code ({ cls := "SeenByOneModel", name := "show", desc := "(II)I" } : Jvm.MethodName) prog_21_method_14_code (3 : Nat) (Option.some Jvm.ClassFile.FieldType.int)) ∈ lw_all := lw_g (lw_at lw_m6 214 rfl) rfl
theorem q1489 : (Jvm.Cond.methodLink "SeenByOneModel" (87 : Nat) ({ cls := "SeenByOneModel", name := "isThing", desc := "(I)Z" } : Jvm.MethodName)) ∈ lw_all := lw_g (lw_at lw_m6 215 rfl) rfl
theorem q1490 : (Jvm.Cond.privateMethod ({ cls := "SeenByOneModel", name := "isThing", desc := "(I)Z" } : Jvm.MethodName)) ∈ lw_tbl := lw_at lw_m6 216 rfl
theorem q1491 : (Jvm.Cond.instanceMethod ({ cls := "SeenByOneModel", name := "isThing", desc := "(I)Z" } : Jvm.MethodName)) ∈ lw_all := lw_g (lw_at lw_m6 217 rfl) rfl
theorem q1492 : (Jvm.Cond.code ({ cls := "SeenByOneModel", name := "isThing", desc := "(I)Z" } : Jvm.MethodName) prog_21_method_6_code (2 : Nat) (Option.some Jvm.ClassFile.FieldType.boolean)) ∈ lw_all := lw_g (lw_at lw_m6 218 rfl) rfl
theorem q1494 : (Jvm.Cond.instanceMethod ({ cls := "SeenByOneModel", name := "holds", desc := "(I)I" } : Jvm.MethodName)) ∈ lw_all := lw_g (lw_at lw_m6 220 rfl) rfl
theorem q1495 : (Jvm.Cond.selects "SeenByOneModel" ({ cls := "SeenByOneModel", name := "holds", desc := "(I)I" } : Jvm.MethodName) ({ cls := "SeenByOneModel", name := "holds", desc := "(I)I" } : Jvm.MethodName)) ∈ lw_all := lw_g (lw_at lw_m6 221 rfl) rfl
theorem q1496 : (Jvm.Cond.code ({ cls := "SeenByOneModel", name := "holds", desc := "(I)I" } : Jvm.MethodName) prog_21_method_15_code (2 : Nat) (Option.some Jvm.ClassFile.FieldType.int)) ∈ lw_all := lw_g (lw_at lw_m6 222 rfl) rfl
theorem q1498 : (Jvm.Cond.instanceMethod ({ cls := "SeenByOneModel", name := "says", desc := "(II)I" } : Jvm.MethodName)) ∈ lw_all := lw_g (lw_at lw_m6 224 rfl) rfl
theorem q1499 : (Jvm.Cond.selects "SeenByOneModel" ({ cls := "SeenByOneModel", name := "says", desc := "(II)I" } : Jvm.MethodName) ({ cls := "SeenByOneModel", name := "says", desc := "(II)I" } : Jvm.MethodName)) ∈ lw_all := lw_g (lw_at lw_m6 225 rfl) rfl
theorem q1500 : (Jvm.Cond.code ({ cls := "SeenByOneModel", name := "says", desc := "(II)I" } : Jvm.MethodName) prog_21_method_16_code (5 : Nat) (Option.some Jvm.ClassFile.FieldType.int)) ∈ lw_all := lw_g (lw_at lw_m6 226 rfl) rfl
theorem q1501 : (Jvm.Cond.methodLink "SeenByOneModel" (91 : Nat) ({ cls := "SeenByOneModel", name := "isHouse", desc := "(I)Z" } : Jvm.MethodName)) ∈ lw_all := lw_g (lw_at lw_m6 227 rfl) rfl
theorem q1502 : (Jvm.Cond.privateMethod ({ cls := "SeenByOneModel", name := "isHouse", desc := "(I)Z" } : Jvm.MethodName)) ∈ lw_tbl := lw_at lw_m6 228 rfl
theorem q1503 : (Jvm.Cond.instanceMethod ({ cls := "SeenByOneModel", name := "isHouse", desc := "(I)Z" } : Jvm.MethodName)) ∈ lw_all := lw_g (lw_at lw_m6 229 rfl) rfl
theorem q1504 : (Jvm.Cond.code ({ cls := "SeenByOneModel", name := "isHouse", desc := "(I)Z" } : Jvm.MethodName) prog_21_method_7_code (2 : Nat) (Option.some Jvm.ClassFile.FieldType.boolean)) ∈ lw_all := lw_g (lw_at lw_m6 230 rfl) rfl
theorem q1505 : (Jvm.Cond.methodLink "SeenByOneModel" (101 : Nat) ({ cls := "SeenByOneModel", name := "tall", desc := "(I)I" } : Jvm.MethodName)) ∈ lw_all := lw_g (lw_at lw_m6 231 rfl) rfl
theorem q1506 : (Jvm.Cond.privateMethod ({ cls := "SeenByOneModel", name := "tall", desc := "(I)I" } : Jvm.MethodName)) ∈ lw_tbl := lw_at lw_m6 232 rfl
theorem q1507 : (Jvm.Cond.instanceMethod ({ cls := "SeenByOneModel", name := "tall", desc := "(I)I" } : Jvm.MethodName)) ∈ lw_all := lw_g (lw_at lw_m6 233 rfl) rfl
theorem q1508 : (Jvm.Cond.code ({ cls := "SeenByOneModel", name := "tall", desc := "(I)I" } : Jvm.MethodName) prog_21_method_40_code (2 : Nat) (Option.some Jvm.ClassFile.FieldType.int)) ∈ lw_all := lw_g (lw_at lw_m6 234 rfl) rfl
theorem q1509 : (Jvm.Cond.methodLink "SeenByOneModel" (104 : Nat) ({ cls := "SeenByOneModel", name := "seersOf", desc := "(I)I" } : Jvm.MethodName)) ∈ lw_all := lw_g (lw_at lw_m6 235 rfl) rfl
theorem q1510 : (Jvm.Cond.privateMethod ({ cls := "SeenByOneModel", name := "seersOf", desc := "(I)I" } : Jvm.MethodName)) ∈ lw_tbl := lw_at lw_m6 236 rfl
theorem q1511 : (Jvm.Cond.instanceMethod ({ cls := "SeenByOneModel", name := "seersOf", desc := "(I)I" } : Jvm.MethodName)) ∈ lw_all := lw_g (lw_at lw_m6 237 rfl) rfl
theorem q1512 : (Jvm.Cond.code ({ cls := "SeenByOneModel", name := "seersOf", desc := "(I)I" } : Jvm.MethodName) prog_21_method_49_code (4 : Nat) (Option.some Jvm.ClassFile.FieldType.int)) ∈ lw_all := lw_g (lw_at lw_m6 238 rfl) rfl
theorem q1513 : (Jvm.Cond.methodLink "SeenByOneModel" (204 : Nat) ({ cls := "SeenByOneModel", name := "seesInto", desc := "(I)I" } : Jvm.MethodName)) ∈ lw_all := lw_g (lw_at lw_m6 239 rfl) rfl
theorem q1514 : (Jvm.Cond.privateMethod ({ cls := "SeenByOneModel", name := "seesInto", desc := "(I)I" } : Jvm.MethodName)) ∈ lw_tbl := lw_at lw_m7 0 rfl
theorem q1515 : (Jvm.Cond.instanceMethod ({ cls := "SeenByOneModel", name := "seesInto", desc := "(I)I" } : Jvm.MethodName)) ∈ lw_all := lw_g (lw_at lw_m7 1 rfl) rfl
theorem q1516 : (Jvm.Cond.code ({ cls := "SeenByOneModel", name := "seesInto", desc := "(I)I" } : Jvm.MethodName) prog_21_method_48_code (4 : Nat) (Option.some Jvm.ClassFile.FieldType.int)) ∈ lw_all := lw_g (lw_at lw_m7 2 rfl) rfl
theorem q1517 : (Jvm.Cond.methodLink "SeenByOneModel" (201 : Nat) ({ cls := "SeenByOneModel", name := "isSeen", desc := "(II)Z" } : Jvm.MethodName)) ∈ lw_all := lw_g (lw_at lw_m7 3 rfl) rfl
theorem q1518 : (Jvm.Cond.privateMethod ({ cls := "SeenByOneModel", name := "isSeen", desc := "(II)Z" } : Jvm.MethodName)) ∈ lw_tbl := lw_at lw_m7 4 rfl
theorem q1519 : (Jvm.Cond.instanceMethod ({ cls := "SeenByOneModel", name := "isSeen", desc := "(II)Z" } : Jvm.MethodName)) ∈ lw_all := lw_g (lw_at lw_m7 5 rfl) rfl
theorem q1520 : (Jvm.Cond.code ({ cls := "SeenByOneModel", name := "isSeen", desc := "(II)Z" } : Jvm.MethodName) prog_21_method_47_code (3 : Nat) (Option.some Jvm.ClassFile.FieldType.boolean)) ∈ lw_all := lw_g (lw_at lw_m7 6 rfl) rfl
theorem q1521 : (Jvm.Cond.methodLink "SeenByOneModel" (198 : Nat) ({ cls := "SeenByOneModel", name := "looks", desc := "(II)Z" } : Jvm.MethodName)) ∈ lw_all := lw_g (lw_at lw_m7 7 rfl) rfl
theorem q1522 : (Jvm.Cond.privateMethod ({ cls := "SeenByOneModel", name := "looks", desc := "(II)Z" } : Jvm.MethodName)) ∈ lw_tbl := lw_at lw_m7 8 rfl
theorem q1523 : (Jvm.Cond.instanceMethod ({ cls := "SeenByOneModel", name := "looks", desc := "(II)Z" } : Jvm.MethodName)) ∈ lw_all := lw_g (lw_at lw_m7 9 rfl) rfl
theorem q1524 : (Jvm.Cond.code ({ cls := "SeenByOneModel", name := "looks", desc := "(II)Z" } : Jvm.MethodName) prog_21_method_46_code (3 : Nat) (Option.some Jvm.ClassFile.FieldType.boolean)) ∈ lw_all := lw_g (lw_at lw_m7 10 rfl) rfl
theorem q1525 : (Jvm.Cond.methodLink "SeenByOneModel" (192 : Nat) ({ cls := "SeenByOneModel", name := "distance", desc := "(II)I" } : Jvm.MethodName)) ∈ lw_all := lw_g (lw_at lw_m7 11 rfl) rfl
theorem q1526 : (Jvm.Cond.privateMethod ({ cls := "SeenByOneModel", name := "distance", desc := "(II)I" } : Jvm.MethodName)) ∈ lw_tbl := lw_at lw_m7 12 rfl
theorem q1527 : (Jvm.Cond.instanceMethod ({ cls := "SeenByOneModel", name := "distance", desc := "(II)I" } : Jvm.MethodName)) ∈ lw_all := lw_g (lw_at lw_m7 13 rfl) rfl
theorem q1528 : (Jvm.Cond.code ({ cls := "SeenByOneModel", name := "distance", desc := "(II)I" } : Jvm.MethodName) prog_21_method_43_code (5 : Nat) (Option.some Jvm.ClassFile.FieldType.int)) ∈ lw_all := lw_g (lw_at lw_m7 14 rfl) rfl
theorem q1529 : (Jvm.Cond.methodLink "SeenByOneModel" (186 : Nat) ({ cls := "SeenByOneModel", name := "sizeOf", desc := "(I)I" } : Jvm.MethodName)) ∈ lw_all := lw_g (lw_at lw_m7 15 rfl) rfl
theorem q1530 : (Jvm.Cond.privateMethod ({ cls := "SeenByOneModel", name := "sizeOf", desc := "(I)I" } : Jvm.MethodName)) ∈ lw_tbl := lw_at lw_m7 16 rfl
theorem q1531 : (Jvm.Cond.instanceMethod ({ cls := "SeenByOneModel", name := "sizeOf", desc := "(I)I" } : Jvm.MethodName)) ∈ lw_all := lw_g (lw_at lw_m7 17 rfl) rfl
theorem q1532 : (Jvm.Cond.code ({ cls := "SeenByOneModel", name := "sizeOf", desc := "(I)I" } : Jvm.MethodName) prog_21_method_42_code (2 : Nat) (Option.some Jvm.ClassFile.FieldType.int)) ∈ lw_all := lw_g (lw_at lw_m7 18 rfl) rfl
theorem q1533 : (Jvm.Cond.methodLink "SeenByOneModel" (195 : Nat) ({ cls := "SeenByOneModel", name := "inWay", desc := "(II)I" } : Jvm.MethodName)) ∈ lw_all := lw_g (lw_at lw_m7 19 rfl) rfl
theorem q1534 : (Jvm.Cond.privateMethod ({ cls := "SeenByOneModel", name := "inWay", desc := "(II)I" } : Jvm.MethodName)) ∈ lw_tbl := lw_at lw_m7 20 rfl
theorem q1535 : (Jvm.Cond.instanceMethod ({ cls := "SeenByOneModel", name := "inWay", desc := "(II)I" } : Jvm.MethodName)) ∈ lw_all := lw_g (lw_at lw_m7 21 rfl) rfl
theorem q1536 : (Jvm.Cond.code ({ cls := "SeenByOneModel", name := "inWay", desc := "(II)I" } : Jvm.MethodName) prog_21_method_45_code (9 : Nat) (Option.some Jvm.ClassFile.FieldType.int)) ∈ lw_all := lw_g (lw_at lw_m7 22 rfl) rfl
theorem q1537 : (Jvm.Cond.methodLink "SeenByOneModel" (189 : Nat) ({ cls := "SeenByOneModel", name := "divides", desc := "(II)I" } : Jvm.MethodName)) ∈ lw_all := lw_g (lw_at lw_m7 23 rfl) rfl
theorem q1538 : (Jvm.Cond.privateMethod ({ cls := "SeenByOneModel", name := "divides", desc := "(II)I" } : Jvm.MethodName)) ∈ lw_tbl := lw_at lw_m7 24 rfl
theorem q1539 : (Jvm.Cond.instanceMethod ({ cls := "SeenByOneModel", name := "divides", desc := "(II)I" } : Jvm.MethodName)) ∈ lw_all := lw_g (lw_at lw_m7 25 rfl) rfl
theorem q1540 : (Jvm.Cond.code ({ cls := "SeenByOneModel", name := "divides", desc := "(II)I" } : Jvm.MethodName) prog_21_method_44_code (3 : Nat) (Option.some Jvm.ClassFile.FieldType.int)) ∈ lw_all := lw_g (lw_at lw_m7 26 rfl) rfl
theorem q1541 : (Jvm.Cond.methodLink "SeenByOneModel" (116 : Nat) ({ cls := "SeenByOneModel", name := "at", desc := "(II)I" } : Jvm.MethodName)) ∈ lw_all := lw_g (lw_at lw_m7 27 rfl) rfl
theorem q1542 : (Jvm.Cond.privateMethod ({ cls := "SeenByOneModel", name := "at", desc := "(II)I" } : Jvm.MethodName)) ∈ lw_tbl := lw_at lw_m7 28 rfl
theorem q1543 : (Jvm.Cond.instanceMethod ({ cls := "SeenByOneModel", name := "at", desc := "(II)I" } : Jvm.MethodName)) ∈ lw_all := lw_g (lw_at lw_m7 29 rfl) rfl
theorem q1544 : (Jvm.Cond.code ({ cls := "SeenByOneModel", name := "at", desc := "(II)I" } : Jvm.MethodName) prog_21_method_20_code (4 : Nat) (Option.some Jvm.ClassFile.FieldType.int)) ∈ lw_all := lw_g (lw_at lw_m7 30 rfl) rfl
theorem q1545 : (Jvm.Cond.methodLink "SeenByOneModel" (110 : Nat) ({ cls := "SeenByOneModel", name := "eyes", desc := "(I)I" } : Jvm.MethodName)) ∈ lw_all := lw_g (lw_at lw_m7 31 rfl) rfl
theorem q1546 : (Jvm.Cond.privateMethod ({ cls := "SeenByOneModel", name := "eyes", desc := "(I)I" } : Jvm.MethodName)) ∈ lw_tbl := lw_at lw_m7 32 rfl
theorem q1547 : (Jvm.Cond.instanceMethod ({ cls := "SeenByOneModel", name := "eyes", desc := "(I)I" } : Jvm.MethodName)) ∈ lw_all := lw_g (lw_at lw_m7 33 rfl) rfl
theorem q1548 : (Jvm.Cond.code ({ cls := "SeenByOneModel", name := "eyes", desc := "(I)I" } : Jvm.MethodName) prog_21_method_41_code (2 : Nat) (Option.some Jvm.ClassFile.FieldType.int)) ∈ lw_all := lw_g (lw_at lw_m7 34 rfl) rfl
theorem q1549 : (Jvm.Cond.methodLink "SeenByOneModel" (107 : Nat) ({ cls := "SeenByOneModel", name := "many", desc := "(I)I" } : Jvm.MethodName)) ∈ lw_all := lw_g (lw_at lw_m7 35 rfl) rfl
theorem q1550 : (Jvm.Cond.privateMethod ({ cls := "SeenByOneModel", name := "many", desc := "(I)I" } : Jvm.MethodName)) ∈ lw_tbl := lw_at lw_m7 36 rfl
theorem q1551 : (Jvm.Cond.instanceMethod ({ cls := "SeenByOneModel", name := "many", desc := "(I)I" } : Jvm.MethodName)) ∈ lw_all := lw_g (lw_at lw_m7 37 rfl) rfl
theorem q1552 : (Jvm.Cond.code ({ cls := "SeenByOneModel", name := "many", desc := "(I)I" } : Jvm.MethodName) prog_21_method_19_code (4 : Nat) (Option.some Jvm.ClassFile.FieldType.int)) ∈ lw_all := lw_g (lw_at lw_m7 38 rfl) rfl
theorem q1553 : (Jvm.Cond.methodLink "SeenByOneModel" (113 : Nat) ({ cls := "SeenByOneModel", name := "isRight", desc := "(I)Z" } : Jvm.MethodName)) ∈ lw_all := lw_g (lw_at lw_m7 39 rfl) rfl
theorem q1554 : (Jvm.Cond.privateMethod ({ cls := "SeenByOneModel", name := "isRight", desc := "(I)Z" } : Jvm.MethodName)) ∈ lw_tbl := lw_at lw_m7 40 rfl
theorem q1555 : (Jvm.Cond.instanceMethod ({ cls := "SeenByOneModel", name := "isRight", desc := "(I)Z" } : Jvm.MethodName)) ∈ lw_all := lw_g (lw_at lw_m7 41 rfl) rfl
theorem q1556 : (Jvm.Cond.code ({ cls := "SeenByOneModel", name := "isRight", desc := "(I)Z" } : Jvm.MethodName) prog_21_method_50_code (2 : Nat) (Option.some Jvm.ClassFile.FieldType.boolean)) ∈ lw_all := lw_g (lw_at lw_m7 42 rfl) rfl
theorem q1558 : (Jvm.Cond.instanceMethod ({ cls := "SeenByOneModel", name := "thing", desc := "(IIIII)I" } : Jvm.MethodName)) ∈ lw_all := lw_g (lw_at lw_m7 44 rfl) rfl
theorem q1559 : (Jvm.Cond.selects "SeenByOneModel" ({ cls := "SeenByOneModel", name := "thing", desc := "(IIIII)I" } : Jvm.MethodName) ({ cls := "SeenByOneModel", name := "thing", desc := "(IIIII)I" } : Jvm.MethodName)) ∈ lw_all := lw_g (lw_at lw_m7 45 rfl) rfl
theorem q1560 : (Jvm.Cond.code ({ cls := "SeenByOneModel", name := "thing", desc := "(IIIII)I" } : Jvm.MethodName) prog_21_method_22_code (6 : Nat) (Option.some Jvm.ClassFile.FieldType.int)) ∈ lw_all := lw_g (lw_at lw_m7 46 rfl) rfl
theorem q1561 : (Jvm.Cond.methodLink "SeenByOneModel" (120 : Nat) ({ cls := "SeenByOneModel", name := "adds", desc := "(IIIII)I" } : Jvm.MethodName)) ∈ lw_all := lw_g (lw_at lw_m7 47 rfl) rfl
theorem q1562 : (Jvm.Cond.privateMethod ({ cls := "SeenByOneModel", name := "adds", desc := "(IIIII)I" } : Jvm.MethodName)) ∈ lw_tbl := lw_at lw_m7 48 rfl
theorem q1563 : (Jvm.Cond.instanceMethod ({ cls := "SeenByOneModel", name := "adds", desc := "(IIIII)I" } : Jvm.MethodName)) ∈ lw_all := lw_g (lw_at lw_m7 49 rfl) rfl
theorem q1564 : (Jvm.Cond.code ({ cls := "SeenByOneModel", name := "adds", desc := "(IIIII)I" } : Jvm.MethodName) prog_21_method_21_code (7 : Nat) (Option.some Jvm.ClassFile.FieldType.int)) ∈ lw_all := lw_g (lw_at lw_m7 50 rfl) rfl
theorem q1566 : (Jvm.Cond.instanceMethod ({ cls := "SeenByOneModel", name := "thingOf", desc := "(II)I" } : Jvm.MethodName)) ∈ lw_all := lw_g (lw_at lw_m7 52 rfl) rfl
theorem q1567 : (Jvm.Cond.selects "SeenByOneModel" ({ cls := "SeenByOneModel", name := "thingOf", desc := "(II)I" } : Jvm.MethodName) ({ cls := "SeenByOneModel", name := "thingOf", desc := "(II)I" } : Jvm.MethodName)) ∈ lw_all := lw_g (lw_at lw_m7 53 rfl) rfl
theorem q1568 : (Jvm.Cond.code ({ cls := "SeenByOneModel", name := "thingOf", desc := "(II)I" } : Jvm.MethodName) prog_21_method_23_code (3 : Nat) (Option.some Jvm.ClassFile.FieldType.int)) ∈ lw_all := lw_g (lw_at lw_m7 54 rfl) rfl
theorem q1570 : (Jvm.Cond.instanceMethod ({ cls := "SeenByOneModel", name := "height", desc := "(II)I" } : Jvm.MethodName)) ∈ lw_all := lw_g (lw_at lw_m7 56 rfl) rfl
theorem q1571 : (Jvm.Cond.selects "SeenByOneModel" ({ cls := "SeenByOneModel", name := "height", desc := "(II)I" } : Jvm.MethodName) ({ cls := "SeenByOneModel", name := "height", desc := "(II)I" } : Jvm.MethodName)) ∈ lw_all := lw_g (lw_at lw_m7 57 rfl) rfl
theorem q1572 : (Jvm.Cond.code ({ cls := "SeenByOneModel", name := "height", desc := "(II)I" } : Jvm.MethodName) prog_21_method_24_code (4 : Nat) (Option.some Jvm.ClassFile.FieldType.int)) ∈ lw_all := lw_g (lw_at lw_m7 58 rfl) rfl
theorem q1574 : (Jvm.Cond.instanceMethod ({ cls := "SeenByOneModel", name := "ask", desc := "(II)I" } : Jvm.MethodName)) ∈ lw_all := lw_g (lw_at lw_m7 60 rfl) rfl
theorem q1575 : (Jvm.Cond.selects "SeenByOneModel" ({ cls := "SeenByOneModel", name := "ask", desc := "(II)I" } : Jvm.MethodName) ({ cls := "SeenByOneModel", name := "ask", desc := "(II)I" } : Jvm.MethodName)) ∈ lw_all := lw_g (lw_at lw_m7 61 rfl) rfl
theorem q1576 : (Jvm.Cond.code ({ cls := "SeenByOneModel", name := "ask", desc := "(II)I" } : Jvm.MethodName) prog_21_method_25_code (4 : Nat) (Option.some Jvm.ClassFile.FieldType.int)) ∈ lw_all := lw_g (lw_at lw_m7 62 rfl) rfl
theorem q1578 : (Jvm.Cond.instanceMethod ({ cls := "SeenByOneModel", name := "shut", desc := "(IIZ)I" } : Jvm.MethodName)) ∈ lw_all := lw_g (lw_at lw_m7 64 rfl) rfl
theorem q1579 : (Jvm.Cond.selects "SeenByOneModel" ({ cls := "SeenByOneModel", name := "shut", desc := "(IIZ)I" } : Jvm.MethodName) ({ cls := "SeenByOneModel", name := "shut", desc := "(IIZ)I" } : Jvm.MethodName)) ∈ lw_all := lw_g (lw_at lw_m7 65 rfl) rfl
theorem q1580 : (Jvm.Cond.code ({ cls := "SeenByOneModel", name := "shut", desc := "(IIZ)I" } : Jvm.MethodName) prog_21_method_26_code (6 : Nat) (Option.some Jvm.ClassFile.FieldType.int)) ∈ lw_all := lw_g (lw_at lw_m7 66 rfl) rfl
theorem q1581 : (Jvm.Cond.methodLink "SeenByOneModel" (124 : Nat) ({ cls := "SeenByOneModel", name := "barredTwo", desc := "(II)I" } : Jvm.MethodName)) ∈ lw_all := lw_g (lw_at lw_m7 67 rfl) rfl
theorem q1582 : (Jvm.Cond.privateMethod ({ cls := "SeenByOneModel", name := "barredTwo", desc := "(II)I" } : Jvm.MethodName)) ∈ lw_tbl := lw_at lw_m7 68 rfl
theorem q1583 : (Jvm.Cond.instanceMethod ({ cls := "SeenByOneModel", name := "barredTwo", desc := "(II)I" } : Jvm.MethodName)) ∈ lw_all := lw_g (lw_at lw_m7 69 rfl) rfl
theorem q1584 : (Jvm.Cond.code ({ cls := "SeenByOneModel", name := "barredTwo", desc := "(II)I" } : Jvm.MethodName) prog_21_method_9_code (3 : Nat) (Option.some Jvm.ClassFile.FieldType.int)) ∈ lw_all := lw_g (lw_at lw_m7 70 rfl) rfl
theorem q1586 : (Jvm.Cond.instanceMethod ({ cls := "SeenByOneModel", name := "draw", desc := "(IZ)I" } : Jvm.MethodName)) ∈ lw_all := lw_g (lw_at lw_m7 72 rfl) rfl
theorem q1587 : (Jvm.Cond.selects "SeenByOneModel" ({ cls := "SeenByOneModel", name := "draw", desc := "(IZ)I" } : Jvm.MethodName) ({ cls := "SeenByOneModel", name := "draw", desc := "(IZ)I" } : Jvm.MethodName)) ∈ lw_all := lw_g (lw_at lw_m7 73 rfl) rfl
theorem q1588 : (Jvm.Cond.code ({ cls := "SeenByOneModel", name := "draw", desc := "(IZ)I" } : Jvm.MethodName) prog_21_method_27_code (5 : Nat) (Option.some Jvm.ClassFile.FieldType.int)) ∈ lw_all := lw_g (lw_at lw_m7 74 rfl) rfl
theorem q1589 : (Jvm.Cond.methodLink "SeenByOneModel" (127 : Nat) ({ cls := "SeenByOneModel", name := "barred", desc := "(I)I" } : Jvm.MethodName)) ∈ lw_all := lw_g (lw_at lw_m7 75 rfl) rfl
theorem q1590 : (Jvm.Cond.privateMethod ({ cls := "SeenByOneModel", name := "barred", desc := "(I)I" } : Jvm.MethodName)) ∈ lw_tbl := lw_at lw_m7 76 rfl
theorem q1591 : (Jvm.Cond.instanceMethod ({ cls := "SeenByOneModel", name := "barred", desc := "(I)I" } : Jvm.MethodName)) ∈ lw_all := lw_g (lw_at lw_m7 77 rfl) rfl
theorem q1592 : (Jvm.Cond.code ({ cls := "SeenByOneModel", name := "barred", desc := "(I)I" } : Jvm.MethodName) prog_21_method_8_code (2 : Nat) (Option.some Jvm.ClassFile.FieldType.int)) ∈ lw_all := lw_g (lw_at lw_m7 78 rfl) rfl
theorem q1594 : (Jvm.Cond.instanceMethod ({ cls := "SeenByOneModel", name := "ground", desc := "(I)I" } : Jvm.MethodName)) ∈ lw_all := lw_g (lw_at lw_m7 80 rfl) rfl
theorem q1595 : (Jvm.Cond.selects "SeenByOneModel" ({ cls := "SeenByOneModel", name := "ground", desc := "(I)I" } : Jvm.MethodName) ({ cls := "SeenByOneModel", name := "ground", desc := "(I)I" } : Jvm.MethodName)) ∈ lw_all := lw_g (lw_at lw_m7 81 rfl) rfl
theorem q1596 : (Jvm.Cond.code ({ cls := "SeenByOneModel", name := "ground", desc := "(I)I" } : Jvm.MethodName) prog_21_method_38_code (5 : Nat) (Option.some Jvm.ClassFile.FieldType.int)) ∈ lw_all := lw_g (lw_at lw_m7 82 rfl) rfl
theorem q1597 : (Jvm.Cond.methodLink "SeenByOneModel" (176 : Nat) ({ cls := "SeenByOneModel", name := "wants", desc := "(I)I" } : Jvm.MethodName)) ∈ lw_all := lw_g (lw_at lw_m7 83 rfl) rfl
theorem q1598 : (Jvm.Cond.privateMethod ({ cls := "SeenByOneModel", name := "wants", desc := "(I)I" } : Jvm.MethodName)) ∈ lw_tbl := lw_at lw_m7 84 rfl
theorem q1599 : (Jvm.Cond.instanceMethod ({ cls := "SeenByOneModel", name := "wants", desc := "(I)I" } : Jvm.MethodName)) ∈ lw_all := lw_g (lw_at lw_m7 85 rfl) rfl
theorem q1600 : (Jvm.Cond.code ({ cls := "SeenByOneModel", name := "wants", desc := "(I)I" } : Jvm.MethodName) prog_21_method_17_code (2 : Nat) (Option.some Jvm.ClassFile.FieldType.int)) ∈ lw_all := lw_g (lw_at lw_m7 86 rfl) rfl
theorem q1601 : (Jvm.Cond.methodLink "SeenByOneModel" (179 : Nat) ({ cls := "SeenByOneModel", name := "all", desc := "([IZ)V" } : Jvm.MethodName)) ∈ lw_all := lw_g (lw_at lw_m7 87 rfl) rfl
theorem q1602 : (Jvm.Cond.privateMethod ({ cls := "SeenByOneModel", name := "all", desc := "([IZ)V" } : Jvm.MethodName)) ∈ lw_tbl := lw_at lw_m7 88 rfl
theorem q1603 : (Jvm.Cond.instanceMethod ({ cls := "SeenByOneModel", name := "all", desc := "([IZ)V" } : Jvm.MethodName)) ∈ lw_all := lw_g (lw_at lw_m7 89 rfl) rfl
theorem q1604 : (Jvm.Cond.code ({ cls := "SeenByOneModel", name := "all", desc := "([IZ)V" } : Jvm.MethodName) prog_21_method_37_code (4 : Nat) (Option.none : Option Jvm.ClassFile.FieldType)) ∈ lw_all := lw_g (lw_at lw_m7 90 rfl) rfl
theorem q1605 : (Jvm.Cond.methodLink "SeenByOneModel" (169 : Nat) ({ cls := "SeenByOneModel", name := "carries", desc := "([I[IIZ)I" } : Jvm.MethodName)) ∈ lw_all := lw_g (lw_at lw_m7 91 rfl) rfl
theorem q1606 : (Jvm.Cond.privateMethod ({ cls := "SeenByOneModel", name := "carries", desc := "([I[IIZ)I" } : Jvm.MethodName)) ∈ lw_tbl := lw_at lw_m7 92 rfl
theorem q1607 : (Jvm.Cond.instanceMethod ({ cls := "SeenByOneModel", name := "carries", desc := "([I[IIZ)I" } : Jvm.MethodName)) ∈ lw_all := lw_g (lw_at lw_m7 93 rfl) rfl
theorem q1608 : (Jvm.Cond.code ({ cls := "SeenByOneModel", name := "carries", desc := "([I[IIZ)I" } : Jvm.MethodName) prog_21_method_36_code (6 : Nat) (Option.some Jvm.ClassFile.FieldType.int)) ∈ lw_all := lw_g (lw_at lw_m7 94 rfl) rfl
theorem q1609 : (Jvm.Cond.methodLink "SeenByOneModel" (183 : Nat) ({ cls := "SeenByOneModel", name := "item", desc := "()Z" } : Jvm.MethodName)) ∈ lw_all := lw_g (lw_at lw_m7 95 rfl) rfl
theorem q1610 : (Jvm.Cond.privateMethod ({ cls := "SeenByOneModel", name := "item", desc := "()Z" } : Jvm.MethodName)) ∈ lw_tbl := lw_at lw_m7 96 rfl
theorem q1611 : (Jvm.Cond.instanceMethod ({ cls := "SeenByOneModel", name := "item", desc := "()Z" } : Jvm.MethodName)) ∈ lw_all := lw_g (lw_at lw_m7 97 rfl) rfl
theorem q1612 : (Jvm.Cond.code ({ cls := "SeenByOneModel", name := "item", desc := "()Z" } : Jvm.MethodName) prog_21_method_35_code (6 : Nat) (Option.some Jvm.ClassFile.FieldType.boolean)) ∈ lw_all := lw_g (lw_at lw_m7 98 rfl) rfl
theorem q1613 : (Jvm.Cond.methodLink "SeenByOneModel" (152 : Nat) ({ cls := "SeenByOneModel", name := "isWordAt", desc := "(I)Z" } : Jvm.MethodName)) ∈ lw_all := lw_g (lw_at lw_m7 99 rfl) rfl
theorem q1614 : (Jvm.Cond.privateMethod ({ cls := "SeenByOneModel", name := "isWordAt", desc := "(I)Z" } : Jvm.MethodName)) ∈ lw_tbl := lw_at lw_m7 100 rfl
theorem q1615 : (Jvm.Cond.instanceMethod ({ cls := "SeenByOneModel", name := "isWordAt", desc := "(I)Z" } : Jvm.MethodName)) ∈ lw_all := lw_g (lw_at lw_m7 101 rfl) rfl
theorem q1616 : (Jvm.Cond.code ({ cls := "SeenByOneModel", name := "isWordAt", desc := "(I)Z" } : Jvm.MethodName) prog_21_method_34_code (4 : Nat) (Option.some Jvm.ClassFile.FieldType.boolean)) ∈ lw_all := lw_g (lw_at lw_m7 102 rfl) rfl
theorem q1617 : (Jvm.Cond.methodLink "SeenByOneModel" (155 : Nat) ({ cls := "SeenByOneModel", name := "isFull", desc := "(I)Z" } : Jvm.MethodName)) ∈ lw_all := lw_g (lw_at lw_m7 103 rfl) rfl
theorem q1618 : (Jvm.Cond.privateMethod ({ cls := "SeenByOneModel", name := "isFull", desc := "(I)Z" } : Jvm.MethodName)) ∈ lw_tbl := lw_at lw_m7 104 rfl
theorem q1619 : (Jvm.Cond.instanceMethod ({ cls := "SeenByOneModel", name := "isFull", desc := "(I)Z" } : Jvm.MethodName)) ∈ lw_all := lw_g (lw_at lw_m7 105 rfl) rfl
theorem q1620 : (Jvm.Cond.code ({ cls := "SeenByOneModel", name := "isFull", desc := "(I)Z" } : Jvm.MethodName) prog_21_method_33_code (2 : Nat) (Option.some Jvm.ClassFile.FieldType.boolean)) ∈ lw_all := lw_g (lw_at lw_m7 106 rfl) rfl
theorem q1621 : (Jvm.Cond.methodLink "SeenByOneModel" (149 : Nat) ({ cls := "SeenByOneModel", name := "wrong", desc := "(I)Z" } : Jvm.MethodName)) ∈ lw_all := lw_g (lw_at lw_m7 107 rfl) rfl
theorem q1622 : (Jvm.Cond.privateMethod ({ cls := "SeenByOneModel", name := "wrong", desc := "(I)Z" } : Jvm.MethodName)) ∈ lw_tbl := lw_at lw_m7 108 rfl
theorem q1623 : (Jvm.Cond.instanceMethod ({ cls := "SeenByOneModel", name := "wrong", desc := "(I)Z" } : Jvm.MethodName)) ∈ lw_all := lw_g (lw_at lw_m7 109 rfl) rfl
theorem q1624 : (Jvm.Cond.code ({ cls := "SeenByOneModel", name := "wrong", desc := "(I)Z" } : Jvm.MethodName) prog_21_method_28_code (2 : Nat) (Option.some Jvm.ClassFile.FieldType.boolean)) ∈ lw_all := lw_g (lw_at lw_m7 110 rfl) rfl
theorem q1625 : (Jvm.Cond.methodLink "SeenByOneModel" (158 : Nat) ({ cls := "SeenByOneModel", name := "word", desc := "()I" } : Jvm.MethodName)) ∈ lw_all := lw_g (lw_at lw_m7 111 rfl) rfl
theorem q1626 : (Jvm.Cond.privateMethod ({ cls := "SeenByOneModel", name := "word", desc := "()I" } : Jvm.MethodName)) ∈ lw_tbl := lw_at lw_m7 112 rfl
theorem q1627 : (Jvm.Cond.instanceMethod ({ cls := "SeenByOneModel", name := "word", desc := "()I" } : Jvm.MethodName)) ∈ lw_all := lw_g (lw_at lw_m7 113 rfl) rfl
theorem q1628 : (Jvm.Cond.code ({ cls := "SeenByOneModel", name := "word", desc := "()I" } : Jvm.MethodName) prog_21_method_29_code (6 : Nat) (Option.some Jvm.ClassFile.FieldType.int)) ∈ lw_all := lw_g (lw_at lw_m7 114 rfl) rfl
theorem q1629 : (Jvm.Cond.methodLink "SeenByOneModel" (162 : Nat) ({ cls := "SeenByOneModel", name := "number", desc := "()Z" } : Jvm.MethodName)) ∈ lw_all := lw_g (lw_at lw_m7 115 rfl) rfl
theorem q1630 : (Jvm.Cond.privateMethod ({ cls := "SeenByOneModel", name := "number", desc := "()Z" } : Jvm.MethodName)) ∈ lw_tbl := lw_at lw_m7 116 rfl
theorem q1631 : (Jvm.Cond.instanceMethod ({ cls := "SeenByOneModel", name := "number", desc := "()Z" } : Jvm.MethodName)) ∈ lw_all := lw_g (lw_at lw_m7 117 rfl) rfl
theorem q1632 : (Jvm.Cond.code ({ cls := "SeenByOneModel", name := "number", desc := "()Z" } : Jvm.MethodName) prog_21_method_31_code (1 : Nat) (Option.some Jvm.ClassFile.FieldType.boolean)) ∈ lw_all := lw_g (lw_at lw_m7 118 rfl) rfl
theorem q1633 : (Jvm.Cond.methodLink "SeenByOneModel" (145 : Nat) ({ cls := "SeenByOneModel", name := "isDigit", desc := "()Z" } : Jvm.MethodName)) ∈ lw_all := lw_g (lw_at lw_m7 119 rfl) rfl
theorem q1634 : (Jvm.Cond.privateMethod ({ cls := "SeenByOneModel", name := "isDigit", desc := "()Z" } : Jvm.MethodName)) ∈ lw_tbl := lw_at lw_m7 120 rfl
theorem q1635 : (Jvm.Cond.instanceMethod ({ cls := "SeenByOneModel", name := "isDigit", desc := "()Z" } : Jvm.MethodName)) ∈ lw_all := lw_g (lw_at lw_m7 121 rfl) rfl
theorem q1636 : (Jvm.Cond.code ({ cls := "SeenByOneModel", name := "isDigit", desc := "()Z" } : Jvm.MethodName) prog_21_method_30_code (1 : Nat) (Option.some Jvm.ClassFile.FieldType.boolean)) ∈ lw_all := lw_g (lw_at lw_m7 122 rfl) rfl
theorem q1637 : (Jvm.Cond.methodLink "SeenByOneModel" (165 : Nat) ({ cls := "SeenByOneModel", name := "isSo", desc := "(II)Z" } : Jvm.MethodName)) ∈ lw_all := lw_g (lw_at lw_m7 123 rfl) rfl
theorem q1638 : (Jvm.Cond.privateMethod ({ cls := "SeenByOneModel", name := "isSo", desc := "(II)Z" } : Jvm.MethodName)) ∈ lw_tbl := lw_at lw_m7 124 rfl
theorem q1639 : (Jvm.Cond.instanceMethod ({ cls := "SeenByOneModel", name := "isSo", desc := "(II)Z" } : Jvm.MethodName)) ∈ lw_all := lw_g (lw_at lw_m7 125 rfl) rfl
theorem q1640 : (Jvm.Cond.code ({ cls := "SeenByOneModel", name := "isSo", desc := "(II)Z" } : Jvm.MethodName) prog_21_method_32_code (3 : Nat) (Option.some Jvm.ClassFile.FieldType.boolean)) ∈ lw_all := lw_g (lw_at lw_m7 126 rfl) rfl
theorem q1642 : (Jvm.Cond.instanceMethod ({ cls := "SeenByOneModel", name := "fault", desc := "()I" } : Jvm.MethodName)) ∈ lw_all := lw_g (lw_at lw_m7 128 rfl) rfl
theorem q1643 : (Jvm.Cond.selects "SeenByOneModel" ({ cls := "SeenByOneModel", name := "fault", desc := "()I" } : Jvm.MethodName) ({ cls := "SeenByOneModel", name := "fault", desc := "()I" } : Jvm.MethodName)) ∈ lw_all := lw_g (lw_at lw_m7 129 rfl) rfl
theorem q1644 : (Jvm.Cond.code ({ cls := "SeenByOneModel", name := "fault", desc := "()I" } : Jvm.MethodName) prog_21_method_39_code (1 : Nat) (Option.some Jvm.ClassFile.FieldType.int)) ∈ lw_all := lw_g (lw_at lw_m7 130 rfl) rfl
theorem q1646 : (Jvm.Cond.instanceMethod ({ cls := "SeenByOneModel", name := "sees", desc := "(III)I" } : Jvm.MethodName)) ∈ lw_all := lw_g (lw_at lw_m7 132 rfl) rfl
theorem q1647 : (Jvm.Cond.selects "SeenByOneModel" ({ cls := "SeenByOneModel", name := "sees", desc := "(III)I" } : Jvm.MethodName) ({ cls := "SeenByOneModel", name := "sees", desc := "(III)I" } : Jvm.MethodName)) ∈ lw_all := lw_g (lw_at lw_m7 133 rfl) rfl
theorem q1648 : (Jvm.Cond.code ({ cls := "SeenByOneModel", name := "sees", desc := "(III)I" } : Jvm.MethodName) prog_21_method_52_code (5 : Nat) (Option.some Jvm.ClassFile.FieldType.int)) ∈ lw_all := lw_g (lw_at lw_m7 134 rfl) rfl
theorem q1650 : (Jvm.Cond.instanceMethod ({ cls := "SeenByOneModel", name := "bars", desc := "(II)I" } : Jvm.MethodName)) ∈ lw_all := lw_g (lw_at lw_m7 136 rfl) rfl
theorem q1651 : (Jvm.Cond.selects "SeenByOneModel" ({ cls := "SeenByOneModel", name := "bars", desc := "(II)I" } : Jvm.MethodName) ({ cls := "SeenByOneModel", name := "bars", desc := "(II)I" } : Jvm.MethodName)) ∈ lw_all := lw_g (lw_at lw_m7 137 rfl) rfl
theorem q1652 : (Jvm.Cond.code ({ cls := "SeenByOneModel", name := "bars", desc := "(II)I" } : Jvm.MethodName) prog_21_method_53_code (4 : Nat) (Option.some Jvm.ClassFile.FieldType.int)) ∈ lw_all := lw_g (lw_at lw_m7 138 rfl) rfl
theorem q1653 : (Jvm.Cond.methodLink "SeenByOneModel" (207 : Nat) ({ cls := "SeenByOneModel", name := "noTen", desc := "(I)I" } : Jvm.MethodName)) ∈ lw_all := lw_g (lw_at lw_m7 139 rfl) rfl
theorem q1654 : (Jvm.Cond.privateMethod ({ cls := "SeenByOneModel", name := "noTen", desc := "(I)I" } : Jvm.MethodName)) ∈ lw_tbl := lw_at lw_m7 140 rfl
theorem q1655 : (Jvm.Cond.instanceMethod ({ cls := "SeenByOneModel", name := "noTen", desc := "(I)I" } : Jvm.MethodName)) ∈ lw_all := lw_g (lw_at lw_m7 141 rfl) rfl
theorem q1656 : (Jvm.Cond.code ({ cls := "SeenByOneModel", name := "noTen", desc := "(I)I" } : Jvm.MethodName) prog_21_method_3_code (2 : Nat) (Option.some Jvm.ClassFile.FieldType.int)) ∈ lw_all := lw_g (lw_at lw_m7 142 rfl) rfl
theorem q1658 : (Jvm.Cond.instanceMethod ({ cls := "SeenByOneModel", name := "seers", desc := "(I)I" } : Jvm.MethodName)) ∈ lw_all := lw_g (lw_at lw_m7 144 rfl) rfl
theorem q1659 : (Jvm.Cond.selects "SeenByOneModel" ({ cls := "SeenByOneModel", name := "seers", desc := "(I)I" } : Jvm.MethodName) ({ cls := "SeenByOneModel", name := "seers", desc := "(I)I" } : Jvm.MethodName)) ∈ lw_all := lw_g (lw_at lw_m7 145 rfl) rfl
theorem q1660 : (Jvm.Cond.code ({ cls := "SeenByOneModel", name := "seers", desc := "(I)I" } : Jvm.MethodName) prog_21_method_54_code (3 : Nat) (Option.some Jvm.ClassFile.FieldType.int)) ∈ lw_all := lw_g (lw_at lw_m7 146 rfl) rfl
theorem q1662 : (Jvm.Cond.instanceMethod ({ cls := "SeenByOneModel", name := "right", desc := "()I" } : Jvm.MethodName)) ∈ lw_all := lw_g (lw_at lw_m7 148 rfl) rfl
theorem q1663 : (Jvm.Cond.selects "SeenByOneModel" ({ cls := "SeenByOneModel", name := "right", desc := "()I" } : Jvm.MethodName) ({ cls := "SeenByOneModel", name := "right", desc := "()I" } : Jvm.MethodName)) ∈ lw_all := lw_g (lw_at lw_m7 149 rfl) rfl
theorem q1664 : (Jvm.Cond.code ({ cls := "SeenByOneModel", name := "right", desc := "()I" } : Jvm.MethodName) prog_21_method_55_code (1 : Nat) (Option.some Jvm.ClassFile.FieldType.int)) ∈ lw_all := lw_g (lw_at lw_m7 150 rfl) rfl
theorem q1665 : (Jvm.Cond.methodLink "SeenByOneModel" (210 : Nat) ({ cls := "SeenByOneModel", name := "allRight", desc := "()I" } : Jvm.MethodName)) ∈ lw_all := lw_g (lw_at lw_m7 151 rfl) rfl
theorem q1666 : (Jvm.Cond.privateMethod ({ cls := "SeenByOneModel", name := "allRight", desc := "()I" } : Jvm.MethodName)) ∈ lw_tbl := lw_at lw_m7 152 rfl
theorem q1667 : (Jvm.Cond.instanceMethod ({ cls := "SeenByOneModel", name := "allRight", desc := "()I" } : Jvm.MethodName)) ∈ lw_all := lw_g (lw_at lw_m7 153 rfl) rfl
theorem q1668 : (Jvm.Cond.code ({ cls := "SeenByOneModel", name := "allRight", desc := "()I" } : Jvm.MethodName) prog_21_method_51_code (3 : Nat) (Option.some Jvm.ClassFile.FieldType.int)) ∈ lw_all := lw_g (lw_at lw_m7 154 rfl) rfl
theorem q1670 : (Jvm.Cond.instanceMethod ({ cls := "SeenByOneModel", name := "first", desc := "()I" } : Jvm.MethodName)) ∈ lw_all := lw_g (lw_at lw_m7 156 rfl) rfl
theorem q1671 : (Jvm.Cond.selects "SeenByOneModel" ({ cls := "SeenByOneModel", name := "first", desc := "()I" } : Jvm.MethodName) ({ cls := "SeenByOneModel", name := "first", desc := "()I" } : Jvm.MethodName)) ∈ lw_all := lw_g (lw_at lw_m7 157 rfl) rfl
theorem q1672 : (Jvm.Cond.code ({ cls := "SeenByOneModel", name := "first", desc := "()I" } : Jvm.MethodName) prog_21_method_56_code (3 : Nat) (Option.some Jvm.ClassFile.FieldType.int)) ∈ lw_all := lw_g (lw_at lw_m7 158 rfl) rfl
theorem q1674 : (Jvm.Cond.instanceMethod ({ cls := "SeenByOneModel", name := "cost", desc := "(II)I" } : Jvm.MethodName)) ∈ lw_all := lw_g (lw_at lw_m7 160 rfl) rfl
theorem q1675 : (Jvm.Cond.selects "SeenByOneModel" ({ cls := "SeenByOneModel", name := "cost", desc := "(II)I" } : Jvm.MethodName) ({ cls := "SeenByOneModel", name := "cost", desc := "(II)I" } : Jvm.MethodName)) ∈ lw_all := lw_g (lw_at lw_m7 161 rfl) rfl
theorem q1676 : (Jvm.Cond.code ({ cls := "SeenByOneModel", name := "cost", desc := "(II)I" } : Jvm.MethodName) prog_21_method_58_code (4 : Nat) (Option.some Jvm.ClassFile.FieldType.int)) ∈ lw_all := lw_g (lw_at lw_m7 162 rfl) rfl
theorem q1677 : (Jvm.Cond.methodLink "SeenByOneModel" (213 : Nat) ({ cls := "SeenByOneModel", name := "costOf", desc := "(II)I" } : Jvm.MethodName)) ∈ lw_all := lw_g (lw_at lw_m7 163 rfl) rfl
theorem q1678 : (Jvm.Cond.privateMethod ({ cls := "SeenByOneModel", name := "costOf", desc := "(II)I" } : Jvm.MethodName)) ∈ lw_tbl := lw_at lw_m7 164 rfl
theorem q1679 : (Jvm.Cond.instanceMethod ({ cls := "SeenByOneModel", name := "costOf", desc := "(II)I" } : Jvm.MethodName)) ∈ lw_all := lw_g (lw_at lw_m7 165 rfl) rfl
theorem q1680 : (Jvm.Cond.code ({ cls := "SeenByOneModel", name := "costOf", desc := "(II)I" } : Jvm.MethodName) prog_21_method_57_code (3 : Nat) (Option.some Jvm.ClassFile.FieldType.int)) ∈ lw_all := lw_g (lw_at lw_m7 166 rfl) rfl
theorem q1682 : (Jvm.Cond.instanceMethod ({ cls := "SeenByOneModel", name := "keeps", desc := "(I)I" } : Jvm.MethodName)) ∈ lw_all := lw_g (lw_at lw_m7 168 rfl) rfl
theorem q1683 : (Jvm.Cond.selects "SeenByOneModel" ({ cls := "SeenByOneModel", name := "keeps", desc := "(I)I" } : Jvm.MethodName) ({ cls := "SeenByOneModel", name := "keeps", desc := "(I)I" } : Jvm.MethodName)) ∈ lw_all := lw_g (lw_at lw_m7 169 rfl) rfl
theorem q1684 : (Jvm.Cond.code ({ cls := "SeenByOneModel", name := "keeps", desc := "(I)I" } : Jvm.MethodName) prog_21_method_60_code (3 : Nat) (Option.some Jvm.ClassFile.FieldType.int)) ∈ lw_all := lw_g (lw_at lw_m7 170 rfl) rfl
theorem q1685 : (Jvm.Cond.methodLink "SeenByOneModel" (216 : Nat) ({ cls := "SeenByOneModel", name := "keptOf", desc := "(I)I" } : Jvm.MethodName)) ∈ lw_all := lw_g (lw_at lw_m7 171 rfl) rfl
theorem q1686 : (Jvm.Cond.privateMethod ({ cls := "SeenByOneModel", name := "keptOf", desc := "(I)I" } : Jvm.MethodName)) ∈ lw_tbl := lw_at lw_m7 172 rfl
theorem q1687 : (Jvm.Cond.instanceMethod ({ cls := "SeenByOneModel", name := "keptOf", desc := "(I)I" } : Jvm.MethodName)) ∈ lw_all := lw_g (lw_at lw_m7 173 rfl) rfl
theorem q1688 : (Jvm.Cond.code ({ cls := "SeenByOneModel", name := "keptOf", desc := "(I)I" } : Jvm.MethodName) prog_21_method_59_code (5 : Nat) (Option.some Jvm.ClassFile.FieldType.int)) ∈ lw_all := lw_g (lw_at lw_m7 174 rfl) rfl
theorem q1690 : (Jvm.Cond.instanceMethod ({ cls := "SeenByOneModel", name := "cheapest", desc := "(I)I" } : Jvm.MethodName)) ∈ lw_all := lw_g (lw_at lw_m7 176 rfl) rfl
theorem q1691 : (Jvm.Cond.selects "SeenByOneModel" ({ cls := "SeenByOneModel", name := "cheapest", desc := "(I)I" } : Jvm.MethodName) ({ cls := "SeenByOneModel", name := "cheapest", desc := "(I)I" } : Jvm.MethodName)) ∈ lw_all := lw_g (lw_at lw_m7 177 rfl) rfl
theorem q1692 : (Jvm.Cond.code ({ cls := "SeenByOneModel", name := "cheapest", desc := "(I)I" } : Jvm.MethodName) prog_21_method_62_code (2 : Nat) (Option.some Jvm.ClassFile.FieldType.int)) ∈ lw_all := lw_g (lw_at lw_m7 178 rfl) rfl
theorem q1693 : (Jvm.Cond.methodLink "SeenByOneModel" (228 : Nat) ({ cls := "SeenByOneModel", name := "shutters", desc := "(Z)V" } : Jvm.MethodName)) ∈ lw_all := lw_g (lw_at lw_m7 179 rfl) rfl
theorem q1694 : (Jvm.Cond.privateMethod ({ cls := "SeenByOneModel", name := "shutters", desc := "(Z)V" } : Jvm.MethodName)) ∈ lw_tbl := lw_at lw_m7 180 rfl
theorem q1695 : (Jvm.Cond.instanceMethod ({ cls := "SeenByOneModel", name := "shutters", desc := "(Z)V" } : Jvm.MethodName)) ∈ lw_all := lw_g (lw_at lw_m7 181 rfl) rfl
theorem q1696 : (Jvm.Cond.code ({ cls := "SeenByOneModel", name := "shutters", desc := "(Z)V" } : Jvm.MethodName) prog_21_method_61_code (6 : Nat) (Option.none : Option Jvm.ClassFile.FieldType)) ∈ lw_all := lw_g (lw_at lw_m7 182 rfl) rfl
theorem q1698 : (Jvm.Cond.instanceMethod ({ cls := "SeenByOneModel", name := "curtains", desc := "(I)I" } : Jvm.MethodName)) ∈ lw_all := lw_g (lw_at lw_m7 184 rfl) rfl
theorem q1699 : (Jvm.Cond.selects "SeenByOneModel" ({ cls := "SeenByOneModel", name := "curtains", desc := "(I)I" } : Jvm.MethodName) ({ cls := "SeenByOneModel", name := "curtains", desc := "(I)I" } : Jvm.MethodName)) ∈ lw_all := lw_g (lw_at lw_m7 185 rfl) rfl
theorem q1700 : (Jvm.Cond.code ({ cls := "SeenByOneModel", name := "curtains", desc := "(I)I" } : Jvm.MethodName) prog_21_method_67_code (8 : Nat) (Option.some Jvm.ClassFile.FieldType.int)) ∈ lw_all := lw_g (lw_at lw_m7 186 rfl) rfl
theorem q1701 : (Jvm.Cond.methodLink "SeenByOneModel" (232 : Nat) ({ cls := "SeenByOneModel", name := "drawnOnes", desc := "()I" } : Jvm.MethodName)) ∈ lw_all := lw_g (lw_at lw_m7 187 rfl) rfl
theorem q1702 : (Jvm.Cond.privateMethod ({ cls := "SeenByOneModel", name := "drawnOnes", desc := "()I" } : Jvm.MethodName)) ∈ lw_tbl := lw_at lw_m7 188 rfl
theorem q1703 : (Jvm.Cond.instanceMethod ({ cls := "SeenByOneModel", name := "drawnOnes", desc := "()I" } : Jvm.MethodName)) ∈ lw_all := lw_g (lw_at lw_m7 189 rfl) rfl
theorem q1704 : (Jvm.Cond.code ({ cls := "SeenByOneModel", name := "drawnOnes", desc := "()I" } : Jvm.MethodName) prog_21_method_65_code (3 : Nat) (Option.some Jvm.ClassFile.FieldType.int)) ∈ lw_all := lw_g (lw_at lw_m7 190 rfl) rfl
theorem q1705 : (Jvm.Cond.methodLink "SeenByOneModel" (235 : Nat) ({ cls := "SeenByOneModel", name := "houses", desc := "()I" } : Jvm.MethodName)) ∈ lw_all := lw_g (lw_at lw_m7 191 rfl) rfl
theorem q1706 : (Jvm.Cond.privateMethod ({ cls := "SeenByOneModel", name := "houses", desc := "()I" } : Jvm.MethodName)) ∈ lw_tbl := lw_at lw_m7 192 rfl
theorem q1707 : (Jvm.Cond.instanceMethod ({ cls := "SeenByOneModel", name := "houses", desc := "()I" } : Jvm.MethodName)) ∈ lw_all := lw_g (lw_at lw_m7 193 rfl) rfl
theorem q1708 : (Jvm.Cond.code ({ cls := "SeenByOneModel", name := "houses", desc := "()I" } : Jvm.MethodName) prog_21_method_63_code (3 : Nat) (Option.some Jvm.ClassFile.FieldType.int)) ∈ lw_all := lw_g (lw_at lw_m7 194 rfl) rfl
theorem q1709 : (Jvm.Cond.methodLink "SeenByOneModel" (238 : Nat) ({ cls := "SeenByOneModel", name := "draws", desc := "(I)V" } : Jvm.MethodName)) ∈ lw_all := lw_g (lw_at lw_m7 195 rfl) rfl
theorem q1710 : (Jvm.Cond.privateMethod ({ cls := "SeenByOneModel", name := "draws", desc := "(I)V" } : Jvm.MethodName)) ∈ lw_tbl := lw_at lw_m7 196 rfl
theorem q1711 : (Jvm.Cond.instanceMethod ({ cls := "SeenByOneModel", name := "draws", desc := "(I)V" } : Jvm.MethodName)) ∈ lw_all := lw_g (lw_at lw_m7 197 rfl) rfl
theorem q1712 : (Jvm.Cond.code ({ cls := "SeenByOneModel", name := "draws", desc := "(I)V" } : Jvm.MethodName) prog_21_method_64_code (3 : Nat) (Option.none : Option Jvm.ClassFile.FieldType)) ∈ lw_all := lw_g (lw_at lw_m7 198 rfl) rfl
theorem q1713 : (Jvm.Cond.methodLink "SeenByOneModel" (242 : Nat) ({ cls := "SeenByOneModel", name := "rightInBoth", desc := "()I" } : Jvm.MethodName)) ∈ lw_all := lw_g (lw_at lw_m7 199 rfl) rfl
theorem q1714 : (Jvm.Cond.privateMethod ({ cls := "SeenByOneModel", name := "rightInBoth", desc := "()I" } : Jvm.MethodName)) ∈ lw_tbl := lw_at lw_m7 200 rfl
theorem q1715 : (Jvm.Cond.instanceMethod ({ cls := "SeenByOneModel", name := "rightInBoth", desc := "()I" } : Jvm.MethodName)) ∈ lw_all := lw_g (lw_at lw_m7 201 rfl) rfl
theorem q1716 : (Jvm.Cond.code ({ cls := "SeenByOneModel", name := "rightInBoth", desc := "()I" } : Jvm.MethodName) prog_21_method_66_code (3 : Nat) (Option.some Jvm.ClassFile.FieldType.int)) ∈ lw_all := lw_g (lw_at lw_m7 202 rfl) rfl
theorem q1718 : (Jvm.Cond.instanceMethod ({ cls := "SeenByOneModel", name := "newly", desc := "(I)I" } : Jvm.MethodName)) ∈ lw_all := lw_g (lw_at lw_m7 204 rfl) rfl
theorem q1719 : (Jvm.Cond.selects "SeenByOneModel" ({ cls := "SeenByOneModel", name := "newly", desc := "(I)I" } : Jvm.MethodName) ({ cls := "SeenByOneModel", name := "newly", desc := "(I)I" } : Jvm.MethodName)) ∈ lw_all := lw_g (lw_at lw_m7 205 rfl) rfl
theorem q1720 : (Jvm.Cond.code ({ cls := "SeenByOneModel", name := "newly", desc := "(I)I" } : Jvm.MethodName) prog_21_method_68_code (6 : Nat) (Option.some Jvm.ClassFile.FieldType.int)) ∈ lw_all := lw_g (lw_at lw_m7 206 rfl) rfl
theorem q1722 : (Jvm.Cond.instanceMethod ({ cls := "SeenByOneModel", name := "storey", desc := "(I)I" } : Jvm.MethodName)) ∈ lw_all := lw_g (lw_at lw_m7 208 rfl) rfl
theorem q1723 : (Jvm.Cond.selects "SeenByOneModel" ({ cls := "SeenByOneModel", name := "storey", desc := "(I)I" } : Jvm.MethodName) ({ cls := "SeenByOneModel", name := "storey", desc := "(I)I" } : Jvm.MethodName)) ∈ lw_all := lw_g (lw_at lw_m7 209 rfl) rfl
theorem q1724 : (Jvm.Cond.code ({ cls := "SeenByOneModel", name := "storey", desc := "(I)I" } : Jvm.MethodName) prog_21_method_69_code (4 : Nat) (Option.some Jvm.ClassFile.FieldType.int)) ∈ lw_all := lw_g (lw_at lw_m7 210 rfl) rfl
theorem q1725 : (Jvm.Cond.methodLink "SeenByOneModel" (245 : Nat) ({ cls := "SeenByOneModel", name := "noMuch", desc := "(I)I" } : Jvm.MethodName)) ∈ lw_all := lw_g (lw_at lw_m7 211 rfl) rfl
theorem q1726 : (Jvm.Cond.privateMethod ({ cls := "SeenByOneModel", name := "noMuch", desc := "(I)I" } : Jvm.MethodName)) ∈ lw_tbl := lw_at lw_m7 212 rfl
theorem q1727 : (Jvm.Cond.instanceMethod ({ cls := "SeenByOneModel", name := "noMuch", desc := "(I)I" } : Jvm.MethodName)) ∈ lw_all := lw_g (lw_at lw_m7 213 rfl) rfl
theorem q1728 : (Jvm.Cond.code ({ cls := "SeenByOneModel", name := "noMuch", desc := "(I)I" } : Jvm.MethodName) prog_21_method_4_code (2 : Nat) (Option.some Jvm.ClassFile.FieldType.int)) ∈ lw_all := lw_g (lw_at lw_m7 214 rfl) rfl
theorem q1730 : (Jvm.Cond.instanceMethod ({ cls := "SeenByOneModel", name := "blinded", desc := "(I)I" } : Jvm.MethodName)) ∈ lw_all := lw_g (lw_at lw_m7 216 rfl) rfl
theorem q1731 : (Jvm.Cond.selects "SeenByOneModel" ({ cls := "SeenByOneModel", name := "blinded", desc := "(I)I" } : Jvm.MethodName) ({ cls := "SeenByOneModel", name := "blinded", desc := "(I)I" } : Jvm.MethodName)) ∈ lw_all := lw_g (lw_at lw_m7 217 rfl) rfl
theorem q1732 : (Jvm.Cond.code ({ cls := "SeenByOneModel", name := "blinded", desc := "(I)I" } : Jvm.MethodName) prog_21_method_70_code (5 : Nat) (Option.some Jvm.ClassFile.FieldType.int)) ∈ lw_all := lw_g (lw_at lw_m7 218 rfl) rfl
theorem q1734 : (Jvm.Cond.instanceMethod ({ cls := "SeenByOneModel", name := "felled", desc := "(I)I" } : Jvm.MethodName)) ∈ lw_all := lw_g (lw_at lw_m7 220 rfl) rfl
theorem q1735 : (Jvm.Cond.selects "SeenByOneModel" ({ cls := "SeenByOneModel", name := "felled", desc := "(I)I" } : Jvm.MethodName) ({ cls := "SeenByOneModel", name := "felled", desc := "(I)I" } : Jvm.MethodName)) ∈ lw_all := lw_g (lw_at lw_m7 221 rfl) rfl
theorem q1736 : (Jvm.Cond.code ({ cls := "SeenByOneModel", name := "felled", desc := "(I)I" } : Jvm.MethodName) prog_21_method_71_code (4 : Nat) (Option.some Jvm.ClassFile.FieldType.int)) ∈ lw_all := lw_g (lw_at lw_m7 222 rfl) rfl
theorem q1738 : (Jvm.Cond.instanceMethod ({ cls := "SeenByOneModel", name := "pairs", desc := "()I" } : Jvm.MethodName)) ∈ lw_all := lw_g (lw_at lw_m7 224 rfl) rfl
theorem q1739 : (Jvm.Cond.selects "SeenByOneModel" ({ cls := "SeenByOneModel", name := "pairs", desc := "()I" } : Jvm.MethodName) ({ cls := "SeenByOneModel", name := "pairs", desc := "()I" } : Jvm.MethodName)) ∈ lw_all := lw_g (lw_at lw_m7 225 rfl) rfl
theorem q1740 : (Jvm.Cond.code ({ cls := "SeenByOneModel", name := "pairs", desc := "()I" } : Jvm.MethodName) prog_21_method_72_code (4 : Nat) (Option.some Jvm.ClassFile.FieldType.int)) ∈ lw_all := lw_g (lw_at lw_m7 226 rfl) rfl
theorem q1742 : (Jvm.Cond.instanceMethod ({ cls := "SeenByOneModel", name := "back", desc := "(I)I" } : Jvm.MethodName)) ∈ lw_all := lw_g (lw_at lw_m7 228 rfl) rfl
theorem q1743 : (Jvm.Cond.selects "SeenByOneModel" ({ cls := "SeenByOneModel", name := "back", desc := "(I)I" } : Jvm.MethodName) ({ cls := "SeenByOneModel", name := "back", desc := "(I)I" } : Jvm.MethodName)) ∈ lw_all := lw_g (lw_at lw_m7 229 rfl) rfl
theorem q1744 : (Jvm.Cond.code ({ cls := "SeenByOneModel", name := "back", desc := "(I)I" } : Jvm.MethodName) prog_21_method_74_code (5 : Nat) (Option.some Jvm.ClassFile.FieldType.int)) ∈ lw_all := lw_g (lw_at lw_m7 230 rfl) rfl
theorem q1745 : (Jvm.Cond.methodLink "SeenByOneModel" (248 : Nat) ({ cls := "SeenByOneModel", name := "firstOf", desc := "(I)I" } : Jvm.MethodName)) ∈ lw_all := lw_g (lw_at lw_m7 231 rfl) rfl
theorem q1746 : (Jvm.Cond.privateMethod ({ cls := "SeenByOneModel", name := "firstOf", desc := "(I)I" } : Jvm.MethodName)) ∈ lw_tbl := lw_at lw_m7 232 rfl
theorem q1747 : (Jvm.Cond.instanceMethod ({ cls := "SeenByOneModel", name := "firstOf", desc := "(I)I" } : Jvm.MethodName)) ∈ lw_all := lw_g (lw_at lw_m7 233 rfl) rfl
theorem q1748 : (Jvm.Cond.code ({ cls := "SeenByOneModel", name := "firstOf", desc := "(I)I" } : Jvm.MethodName) prog_21_method_73_code (3 : Nat) (Option.some Jvm.ClassFile.FieldType.int)) ∈ lw_all := lw_g (lw_at lw_m7 234 rfl) rfl
theorem q1750 : (Jvm.Cond.instanceMethod ({ cls := "SeenByOneModel", name := "most", desc := "()I" } : Jvm.MethodName)) ∈ lw_all := lw_g (lw_at lw_m7 236 rfl) rfl
theorem q1751 : (Jvm.Cond.selects "SeenByOneModel" ({ cls := "SeenByOneModel", name := "most", desc := "()I" } : Jvm.MethodName) ({ cls := "SeenByOneModel", name := "most", desc := "()I" } : Jvm.MethodName)) ∈ lw_all := lw_g (lw_at lw_m7 237 rfl) rfl
theorem q1752 : (Jvm.Cond.code ({ cls := "SeenByOneModel", name := "most", desc := "()I" } : Jvm.MethodName) prog_21_method_75_code (6 : Nat) (Option.some Jvm.ClassFile.FieldType.int)) ∈ lw_all := lw_g (lw_at lw_m7 238 rfl) rfl
theorem q1754 : (Jvm.Cond.instanceMethod ({ cls := "SeenByOneModel", name := "list", desc := "(II)I" } : Jvm.MethodName)) ∈ lw_all := lw_g (lw_at lw_m8 0 rfl) rfl
theorem q1755 : (Jvm.Cond.selects "SeenByOneModel" ({ cls := "SeenByOneModel", name := "list", desc := "(II)I" } : Jvm.MethodName) ({ cls := "SeenByOneModel", name := "list", desc := "(II)I" } : Jvm.MethodName)) ∈ lw_all := lw_g (lw_at lw_m8 1 rfl) rfl
theorem q1756 : (Jvm.Cond.code ({ cls := "SeenByOneModel", name := "list", desc := "(II)I" } : Jvm.MethodName) prog_21_method_77_code (6 : Nat) (Option.some Jvm.ClassFile.FieldType.int)) ∈ lw_all := lw_g (lw_at lw_m8 2 rfl) rfl
theorem q1757 : (Jvm.Cond.methodLink "SeenByOneModel" (260 : Nat) ({ cls := "SeenByOneModel", name := "lists", desc := "(I)V" } : Jvm.MethodName)) ∈ lw_all := lw_g (lw_at lw_m8 3 rfl) rfl
theorem q1758 : (Jvm.Cond.privateMethod ({ cls := "SeenByOneModel", name := "lists", desc := "(I)V" } : Jvm.MethodName)) ∈ lw_tbl := lw_at lw_m8 4 rfl
theorem q1759 : (Jvm.Cond.instanceMethod ({ cls := "SeenByOneModel", name := "lists", desc := "(I)V" } : Jvm.MethodName)) ∈ lw_all := lw_g (lw_at lw_m8 5 rfl) rfl
theorem q1760 : (Jvm.Cond.code ({ cls := "SeenByOneModel", name := "lists", desc := "(I)V" } : Jvm.MethodName) prog_21_method_76_code (4 : Nat) (Option.none : Option Jvm.ClassFile.FieldType)) ∈ lw_all := lw_g (lw_at lw_m8 6 rfl) rfl
theorem q1761 : (Jvm.Cond.methodLink "SeenByOneModel" (257 : Nat) ({ cls := "SeenByOneModel", name := "intAt", desc := "(II)I" } : Jvm.MethodName)) ∈ lw_all := lw_g (lw_at lw_m8 7 rfl) rfl
theorem q1762 : (Jvm.Cond.privateMethod ({ cls := "SeenByOneModel", name := "intAt", desc := "(II)I" } : Jvm.MethodName)) ∈ lw_tbl := lw_at lw_m8 8 rfl
theorem q1763 : (Jvm.Cond.instanceMethod ({ cls := "SeenByOneModel", name := "intAt", desc := "(II)I" } : Jvm.MethodName)) ∈ lw_all := lw_g (lw_at lw_m8 9 rfl) rfl
theorem q1764 : (Jvm.Cond.code ({ cls := "SeenByOneModel", name := "intAt", desc := "(II)I" } : Jvm.MethodName) prog_21_method_18_code (3 : Nat) (Option.some Jvm.ClassFile.FieldType.int)) ∈ lw_all := lw_g (lw_at lw_m8 10 rfl) rfl
theorem q1766 : (Jvm.Cond.instanceMethod ({ cls := "SeenByOneModel", name := "night", desc := "(I)I" } : Jvm.MethodName)) ∈ lw_all := lw_g (lw_at lw_m8 12 rfl) rfl
theorem q1767 : (Jvm.Cond.selects "SeenByOneModel" ({ cls := "SeenByOneModel", name := "night", desc := "(I)I" } : Jvm.MethodName) ({ cls := "SeenByOneModel", name := "night", desc := "(I)I" } : Jvm.MethodName)) ∈ lw_all := lw_g (lw_at lw_m8 13 rfl) rfl
theorem q1768 : (Jvm.Cond.code ({ cls := "SeenByOneModel", name := "night", desc := "(I)I" } : Jvm.MethodName) prog_21_method_78_code (4 : Nat) (Option.some Jvm.ClassFile.FieldType.int)) ∈ lw_all := lw_g (lw_at lw_m8 14 rfl) rfl
theorem q1770 : (Jvm.Cond.instanceMethod ({ cls := "SeenByOneModel", name := "shuts", desc := "()I" } : Jvm.MethodName)) ∈ lw_all := lw_g (lw_at lw_m8 16 rfl) rfl
theorem q1771 : (Jvm.Cond.selects "SeenByOneModel" ({ cls := "SeenByOneModel", name := "shuts", desc := "()I" } : Jvm.MethodName) ({ cls := "SeenByOneModel", name := "shuts", desc := "()I" } : Jvm.MethodName)) ∈ lw_all := lw_g (lw_at lw_m8 17 rfl) rfl
theorem q1772 : (Jvm.Cond.code ({ cls := "SeenByOneModel", name := "shuts", desc := "()I" } : Jvm.MethodName) prog_21_method_79_code (1 : Nat) (Option.some Jvm.ClassFile.FieldType.int)) ∈ lw_all := lw_g (lw_at lw_m8 18 rfl) rfl
theorem q1774 : (Jvm.Cond.instanceMethod ({ cls := "SeenByOneModel", name := "opens", desc := "()I" } : Jvm.MethodName)) ∈ lw_all := lw_g (lw_at lw_m8 20 rfl) rfl
theorem q1775 : (Jvm.Cond.selects "SeenByOneModel" ({ cls := "SeenByOneModel", name := "opens", desc := "()I" } : Jvm.MethodName) ({ cls := "SeenByOneModel", name := "opens", desc := "()I" } : Jvm.MethodName)) ∈ lw_all := lw_g (lw_at lw_m8 21 rfl) rfl
theorem q1776 : (Jvm.Cond.code ({ cls := "SeenByOneModel", name := "opens", desc := "()I" } : Jvm.MethodName) prog_21_method_81_code (3 : Nat) (Option.some Jvm.ClassFile.FieldType.int)) ∈ lw_all := lw_g (lw_at lw_m8 22 rfl) rfl
theorem q1777 : (Jvm.Cond.methodLink "SeenByOneModel" (263 : Nat) ({ cls := "SeenByOneModel", name := "shutMany", desc := "()I" } : Jvm.MethodName)) ∈ lw_all := lw_g (lw_at lw_m8 23 rfl) rfl
theorem q1778 : (Jvm.Cond.privateMethod ({ cls := "SeenByOneModel", name := "shutMany", desc := "()I" } : Jvm.MethodName)) ∈ lw_tbl := lw_at lw_m8 24 rfl
theorem q1779 : (Jvm.Cond.instanceMethod ({ cls := "SeenByOneModel", name := "shutMany", desc := "()I" } : Jvm.MethodName)) ∈ lw_all := lw_g (lw_at lw_m8 25 rfl) rfl
theorem q1780 : (Jvm.Cond.code ({ cls := "SeenByOneModel", name := "shutMany", desc := "()I" } : Jvm.MethodName) prog_21_method_80_code (3 : Nat) (Option.some Jvm.ClassFile.FieldType.int)) ∈ lw_all := lw_g (lw_at lw_m8 26 rfl) rfl
theorem q1782 : (Jvm.Cond.instanceMethod ({ cls := "SeenByOneModel", name := "years", desc := "(I)I" } : Jvm.MethodName)) ∈ lw_all := lw_g (lw_at lw_m8 28 rfl) rfl
theorem q1783 : (Jvm.Cond.selects "SeenByOneModel" ({ cls := "SeenByOneModel", name := "years", desc := "(I)I" } : Jvm.MethodName) ({ cls := "SeenByOneModel", name := "years", desc := "(I)I" } : Jvm.MethodName)) ∈ lw_all := lw_g (lw_at lw_m8 29 rfl) rfl
theorem q1784 : (Jvm.Cond.code ({ cls := "SeenByOneModel", name := "years", desc := "(I)I" } : Jvm.MethodName) prog_21_method_83_code (5 : Nat) (Option.some Jvm.ClassFile.FieldType.int)) ∈ lw_all := lw_g (lw_at lw_m8 30 rfl) rfl
theorem q1785 : (Jvm.Cond.methodLink "SeenByOneModel" (267 : Nat) ({ cls := "SeenByOneModel", name := "draws3", desc := "()I" } : Jvm.MethodName)) ∈ lw_all := lw_g (lw_at lw_m8 31 rfl) rfl
theorem q1786 : (Jvm.Cond.privateMethod ({ cls := "SeenByOneModel", name := "draws3", desc := "()I" } : Jvm.MethodName)) ∈ lw_tbl := lw_at lw_m8 32 rfl
theorem q1787 : (Jvm.Cond.instanceMethod ({ cls := "SeenByOneModel", name := "draws3", desc := "()I" } : Jvm.MethodName)) ∈ lw_all := lw_g (lw_at lw_m8 33 rfl) rfl
theorem q1788 : (Jvm.Cond.code ({ cls := "SeenByOneModel", name := "draws3", desc := "()I" } : Jvm.MethodName) prog_21_method_82_code (1 : Nat) (Option.some Jvm.ClassFile.FieldType.int)) ∈ lw_all := lw_g (lw_at lw_m8 34 rfl) rfl
theorem q1789 : (Jvm.Cond.constant "SeenByOneModel" (266 : Nat) (1103515245 : Int32)) ∈ lw_all := lw_g (lw_at lw_m8 35 rfl) rfl
theorem q1791 : (Jvm.Cond.instanceMethod ({ cls := "SeenByOneModel", name := "seed", desc := "(I)I" } : Jvm.MethodName)) ∈ lw_all := lw_g (lw_at lw_m8 37 rfl) rfl
theorem q1792 : (Jvm.Cond.selects "SeenByOneModel" ({ cls := "SeenByOneModel", name := "seed", desc := "(I)I" } : Jvm.MethodName) ({ cls := "SeenByOneModel", name := "seed", desc := "(I)I" } : Jvm.MethodName)) ∈ lw_all := lw_g (lw_at lw_m8 38 rfl) rfl
theorem q1793 : (Jvm.Cond.code ({ cls := "SeenByOneModel", name := "seed", desc := "(I)I" } : Jvm.MethodName) prog_21_method_84_code (3 : Nat) (Option.some Jvm.ClassFile.FieldType.int)) ∈ lw_all := lw_g (lw_at lw_m8 39 rfl) rfl
theorem q1795 : (Jvm.Cond.instanceMethod ({ cls := "SeenByOneModel", name := "act", desc := "(III)I" } : Jvm.MethodName)) ∈ lw_all := lw_g (lw_at lw_m8 41 rfl) rfl
theorem q1796 : (Jvm.Cond.selects "SeenByOneModel" ({ cls := "SeenByOneModel", name := "act", desc := "(III)I" } : Jvm.MethodName) ({ cls := "SeenByOneModel", name := "act", desc := "(III)I" } : Jvm.MethodName)) ∈ lw_all := lw_g (lw_at lw_m8 42 rfl) rfl
theorem q1797 : (Jvm.Cond.code ({ cls := "SeenByOneModel", name := "act", desc := "(III)I" } : Jvm.MethodName) prog_21_method_89_code (4 : Nat) (Option.some Jvm.ClassFile.FieldType.int)) ∈ lw_all := lw_g (lw_at lw_m8 43 rfl) rfl
theorem q1798 : (Jvm.Cond.methodLink "SeenByOneModel" (276 : Nat) ({ cls := "SeenByOneModel", name := "standing", desc := "(II)I" } : Jvm.MethodName)) ∈ lw_all := lw_g (lw_at lw_m8 44 rfl) rfl
theorem q1799 : (Jvm.Cond.privateMethod ({ cls := "SeenByOneModel", name := "standing", desc := "(II)I" } : Jvm.MethodName)) ∈ lw_tbl := lw_at lw_m8 45 rfl
theorem q1800 : (Jvm.Cond.instanceMethod ({ cls := "SeenByOneModel", name := "standing", desc := "(II)I" } : Jvm.MethodName)) ∈ lw_all := lw_g (lw_at lw_m8 46 rfl) rfl
theorem q1801 : (Jvm.Cond.code ({ cls := "SeenByOneModel", name := "standing", desc := "(II)I" } : Jvm.MethodName) prog_21_method_86_code (6 : Nat) (Option.some Jvm.ClassFile.FieldType.int)) ∈ lw_all := lw_g (lw_at lw_m8 47 rfl) rfl
theorem q1802 : (Jvm.Cond.methodLink "SeenByOneModel" (273 : Nat) ({ cls := "SeenByOneModel", name := "body", desc := "(I)V" } : Jvm.MethodName)) ∈ lw_all := lw_g (lw_at lw_m8 48 rfl) rfl
theorem q1803 : (Jvm.Cond.privateMethod ({ cls := "SeenByOneModel", name := "body", desc := "(I)V" } : Jvm.MethodName)) ∈ lw_tbl := lw_at lw_m8 49 rfl
theorem q1804 : (Jvm.Cond.instanceMethod ({ cls := "SeenByOneModel", name := "body", desc := "(I)V" } : Jvm.MethodName)) ∈ lw_all := lw_g (lw_at lw_m8 50 rfl) rfl
theorem q1805 : (Jvm.Cond.code ({ cls := "SeenByOneModel", name := "body", desc := "(I)V" } : Jvm.MethodName) prog_21_method_85_code (2 : Nat) (Option.none : Option Jvm.ClassFile.FieldType)) ∈ lw_all := lw_g (lw_at lw_m8 51 rfl) rfl
theorem q1806 : (Jvm.Cond.methodLink "SeenByOneModel" (279 : Nat) ({ cls := "SeenByOneModel", name := "looking", desc := "(II)I" } : Jvm.MethodName)) ∈ lw_all := lw_g (lw_at lw_m8 52 rfl) rfl
theorem q1807 : (Jvm.Cond.privateMethod ({ cls := "SeenByOneModel", name := "looking", desc := "(II)I" } : Jvm.MethodName)) ∈ lw_tbl := lw_at lw_m8 53 rfl
theorem q1808 : (Jvm.Cond.instanceMethod ({ cls := "SeenByOneModel", name := "looking", desc := "(II)I" } : Jvm.MethodName)) ∈ lw_all := lw_g (lw_at lw_m8 54 rfl) rfl
theorem q1809 : (Jvm.Cond.code ({ cls := "SeenByOneModel", name := "looking", desc := "(II)I" } : Jvm.MethodName) prog_21_method_87_code (6 : Nat) (Option.some Jvm.ClassFile.FieldType.int)) ∈ lw_all := lw_g (lw_at lw_m8 55 rfl) rfl
theorem q1810 : (Jvm.Cond.methodLink "SeenByOneModel" (282 : Nat) ({ cls := "SeenByOneModel", name := "hiding", desc := "(II)I" } : Jvm.MethodName)) ∈ lw_all := lw_g (lw_at lw_m8 56 rfl) rfl
theorem q1811 : (Jvm.Cond.privateMethod ({ cls := "SeenByOneModel", name := "hiding", desc := "(II)I" } : Jvm.MethodName)) ∈ lw_tbl := lw_at lw_m8 57 rfl
theorem q1812 : (Jvm.Cond.instanceMethod ({ cls := "SeenByOneModel", name := "hiding", desc := "(II)I" } : Jvm.MethodName)) ∈ lw_all := lw_g (lw_at lw_m8 58 rfl) rfl
theorem q1813 : (Jvm.Cond.code ({ cls := "SeenByOneModel", name := "hiding", desc := "(II)I" } : Jvm.MethodName) prog_21_method_88_code (5 : Nat) (Option.some Jvm.ClassFile.FieldType.int)) ∈ lw_all := lw_g (lw_at lw_m8 59 rfl) rfl
theorem q1815 : (Jvm.Cond.instanceMethod ({ cls := "SeenByOneModel", name := "trace", desc := "(I)I" } : Jvm.MethodName)) ∈ lw_all := lw_g (lw_at lw_m8 61 rfl) rfl
theorem q1816 : (Jvm.Cond.selects "SeenByOneModel" ({ cls := "SeenByOneModel", name := "trace", desc := "(I)I" } : Jvm.MethodName) ({ cls := "SeenByOneModel", name := "trace", desc := "(I)I" } : Jvm.MethodName)) ∈ lw_all := lw_g (lw_at lw_m8 62 rfl) rfl
theorem q1817 : (Jvm.Cond.code ({ cls := "SeenByOneModel", name := "trace", desc := "(I)I" } : Jvm.MethodName) prog_21_method_90_code (2 : Nat) (Option.some Jvm.ClassFile.FieldType.int)) ∈ lw_all := lw_g (lw_at lw_m8 63 rfl) rfl
theorem q1819 : (Jvm.Cond.instanceMethod ({ cls := "SeenByOneModel", name := "image", desc := "()I" } : Jvm.MethodName)) ∈ lw_all := lw_g (lw_at lw_m8 65 rfl) rfl
theorem q1820 : (Jvm.Cond.selects "SeenByOneModel" ({ cls := "SeenByOneModel", name := "image", desc := "()I" } : Jvm.MethodName) ({ cls := "SeenByOneModel", name := "image", desc := "()I" } : Jvm.MethodName)) ∈ lw_all := lw_g (lw_at lw_m8 66 rfl) rfl
theorem q1821 : (Jvm.Cond.code ({ cls := "SeenByOneModel", name := "image", desc := "()I" } : Jvm.MethodName) prog_21_method_91_code (1 : Nat) (Option.some Jvm.ClassFile.FieldType.int)) ∈ lw_all := lw_g (lw_at lw_m8 67 rfl) rfl
theorem q1823 : (Jvm.Cond.instanceMethod ({ cls := "SeenByOneModel", name := "restore", desc := "()I" } : Jvm.MethodName)) ∈ lw_all := lw_g (lw_at lw_m8 69 rfl) rfl
theorem q1824 : (Jvm.Cond.selects "SeenByOneModel" ({ cls := "SeenByOneModel", name := "restore", desc := "()I" } : Jvm.MethodName) ({ cls := "SeenByOneModel", name := "restore", desc := "()I" } : Jvm.MethodName)) ∈ lw_all := lw_g (lw_at lw_m8 70 rfl) rfl
theorem q1825 : (Jvm.Cond.code ({ cls := "SeenByOneModel", name := "restore", desc := "()I" } : Jvm.MethodName) prog_21_method_92_code (2 : Nat) (Option.some Jvm.ClassFile.FieldType.int)) ∈ lw_all := lw_g (lw_at lw_m8 71 rfl) rfl
theorem q1827 : (Jvm.Cond.instanceMethod ({ cls := "SeenByOneModel", name := "status", desc := "(I)I" } : Jvm.MethodName)) ∈ lw_all := lw_g (lw_at lw_m8 73 rfl) rfl
theorem q1828 : (Jvm.Cond.selects "SeenByOneModel" ({ cls := "SeenByOneModel", name := "status", desc := "(I)I" } : Jvm.MethodName) ({ cls := "SeenByOneModel", name := "status", desc := "(I)I" } : Jvm.MethodName)) ∈ lw_all := lw_g (lw_at lw_m8 74 rfl) rfl
theorem q1829 : (Jvm.Cond.code ({ cls := "SeenByOneModel", name := "status", desc := "(I)I" } : Jvm.MethodName) prog_21_method_93_code (2 : Nat) (Option.some Jvm.ClassFile.FieldType.int)) ∈ lw_all := lw_g (lw_at lw_m8 75 rfl) rfl
theorem in_X4 : ∀ w ∈ wsX40, w ∈ lw_all := lw_in wsX40 [1384, 1386, 1388, 1390, 1392, 1394, 1396, 1398, 1400, 1402, 1404, 1406, 1408, 1410, 1412, 1414, 1416, 1418, 1420, 1422, 1424, 1426, 1428, 1430, 1432, 1434, 1436, 1438, 1440, 1442, 1444, 1446, 1448, 1450, 1452, 1454, 1456, 1458] (by decide +kernel) (by decide +kernel)
