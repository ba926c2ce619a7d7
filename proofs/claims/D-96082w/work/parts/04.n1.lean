/-! SeenByOne -/
set_option maxRecDepth 100000
def RX0 : String := "SeenByOne"
def TX0 : u_T := fun k => match k with
  | 0 => ("SeenByOne", "shelves", "[LSeenByOne$Shelf;", true)
  | 1 => ("SeenByOne", "refusals", "[I", true)
  | 2 => ("SeenByOne", "ran", "LSeenByOne$Trace;", true)
  | 3 => ("SeenByOne", "tried", "LSeenByOne$Ground;", true)
  | 4 => ("SeenByOne", "w", "LSeenByOne$Ground;", false)
  | 5 => ("SeenByOne", "imaged", "LSeenByOne$Ground;", false)
  | _ => ("SeenByOne", "latestFault", "I", false)
def tyX0 : Nat → FieldType := fun k => match k with
  | 0 => .array (.object "SeenByOne$Shelf")
  | 1 => .array .int
  | 2 => .object "SeenByOne$Trace"
  | 3 => .object "SeenByOne$Ground"
  | 4 => .object "SeenByOne$Ground"
  | 5 => .object "SeenByOne$Ground"
  | _ => .int
abbrev wsX00 : List Cond := u_ws RX0 TX0 7
theorem nmX0 : ∀ a, a < 7 → ∀ b, b < 7 → a ≠ b → (TX0 a).2.1 ≠ (TX0 b).2.1 := by decide +kernel
theorem tyX0_ok : ∀ k, k < 7 → parseFieldDescriptor (TX0 k).2.2.1 = some (tyX0 k) := by decide +kernel
abbrev cX0_init : ByteArray := prog_1_method_5_code
def yX0_init : MethodName := ⟨RX0, "<init>", "()V"⟩
def dkwX0_init_3 : List UInt8 := [180, 0, 59, 27, 187, 0, 57, 89, 183, 0, 88, 83, 132, 1, 1, 167, 255, 234, 177]
abbrev dktX0_init_3 : List UInt8 := dkwX0_init_3 ++ []
def dkwX0_init_2 : List UInt8 := [187, 0, 74, 89, 183, 0, 76, 181, 0, 81, 42, 2, 181, 0, 84, 3, 60, 27, 16, 8, 162, 0, 22, 42]
abbrev dktX0_init_2 : List UInt8 := dkwX0_init_2 ++ dktX0_init_3
def dkwX0_init_1 : List UInt8 := [187, 0, 67, 89, 183, 0, 69, 181, 0, 70, 42, 187, 0, 74, 89, 183, 0, 76, 181, 0, 77, 42]
abbrev dktX0_init_1 : List UInt8 := dkwX0_init_1 ++ dktX0_init_2
def dkwX0_init_0 : List UInt8 := [42, 183, 0, 50, 42, 16, 8, 189, 0, 57, 181, 0, 59, 42, 16, 8, 188, 10, 181, 0, 63, 42]
abbrev dktX0_init_0 : List UInt8 := dkwX0_init_0 ++ dktX0_init_1
theorem dksX0_init_0 : cX0_init.data.toList.drop 0 = dktX0_init_0 := by decide +kernel
theorem dksX0_init_1 : cX0_init.data.toList.drop 22 = dktX0_init_1 := dk_seg dksX0_init_0 22 rfl rfl
theorem dksX0_init_2 : cX0_init.data.toList.drop 44 = dktX0_init_2 := dk_seg dksX0_init_1 22 rfl rfl
theorem dksX0_init_3 : cX0_init.data.toList.drop 68 = dktX0_init_3 := dk_seg dksX0_init_2 24 rfl rfl
theorem dX0_init_0 : decode cX0_init 0 = .ok (.aload_n 0, 1) := dk_42 (dk_at dksX0_init_0 0 rfl rfl)
theorem dX0_init_1 : decode cX0_init 1 = .ok (.invokespecial 50, 3) := dk_183 0 50 (dk_at dksX0_init_0 1 rfl rfl)
theorem dX0_init_4 : decode cX0_init 4 = .ok (.aload_n 0, 1) := dk_42 (dk_at dksX0_init_0 4 rfl rfl)
theorem dX0_init_5 : decode cX0_init 5 = .ok (.bipush 8, 2) := dk_16 8 (dk_at dksX0_init_0 5 rfl rfl)
theorem dX0_init_7 : decode cX0_init 7 = .ok (.anewarray 57, 3) := dk_189 0 57 (dk_at dksX0_init_0 7 rfl rfl)
theorem dX0_init_10 : decode cX0_init 10 = .ok (.putfield 59, 3) := dk_181 0 59 (dk_at dksX0_init_0 10 rfl rfl)
theorem dX0_init_13 : decode cX0_init 13 = .ok (.aload_n 0, 1) := dk_42 (dk_at dksX0_init_0 13 rfl rfl)
theorem dX0_init_14 : decode cX0_init 14 = .ok (.bipush 8, 2) := dk_16 8 (dk_at dksX0_init_0 14 rfl rfl)
theorem dX0_init_16 : decode cX0_init 16 = .ok (.newarray .int, 2) := dk_188_10 (dk_at dksX0_init_0 16 rfl rfl)
theorem dX0_init_18 : decode cX0_init 18 = .ok (.putfield 63, 3) := dk_181 0 63 (dk_at dksX0_init_0 18 rfl rfl)
theorem dX0_init_21 : decode cX0_init 21 = .ok (.aload_n 0, 1) := dk_42 (dk_at dksX0_init_0 21 rfl rfl)
theorem dX0_init_22 : decode cX0_init 22 = .ok (.new 67, 3) := dk_187 0 67 (dk_at dksX0_init_1 0 rfl rfl)
theorem dX0_init_25 : decode cX0_init 25 = .ok (.dup, 1) := dk_89 (dk_at dksX0_init_1 3 rfl rfl)
theorem dX0_init_26 : decode cX0_init 26 = .ok (.invokespecial 69, 3) := dk_183 0 69 (dk_at dksX0_init_1 4 rfl rfl)
theorem dX0_init_29 : decode cX0_init 29 = .ok (.putfield 70, 3) := dk_181 0 70 (dk_at dksX0_init_1 7 rfl rfl)
theorem dX0_init_32 : decode cX0_init 32 = .ok (.aload_n 0, 1) := dk_42 (dk_at dksX0_init_1 10 rfl rfl)
theorem dX0_init_33 : decode cX0_init 33 = .ok (.new 74, 3) := dk_187 0 74 (dk_at dksX0_init_1 11 rfl rfl)
theorem dX0_init_36 : decode cX0_init 36 = .ok (.dup, 1) := dk_89 (dk_at dksX0_init_1 14 rfl rfl)
theorem dX0_init_37 : decode cX0_init 37 = .ok (.invokespecial 76, 3) := dk_183 0 76 (dk_at dksX0_init_1 15 rfl rfl)
theorem dX0_init_40 : decode cX0_init 40 = .ok (.putfield 77, 3) := dk_181 0 77 (dk_at dksX0_init_1 18 rfl rfl)
theorem dX0_init_43 : decode cX0_init 43 = .ok (.aload_n 0, 1) := dk_42 (dk_at dksX0_init_1 21 rfl rfl)
theorem dX0_init_44 : decode cX0_init 44 = .ok (.new 74, 3) := dk_187 0 74 (dk_at dksX0_init_2 0 rfl rfl)
theorem dX0_init_47 : decode cX0_init 47 = .ok (.dup, 1) := dk_89 (dk_at dksX0_init_2 3 rfl rfl)
theorem dX0_init_48 : decode cX0_init 48 = .ok (.invokespecial 76, 3) := dk_183 0 76 (dk_at dksX0_init_2 4 rfl rfl)
theorem dX0_init_51 : decode cX0_init 51 = .ok (.putfield 81, 3) := dk_181 0 81 (dk_at dksX0_init_2 7 rfl rfl)
theorem dX0_init_54 : decode cX0_init 54 = .ok (.aload_n 0, 1) := dk_42 (dk_at dksX0_init_2 10 rfl rfl)
theorem dX0_init_55 : decode cX0_init 55 = .ok (.iconst (-1), 1) := dk_2 (dk_at dksX0_init_2 11 rfl rfl)
theorem dX0_init_56 : decode cX0_init 56 = .ok (.putfield 84, 3) := dk_181 0 84 (dk_at dksX0_init_2 12 rfl rfl)
theorem dX0_init_59 : decode cX0_init 59 = .ok (.iconst 0, 1) := dk_3 (dk_at dksX0_init_2 15 rfl rfl)
theorem dX0_init_60 : decode cX0_init 60 = .ok (.istore_n 1, 1) := dk_60 (dk_at dksX0_init_2 16 rfl rfl)
theorem dX0_init_61 : decode cX0_init 61 = .ok (.iload_n 1, 1) := dk_27 (dk_at dksX0_init_2 17 rfl rfl)
theorem dX0_init_62 : decode cX0_init 62 = .ok (.bipush 8, 2) := dk_16 8 (dk_at dksX0_init_2 18 rfl rfl)
theorem dX0_init_64 : decode cX0_init 64 = .ok (.if_icmp .ge 22, 3) := dk_162 0 22 (dk_at dksX0_init_2 20 rfl rfl)
theorem dX0_init_67 : decode cX0_init 67 = .ok (.aload_n 0, 1) := dk_42 (dk_at dksX0_init_2 23 rfl rfl)
theorem dX0_init_68 : decode cX0_init 68 = .ok (.getfield 59, 3) := dk_180 0 59 (dk_at dksX0_init_3 0 rfl rfl)
theorem dX0_init_71 : decode cX0_init 71 = .ok (.iload_n 1, 1) := dk_27 (dk_at dksX0_init_3 3 rfl rfl)
theorem dX0_init_72 : decode cX0_init 72 = .ok (.new 57, 3) := dk_187 0 57 (dk_at dksX0_init_3 4 rfl rfl)
theorem dX0_init_75 : decode cX0_init 75 = .ok (.dup, 1) := dk_89 (dk_at dksX0_init_3 7 rfl rfl)
theorem dX0_init_76 : decode cX0_init 76 = .ok (.invokespecial 88, 3) := dk_183 0 88 (dk_at dksX0_init_3 8 rfl rfl)
theorem dX0_init_79 : decode cX0_init 79 = .ok (.aastore, 1) := dk_83 (dk_at dksX0_init_3 11 rfl rfl)
theorem dX0_init_80 : decode cX0_init 80 = .ok (.iinc 1 1, 3) := dk_132 1 1 (dk_at dksX0_init_3 12 rfl rfl)
theorem dX0_init_83 : decode cX0_init 83 = .ok (.goto (-22), 3) := dk_167 255 234 (dk_at dksX0_init_3 15 rfl rfl)
theorem dX0_init_86 : decode cX0_init 86 = .ok (.return_, 1) := dk_177 (dk_at dksX0_init_3 18 rfl rfl)
abbrev cX0_row : ByteArray := prog_1_method_14_code
def yX0_row : MethodName := ⟨RX0, "row", "(III)I"⟩
def dkwX0_row_3 : List UInt8 := [182, 0, 150, 172]
abbrev dktX0_row_3 : List UInt8 := dkwX0_row_3 ++ []
def dkwX0_row_2 : List UInt8 := [16, 249, 184, 0, 98, 25, 4, 28, 29, 184, 0, 146, 181, 0, 112, 4, 172, 58, 4, 42, 25, 4]
abbrev dktX0_row_2 : List UInt8 := dkwX0_row_2 ++ dktX0_row_3
def dkwX0_row_1 : List UInt8 := [20, 0, 140, 184, 0, 142, 16, 250, 184, 0, 98, 29, 17, 0, 160, 163, 0, 7, 4, 167, 0, 4, 3]
abbrev dktX0_row_1 : List UInt8 := dkwX0_row_1 ++ dktX0_row_2
def dkwX0_row_0 : List UInt8 := [42, 27, 182, 0, 136, 58, 4, 29, 155, 0, 7, 4, 167, 0, 4, 3, 16, 252, 184, 0, 98, 28, 133, 9]
abbrev dktX0_row_0 : List UInt8 := dkwX0_row_0 ++ dktX0_row_1
theorem dksX0_row_0 : cX0_row.data.toList.drop 0 = dktX0_row_0 := by decide +kernel
theorem dksX0_row_1 : cX0_row.data.toList.drop 24 = dktX0_row_1 := dk_seg dksX0_row_0 24 rfl rfl
theorem dksX0_row_2 : cX0_row.data.toList.drop 47 = dktX0_row_2 := dk_seg dksX0_row_1 23 rfl rfl
theorem dksX0_row_3 : cX0_row.data.toList.drop 69 = dktX0_row_3 := dk_seg dksX0_row_2 22 rfl rfl
theorem dX0_row_0 : decode cX0_row 0 = .ok (.aload_n 0, 1) := dk_42 (dk_at dksX0_row_0 0 rfl rfl)
theorem dX0_row_1 : decode cX0_row 1 = .ok (.iload_n 1, 1) := dk_27 (dk_at dksX0_row_0 1 rfl rfl)
theorem dX0_row_2 : decode cX0_row 2 = .ok (.invokevirtual 136, 3) := dk_182 0 136 (dk_at dksX0_row_0 2 rfl rfl)
theorem dX0_row_5 : decode cX0_row 5 = .ok (.astore 4, 2) := dk_58 4 (dk_at dksX0_row_0 5 rfl rfl)
theorem dX0_row_7 : decode cX0_row 7 = .ok (.iload_n 3, 1) := dk_29 (dk_at dksX0_row_0 7 rfl rfl)
theorem dX0_row_8 : decode cX0_row 8 = .ok (.ifCond .lt 7, 3) := dk_155 0 7 (dk_at dksX0_row_0 8 rfl rfl)
theorem dX0_row_11 : decode cX0_row 11 = .ok (.iconst 1, 1) := dk_4 (dk_at dksX0_row_0 11 rfl rfl)
theorem dX0_row_12 : decode cX0_row 12 = .ok (.goto 4, 3) := dk_167 0 4 (dk_at dksX0_row_0 12 rfl rfl)
theorem dX0_row_15 : decode cX0_row 15 = .ok (.iconst 0, 1) := dk_3 (dk_at dksX0_row_0 15 rfl rfl)
theorem dX0_row_16 : decode cX0_row 16 = .ok (.bipush (-4), 2) := dk_16 252 (dk_at dksX0_row_0 16 rfl rfl)
theorem dX0_row_18 : decode cX0_row 18 = .ok (.invokestatic 98, 3) := dk_184 0 98 (dk_at dksX0_row_0 18 rfl rfl)
theorem dX0_row_21 : decode cX0_row 21 = .ok (.iload_n 2, 1) := dk_28 (dk_at dksX0_row_0 21 rfl rfl)
theorem dX0_row_22 : decode cX0_row 22 = .ok (.i2l, 1) := dk_133 (dk_at dksX0_row_0 22 rfl rfl)
theorem dX0_row_23 : decode cX0_row 23 = .ok (.lconst 0, 1) := dk_9 (dk_at dksX0_row_0 23 rfl rfl)
theorem dX0_row_24 : decode cX0_row 24 = .ok (.ldc2_w 140, 3) := dk_20 0 140 (dk_at dksX0_row_1 0 rfl rfl)
theorem dX0_row_27 : decode cX0_row 27 = .ok (.invokestatic 142, 3) := dk_184 0 142 (dk_at dksX0_row_1 3 rfl rfl)
theorem dX0_row_30 : decode cX0_row 30 = .ok (.bipush (-6), 2) := dk_16 250 (dk_at dksX0_row_1 6 rfl rfl)
theorem dX0_row_32 : decode cX0_row 32 = .ok (.invokestatic 98, 3) := dk_184 0 98 (dk_at dksX0_row_1 8 rfl rfl)
theorem dX0_row_35 : decode cX0_row 35 = .ok (.iload_n 3, 1) := dk_29 (dk_at dksX0_row_1 11 rfl rfl)
theorem dX0_row_36 : decode cX0_row 36 = .ok (.sipush 160, 3) := dk_17 0 160 (dk_at dksX0_row_1 12 rfl rfl)
theorem dX0_row_39 : decode cX0_row 39 = .ok (.if_icmp .gt 7, 3) := dk_163 0 7 (dk_at dksX0_row_1 15 rfl rfl)
theorem dX0_row_42 : decode cX0_row 42 = .ok (.iconst 1, 1) := dk_4 (dk_at dksX0_row_1 18 rfl rfl)
theorem dX0_row_43 : decode cX0_row 43 = .ok (.goto 4, 3) := dk_167 0 4 (dk_at dksX0_row_1 19 rfl rfl)
theorem dX0_row_46 : decode cX0_row 46 = .ok (.iconst 0, 1) := dk_3 (dk_at dksX0_row_1 22 rfl rfl)
theorem dX0_row_47 : decode cX0_row 47 = .ok (.bipush (-7), 2) := dk_16 249 (dk_at dksX0_row_2 0 rfl rfl)
theorem dX0_row_49 : decode cX0_row 49 = .ok (.invokestatic 98, 3) := dk_184 0 98 (dk_at dksX0_row_2 2 rfl rfl)
theorem dX0_row_52 : decode cX0_row 52 = .ok (.aload 4, 2) := dk_25 4 (dk_at dksX0_row_2 5 rfl rfl)
theorem dX0_row_54 : decode cX0_row 54 = .ok (.iload_n 2, 1) := dk_28 (dk_at dksX0_row_2 7 rfl rfl)
theorem dX0_row_55 : decode cX0_row 55 = .ok (.iload_n 3, 1) := dk_29 (dk_at dksX0_row_2 8 rfl rfl)
theorem dX0_row_56 : decode cX0_row 56 = .ok (.invokestatic 146, 3) := dk_184 0 146 (dk_at dksX0_row_2 9 rfl rfl)
theorem dX0_row_59 : decode cX0_row 59 = .ok (.putfield 112, 3) := dk_181 0 112 (dk_at dksX0_row_2 12 rfl rfl)
theorem dX0_row_62 : decode cX0_row 62 = .ok (.iconst 1, 1) := dk_4 (dk_at dksX0_row_2 15 rfl rfl)
theorem dX0_row_63 : decode cX0_row 63 = .ok (.ireturn, 1) := dk_172 (dk_at dksX0_row_2 16 rfl rfl)
theorem dX0_row_64 : decode cX0_row 64 = .ok (.astore 4, 2) := dk_58 4 (dk_at dksX0_row_2 17 rfl rfl)
theorem dX0_row_66 : decode cX0_row 66 = .ok (.aload_n 0, 1) := dk_42 (dk_at dksX0_row_2 19 rfl rfl)
theorem dX0_row_67 : decode cX0_row 67 = .ok (.aload 4, 2) := dk_25 4 (dk_at dksX0_row_2 20 rfl rfl)
theorem dX0_row_69 : decode cX0_row 69 = .ok (.invokevirtual 150, 3) := dk_182 0 150 (dk_at dksX0_row_3 0 rfl rfl)
theorem dX0_row_72 : decode cX0_row 72 = .ok (.ireturn, 1) := dk_172 (dk_at dksX0_row_3 3 rfl rfl)
abbrev cX0_shelf : ByteArray := prog_1_method_8_code
def yX0_shelf : MethodName := ⟨RX0, "shelf", "(I)LSeenByOne$Shelf;"⟩
def dkwX0_shelf_0 : List UInt8 := [42, 180, 0, 59, 27, 50, 176, 77, 187, 0, 21, 89, 2, 183, 0, 23, 191]
abbrev dktX0_shelf_0 : List UInt8 := dkwX0_shelf_0 ++ []
theorem dksX0_shelf_0 : cX0_shelf.data.toList.drop 0 = dktX0_shelf_0 := by decide +kernel
theorem dX0_shelf_0 : decode cX0_shelf 0 = .ok (.aload_n 0, 1) := dk_42 (dk_at dksX0_shelf_0 0 rfl rfl)
theorem dX0_shelf_1 : decode cX0_shelf 1 = .ok (.getfield 59, 3) := dk_180 0 59 (dk_at dksX0_shelf_0 1 rfl rfl)
theorem dX0_shelf_4 : decode cX0_shelf 4 = .ok (.iload_n 1, 1) := dk_27 (dk_at dksX0_shelf_0 4 rfl rfl)
theorem dX0_shelf_5 : decode cX0_shelf 5 = .ok (.aaload, 1) := dk_50 (dk_at dksX0_shelf_0 5 rfl rfl)
theorem dX0_shelf_6 : decode cX0_shelf 6 = .ok (.areturn, 1) := dk_176 (dk_at dksX0_shelf_0 6 rfl rfl)
theorem dX0_shelf_7 : decode cX0_shelf 7 = .ok (.astore_n 2, 1) := dk_77 (dk_at dksX0_shelf_0 7 rfl rfl)
theorem dX0_shelf_8 : decode cX0_shelf 8 = .ok (.new 21, 3) := dk_187 0 21 (dk_at dksX0_shelf_0 8 rfl rfl)
theorem dX0_shelf_11 : decode cX0_shelf 11 = .ok (.dup, 1) := dk_89 (dk_at dksX0_shelf_0 11 rfl rfl)
theorem dX0_shelf_12 : decode cX0_shelf 12 = .ok (.iconst (-1), 1) := dk_2 (dk_at dksX0_shelf_0 12 rfl rfl)
theorem dX0_shelf_13 : decode cX0_shelf 13 = .ok (.invokespecial 23, 3) := dk_183 0 23 (dk_at dksX0_shelf_0 13 rfl rfl)
theorem dX0_shelf_16 : decode cX0_shelf 16 = .ok (.athrow, 1) := dk_191 (dk_at dksX0_shelf_0 16 rfl rfl)
abbrev cX0_need : ByteArray := prog_1_method_2_code
def yX0_need : MethodName := ⟨RX0, "need", "(ZI)V"⟩
def dkwX0_need_0 : List UInt8 := [26, 154, 0, 12, 187, 0, 21, 89, 27, 183, 0, 23, 191, 177]
abbrev dktX0_need_0 : List UInt8 := dkwX0_need_0 ++ []
theorem dksX0_need_0 : cX0_need.data.toList.drop 0 = dktX0_need_0 := by decide +kernel
theorem dX0_need_0 : decode cX0_need 0 = .ok (.iload_n 0, 1) := dk_26 (dk_at dksX0_need_0 0 rfl rfl)
theorem dX0_need_1 : decode cX0_need 1 = .ok (.ifCond .ne 12, 3) := dk_154 0 12 (dk_at dksX0_need_0 1 rfl rfl)
theorem dX0_need_4 : decode cX0_need 4 = .ok (.new 21, 3) := dk_187 0 21 (dk_at dksX0_need_0 4 rfl rfl)
theorem dX0_need_7 : decode cX0_need 7 = .ok (.dup, 1) := dk_89 (dk_at dksX0_need_0 7 rfl rfl)
theorem dX0_need_8 : decode cX0_need 8 = .ok (.iload_n 1, 1) := dk_27 (dk_at dksX0_need_0 8 rfl rfl)
theorem dX0_need_9 : decode cX0_need 9 = .ok (.invokespecial 23, 3) := dk_183 0 23 (dk_at dksX0_need_0 9 rfl rfl)
theorem dX0_need_12 : decode cX0_need 12 = .ok (.athrow, 1) := dk_191 (dk_at dksX0_need_0 12 rfl rfl)
theorem dX0_need_13 : decode cX0_need 13 = .ok (.return_, 1) := dk_177 (dk_at dksX0_need_0 13 rfl rfl)
abbrev cX0_in : ByteArray := prog_1_method_3_code
def yX0_in : MethodName := ⟨RX0, "in", "(JJJ)Z"⟩
def dkwX0_in_0 : List UInt8 := [30, 32, 148, 155, 0, 14, 30, 22, 4, 148, 157, 0, 7, 4, 167, 0, 4, 3, 172]
abbrev dktX0_in_0 : List UInt8 := dkwX0_in_0 ++ []
theorem dksX0_in_0 : cX0_in.data.toList.drop 0 = dktX0_in_0 := by decide +kernel
theorem dX0_in_0 : decode cX0_in 0 = .ok (.lload_n 0, 1) := dk_30 (dk_at dksX0_in_0 0 rfl rfl)
theorem dX0_in_1 : decode cX0_in 1 = .ok (.lload_n 2, 1) := dk_32 (dk_at dksX0_in_0 1 rfl rfl)
theorem dX0_in_2 : decode cX0_in 2 = .ok (.lcmp, 1) := dk_148 (dk_at dksX0_in_0 2 rfl rfl)
theorem dX0_in_3 : decode cX0_in 3 = .ok (.ifCond .lt 14, 3) := dk_155 0 14 (dk_at dksX0_in_0 3 rfl rfl)
theorem dX0_in_6 : decode cX0_in 6 = .ok (.lload_n 0, 1) := dk_30 (dk_at dksX0_in_0 6 rfl rfl)
theorem dX0_in_7 : decode cX0_in 7 = .ok (.lload 4, 2) := dk_22 4 (dk_at dksX0_in_0 7 rfl rfl)
theorem dX0_in_9 : decode cX0_in 9 = .ok (.lcmp, 1) := dk_148 (dk_at dksX0_in_0 9 rfl rfl)
theorem dX0_in_10 : decode cX0_in 10 = .ok (.ifCond .gt 7, 3) := dk_157 0 7 (dk_at dksX0_in_0 10 rfl rfl)
theorem dX0_in_13 : decode cX0_in 13 = .ok (.iconst 1, 1) := dk_4 (dk_at dksX0_in_0 13 rfl rfl)
theorem dX0_in_14 : decode cX0_in 14 = .ok (.goto 4, 3) := dk_167 0 4 (dk_at dksX0_in_0 14 rfl rfl)
theorem dX0_in_17 : decode cX0_in 17 = .ok (.iconst 0, 1) := dk_3 (dk_at dksX0_in_0 17 rfl rfl)
theorem dX0_in_18 : decode cX0_in 18 = .ok (.ireturn, 1) := dk_172 (dk_at dksX0_in_0 18 rfl rfl)
abbrev cX0_newRow : ByteArray := prog_1_method_13_code
def yX0_newRow : MethodName := ⟨RX0, "newRow", "(II)LSeenByOne$Row;"⟩
def dkwX0_newRow_4 : List UInt8 := [187, 0, 21, 89, 16, 252, 183, 0, 23, 191]
abbrev dktX0_newRow_4 : List UInt8 := dkwX0_newRow_4 ++ []
def dkwX0_newRow_3 : List UInt8 := [183, 0, 130, 176, 187, 0, 131, 89, 27, 183, 0, 133, 176, 187, 0, 21, 89, 16, 250, 183, 0, 23, 191, 77]
abbrev dktX0_newRow_3 : List UInt8 := dkwX0_newRow_3 ++ dktX0_newRow_4
def dkwX0_newRow_2 : List UInt8 := [187, 0, 122, 89, 27, 183, 0, 124, 176, 187, 0, 125, 89, 27, 183, 0, 127, 176, 187, 0, 128, 89, 27]
abbrev dktX0_newRow_2 : List UInt8 := dkwX0_newRow_2 ++ dktX0_newRow_3
def dkwX0_newRow_1 : List UInt8 := [170, 0, 0, 0, 0, 0, 67, 0, 0, 0, 0, 0, 0, 0, 3, 0, 0, 0, 31, 0, 0, 0, 40, 0, 0, 0, 49, 0, 0, 0, 58]
abbrev dktX0_newRow_1 : List UInt8 := dkwX0_newRow_1 ++ dktX0_newRow_2
def dkwX0_newRow_0 : List UInt8 := [26]
abbrev dktX0_newRow_0 : List UInt8 := dkwX0_newRow_0 ++ dktX0_newRow_1
theorem dksX0_newRow_0 : cX0_newRow.data.toList.drop 0 = dktX0_newRow_0 := by decide +kernel
theorem dksX0_newRow_1 : cX0_newRow.data.toList.drop 1 = dktX0_newRow_1 := dk_seg dksX0_newRow_0 1 rfl rfl
theorem dksX0_newRow_2 : cX0_newRow.data.toList.drop 32 = dktX0_newRow_2 := dk_seg dksX0_newRow_1 31 rfl rfl
theorem dksX0_newRow_3 : cX0_newRow.data.toList.drop 55 = dktX0_newRow_3 := dk_seg dksX0_newRow_2 23 rfl rfl
theorem dksX0_newRow_4 : cX0_newRow.data.toList.drop 79 = dktX0_newRow_4 := dk_seg dksX0_newRow_3 24 rfl rfl
theorem dX0_newRow_0 : decode cX0_newRow 0 = .ok (.iload_n 0, 1) := dk_26 (dk_at dksX0_newRow_0 0 rfl rfl)
theorem dX0_newRow_1 : decode cX0_newRow 1 = .ok (.tableswitch 67 0 3 #[31, 40, 49, 58], 31) := by decide +kernel
theorem dX0_newRow_32 : decode cX0_newRow 32 = .ok (.new 122, 3) := dk_187 0 122 (dk_at dksX0_newRow_2 0 rfl rfl)
theorem dX0_newRow_35 : decode cX0_newRow 35 = .ok (.dup, 1) := dk_89 (dk_at dksX0_newRow_2 3 rfl rfl)
theorem dX0_newRow_36 : decode cX0_newRow 36 = .ok (.iload_n 1, 1) := dk_27 (dk_at dksX0_newRow_2 4 rfl rfl)
theorem dX0_newRow_37 : decode cX0_newRow 37 = .ok (.invokespecial 124, 3) := dk_183 0 124 (dk_at dksX0_newRow_2 5 rfl rfl)
theorem dX0_newRow_40 : decode cX0_newRow 40 = .ok (.areturn, 1) := dk_176 (dk_at dksX0_newRow_2 8 rfl rfl)
theorem dX0_newRow_41 : decode cX0_newRow 41 = .ok (.new 125, 3) := dk_187 0 125 (dk_at dksX0_newRow_2 9 rfl rfl)
theorem dX0_newRow_44 : decode cX0_newRow 44 = .ok (.dup, 1) := dk_89 (dk_at dksX0_newRow_2 12 rfl rfl)
theorem dX0_newRow_45 : decode cX0_newRow 45 = .ok (.iload_n 1, 1) := dk_27 (dk_at dksX0_newRow_2 13 rfl rfl)
theorem dX0_newRow_46 : decode cX0_newRow 46 = .ok (.invokespecial 127, 3) := dk_183 0 127 (dk_at dksX0_newRow_2 14 rfl rfl)
theorem dX0_newRow_49 : decode cX0_newRow 49 = .ok (.areturn, 1) := dk_176 (dk_at dksX0_newRow_2 17 rfl rfl)
theorem dX0_newRow_50 : decode cX0_newRow 50 = .ok (.new 128, 3) := dk_187 0 128 (dk_at dksX0_newRow_2 18 rfl rfl)
theorem dX0_newRow_53 : decode cX0_newRow 53 = .ok (.dup, 1) := dk_89 (dk_at dksX0_newRow_2 21 rfl rfl)
theorem dX0_newRow_54 : decode cX0_newRow 54 = .ok (.iload_n 1, 1) := dk_27 (dk_at dksX0_newRow_2 22 rfl rfl)
theorem dX0_newRow_55 : decode cX0_newRow 55 = .ok (.invokespecial 130, 3) := dk_183 0 130 (dk_at dksX0_newRow_3 0 rfl rfl)
theorem dX0_newRow_58 : decode cX0_newRow 58 = .ok (.areturn, 1) := dk_176 (dk_at dksX0_newRow_3 3 rfl rfl)
theorem dX0_newRow_59 : decode cX0_newRow 59 = .ok (.new 131, 3) := dk_187 0 131 (dk_at dksX0_newRow_3 4 rfl rfl)
theorem dX0_newRow_62 : decode cX0_newRow 62 = .ok (.dup, 1) := dk_89 (dk_at dksX0_newRow_3 7 rfl rfl)
theorem dX0_newRow_63 : decode cX0_newRow 63 = .ok (.iload_n 1, 1) := dk_27 (dk_at dksX0_newRow_3 8 rfl rfl)
theorem dX0_newRow_64 : decode cX0_newRow 64 = .ok (.invokespecial 133, 3) := dk_183 0 133 (dk_at dksX0_newRow_3 9 rfl rfl)
theorem dX0_newRow_67 : decode cX0_newRow 67 = .ok (.areturn, 1) := dk_176 (dk_at dksX0_newRow_3 12 rfl rfl)
theorem dX0_newRow_68 : decode cX0_newRow 68 = .ok (.new 21, 3) := dk_187 0 21 (dk_at dksX0_newRow_3 13 rfl rfl)
theorem dX0_newRow_71 : decode cX0_newRow 71 = .ok (.dup, 1) := dk_89 (dk_at dksX0_newRow_3 16 rfl rfl)
theorem dX0_newRow_72 : decode cX0_newRow 72 = .ok (.bipush (-6), 2) := dk_16 250 (dk_at dksX0_newRow_3 17 rfl rfl)
theorem dX0_newRow_74 : decode cX0_newRow 74 = .ok (.invokespecial 23, 3) := dk_183 0 23 (dk_at dksX0_newRow_3 19 rfl rfl)
theorem dX0_newRow_77 : decode cX0_newRow 77 = .ok (.athrow, 1) := dk_191 (dk_at dksX0_newRow_3 22 rfl rfl)
theorem dX0_newRow_78 : decode cX0_newRow 78 = .ok (.astore_n 2, 1) := dk_77 (dk_at dksX0_newRow_3 23 rfl rfl)
theorem dX0_newRow_79 : decode cX0_newRow 79 = .ok (.new 21, 3) := dk_187 0 21 (dk_at dksX0_newRow_4 0 rfl rfl)
theorem dX0_newRow_82 : decode cX0_newRow 82 = .ok (.dup, 1) := dk_89 (dk_at dksX0_newRow_4 3 rfl rfl)
theorem dX0_newRow_83 : decode cX0_newRow 83 = .ok (.bipush (-4), 2) := dk_16 252 (dk_at dksX0_newRow_4 4 rfl rfl)
theorem dX0_newRow_85 : decode cX0_newRow 85 = .ok (.invokespecial 23, 3) := dk_183 0 23 (dk_at dksX0_newRow_4 6 rfl rfl)
theorem dX0_newRow_88 : decode cX0_newRow 88 = .ok (.athrow, 1) := dk_191 (dk_at dksX0_newRow_4 9 rfl rfl)
abbrev cX0_refused : ByteArray := prog_1_method_6_code
def yX0_refused : MethodName := ⟨RX0, "refused", "(LSeenByOne$Refused;)I"⟩
def dkwX0_refused_0 : List UInt8 := [42, 180, 0, 63, 43, 180, 0, 89, 116, 92, 46, 4, 96, 79, 43, 180, 0, 89, 172]
abbrev dktX0_refused_0 : List UInt8 := dkwX0_refused_0 ++ []
theorem dksX0_refused_0 : cX0_refused.data.toList.drop 0 = dktX0_refused_0 := by decide +kernel
theorem dX0_refused_0 : decode cX0_refused 0 = .ok (.aload_n 0, 1) := dk_42 (dk_at dksX0_refused_0 0 rfl rfl)
theorem dX0_refused_1 : decode cX0_refused 1 = .ok (.getfield 63, 3) := dk_180 0 63 (dk_at dksX0_refused_0 1 rfl rfl)
theorem dX0_refused_4 : decode cX0_refused 4 = .ok (.aload_n 1, 1) := dk_43 (dk_at dksX0_refused_0 4 rfl rfl)
theorem dX0_refused_5 : decode cX0_refused 5 = .ok (.getfield 89, 3) := dk_180 0 89 (dk_at dksX0_refused_0 5 rfl rfl)
theorem dX0_refused_8 : decode cX0_refused 8 = .ok (.ineg, 1) := dk_116 (dk_at dksX0_refused_0 8 rfl rfl)
theorem dX0_refused_9 : decode cX0_refused 9 = .ok (.dup2, 1) := dk_92 (dk_at dksX0_refused_0 9 rfl rfl)
theorem dX0_refused_10 : decode cX0_refused 10 = .ok (.iaload, 1) := dk_46 (dk_at dksX0_refused_0 10 rfl rfl)
theorem dX0_refused_11 : decode cX0_refused 11 = .ok (.iconst 1, 1) := dk_4 (dk_at dksX0_refused_0 11 rfl rfl)
theorem dX0_refused_12 : decode cX0_refused 12 = .ok (.iadd, 1) := dk_96 (dk_at dksX0_refused_0 12 rfl rfl)
theorem dX0_refused_13 : decode cX0_refused 13 = .ok (.iastore, 1) := dk_79 (dk_at dksX0_refused_0 13 rfl rfl)
theorem dX0_refused_14 : decode cX0_refused 14 = .ok (.aload_n 1, 1) := dk_43 (dk_at dksX0_refused_0 14 rfl rfl)
theorem dX0_refused_15 : decode cX0_refused 15 = .ok (.getfield 89, 3) := dk_180 0 89 (dk_at dksX0_refused_0 15 rfl rfl)
theorem dX0_refused_18 : decode cX0_refused 18 = .ok (.ireturn, 1) := dk_172 (dk_at dksX0_refused_0 18 rfl rfl)
abbrev cX0_set : ByteArray := prog_1_method_15_code
def yX0_set : MethodName := ⟨RX0, "set", "(IIJ)I"⟩
def dkwX0_set_1 : List UInt8 := [187, 0, 21, 89, 16, 251, 183, 0, 23, 191, 4, 172, 58, 5, 42, 25, 5, 182, 0, 150, 172]
abbrev dktX0_set_1 : List UInt8 := dkwX0_set_1 ++ []
def dkwX0_set_0 : List UInt8 := [42, 27, 182, 0, 136, 182, 0, 154, 58, 5, 25, 5, 28, 33, 182, 0, 157, 167, 0, 15, 58, 6]
abbrev dktX0_set_0 : List UInt8 := dkwX0_set_0 ++ dktX0_set_1
theorem dksX0_set_0 : cX0_set.data.toList.drop 0 = dktX0_set_0 := by decide +kernel
theorem dksX0_set_1 : cX0_set.data.toList.drop 22 = dktX0_set_1 := dk_seg dksX0_set_0 22 rfl rfl
theorem dX0_set_0 : decode cX0_set 0 = .ok (.aload_n 0, 1) := dk_42 (dk_at dksX0_set_0 0 rfl rfl)
theorem dX0_set_1 : decode cX0_set 1 = .ok (.iload_n 1, 1) := dk_27 (dk_at dksX0_set_0 1 rfl rfl)
theorem dX0_set_2 : decode cX0_set 2 = .ok (.invokevirtual 136, 3) := dk_182 0 136 (dk_at dksX0_set_0 2 rfl rfl)
theorem dX0_set_5 : decode cX0_set 5 = .ok (.invokevirtual 154, 3) := dk_182 0 154 (dk_at dksX0_set_0 5 rfl rfl)
theorem dX0_set_8 : decode cX0_set 8 = .ok (.astore 5, 2) := dk_58 5 (dk_at dksX0_set_0 8 rfl rfl)
theorem dX0_set_10 : decode cX0_set 10 = .ok (.aload 5, 2) := dk_25 5 (dk_at dksX0_set_0 10 rfl rfl)
theorem dX0_set_12 : decode cX0_set 12 = .ok (.iload_n 2, 1) := dk_28 (dk_at dksX0_set_0 12 rfl rfl)
theorem dX0_set_13 : decode cX0_set 13 = .ok (.lload_n 3, 1) := dk_33 (dk_at dksX0_set_0 13 rfl rfl)
theorem dX0_set_14 : decode cX0_set 14 = .ok (.invokevirtual 157, 3) := dk_182 0 157 (dk_at dksX0_set_0 14 rfl rfl)
theorem dX0_set_17 : decode cX0_set 17 = .ok (.goto 15, 3) := dk_167 0 15 (dk_at dksX0_set_0 17 rfl rfl)
theorem dX0_set_20 : decode cX0_set 20 = .ok (.astore 6, 2) := dk_58 6 (dk_at dksX0_set_0 20 rfl rfl)
theorem dX0_set_22 : decode cX0_set 22 = .ok (.new 21, 3) := dk_187 0 21 (dk_at dksX0_set_1 0 rfl rfl)
theorem dX0_set_25 : decode cX0_set 25 = .ok (.dup, 1) := dk_89 (dk_at dksX0_set_1 3 rfl rfl)
theorem dX0_set_26 : decode cX0_set 26 = .ok (.bipush (-5), 2) := dk_16 251 (dk_at dksX0_set_1 4 rfl rfl)
theorem dX0_set_28 : decode cX0_set 28 = .ok (.invokespecial 23, 3) := dk_183 0 23 (dk_at dksX0_set_1 6 rfl rfl)
theorem dX0_set_31 : decode cX0_set 31 = .ok (.athrow, 1) := dk_191 (dk_at dksX0_set_1 9 rfl rfl)
theorem dX0_set_32 : decode cX0_set 32 = .ok (.iconst 1, 1) := dk_4 (dk_at dksX0_set_1 10 rfl rfl)
theorem dX0_set_33 : decode cX0_set 33 = .ok (.ireturn, 1) := dk_172 (dk_at dksX0_set_1 11 rfl rfl)
theorem dX0_set_34 : decode cX0_set 34 = .ok (.astore 5, 2) := dk_58 5 (dk_at dksX0_set_1 12 rfl rfl)
theorem dX0_set_36 : decode cX0_set 36 = .ok (.aload_n 0, 1) := dk_42 (dk_at dksX0_set_1 14 rfl rfl)
theorem dX0_set_37 : decode cX0_set 37 = .ok (.aload 5, 2) := dk_25 5 (dk_at dksX0_set_1 15 rfl rfl)
theorem dX0_set_39 : decode cX0_set 39 = .ok (.invokevirtual 150, 3) := dk_182 0 150 (dk_at dksX0_set_1 17 rfl rfl)
theorem dX0_set_42 : decode cX0_set 42 = .ok (.ireturn, 1) := dk_172 (dk_at dksX0_set_1 20 rfl rfl)
abbrev cX0_copy : ByteArray := prog_1_method_16_code
def yX0_copy : MethodName := ⟨RX0, "copy", "(IIIII)I"⟩
def dkwX0_copy_6 : List UInt8 := [89, 16, 251, 183, 0, 23, 191, 4, 172, 58, 6, 42, 25, 6, 182, 0, 150, 172]
abbrev dktX0_copy_6 : List UInt8 := dkwX0_copy_6 ++ []
def dkwX0_copy_5 : List UInt8 := [182, 0, 7, 29, 25, 9, 182, 0, 7, 21, 4, 21, 5, 184, 0, 15, 167, 0, 15, 58, 10, 187, 0, 21]
abbrev dktX0_copy_5 : List UInt8 := dkwX0_copy_5 ++ dktX0_copy_6
def dkwX0_copy_4 : List UInt8 := [182, 0, 154, 58, 9, 21, 5, 155, 0, 7, 4, 167, 0, 4, 3, 16, 252, 184, 0, 98, 25, 8]
abbrev dktX0_copy_4 : List UInt8 := dkwX0_copy_4 ++ dktX0_copy_5
def dkwX0_copy_3 : List UInt8 := [160, 0, 7, 4, 167, 0, 4, 3, 16, 254, 184, 0, 98, 25, 6, 182, 0, 154, 58, 8, 25, 7]
abbrev dktX0_copy_3 : List UInt8 := dkwX0_copy_3 ++ dktX0_copy_4
def dkwX0_copy_2 : List UInt8 := [25, 7, 180, 0, 112, 198, 0, 32, 25, 6, 182, 0, 154, 182, 0, 161, 25, 7, 182, 0, 154, 182, 0, 161]
abbrev dktX0_copy_2 : List UInt8 := dkwX0_copy_2 ++ dktX0_copy_3
def dkwX0_copy_1 : List UInt8 := [182, 0, 108, 154, 0, 7, 4, 167, 0, 4, 3, 16, 254, 184, 0, 98, 25, 6, 180, 0, 112, 198, 0, 40]
abbrev dktX0_copy_1 : List UInt8 := dkwX0_copy_1 ++ dktX0_copy_2
def dkwX0_copy_0 : List UInt8 := [42, 27, 182, 0, 136, 58, 6, 42, 28, 182, 0, 136, 58, 7, 25, 6, 182, 0, 108, 154, 0, 15, 25, 7]
abbrev dktX0_copy_0 : List UInt8 := dkwX0_copy_0 ++ dktX0_copy_1
theorem dksX0_copy_0 : cX0_copy.data.toList.drop 0 = dktX0_copy_0 := by decide +kernel
theorem dksX0_copy_1 : cX0_copy.data.toList.drop 24 = dktX0_copy_1 := dk_seg dksX0_copy_0 24 rfl rfl
theorem dksX0_copy_2 : cX0_copy.data.toList.drop 48 = dktX0_copy_2 := dk_seg dksX0_copy_1 24 rfl rfl
theorem dksX0_copy_3 : cX0_copy.data.toList.drop 72 = dktX0_copy_3 := dk_seg dksX0_copy_2 24 rfl rfl
theorem dksX0_copy_4 : cX0_copy.data.toList.drop 94 = dktX0_copy_4 := dk_seg dksX0_copy_3 22 rfl rfl
theorem dksX0_copy_5 : cX0_copy.data.toList.drop 116 = dktX0_copy_5 := dk_seg dksX0_copy_4 22 rfl rfl
theorem dksX0_copy_6 : cX0_copy.data.toList.drop 140 = dktX0_copy_6 := dk_seg dksX0_copy_5 24 rfl rfl
theorem dX0_copy_0 : decode cX0_copy 0 = .ok (.aload_n 0, 1) := dk_42 (dk_at dksX0_copy_0 0 rfl rfl)
theorem dX0_copy_1 : decode cX0_copy 1 = .ok (.iload_n 1, 1) := dk_27 (dk_at dksX0_copy_0 1 rfl rfl)
theorem dX0_copy_2 : decode cX0_copy 2 = .ok (.invokevirtual 136, 3) := dk_182 0 136 (dk_at dksX0_copy_0 2 rfl rfl)
theorem dX0_copy_5 : decode cX0_copy 5 = .ok (.astore 6, 2) := dk_58 6 (dk_at dksX0_copy_0 5 rfl rfl)
theorem dX0_copy_7 : decode cX0_copy 7 = .ok (.aload_n 0, 1) := dk_42 (dk_at dksX0_copy_0 7 rfl rfl)
theorem dX0_copy_8 : decode cX0_copy 8 = .ok (.iload_n 2, 1) := dk_28 (dk_at dksX0_copy_0 8 rfl rfl)
theorem dX0_copy_9 : decode cX0_copy 9 = .ok (.invokevirtual 136, 3) := dk_182 0 136 (dk_at dksX0_copy_0 9 rfl rfl)
theorem dX0_copy_12 : decode cX0_copy 12 = .ok (.astore 7, 2) := dk_58 7 (dk_at dksX0_copy_0 12 rfl rfl)
theorem dX0_copy_14 : decode cX0_copy 14 = .ok (.aload 6, 2) := dk_25 6 (dk_at dksX0_copy_0 14 rfl rfl)
theorem dX0_copy_16 : decode cX0_copy 16 = .ok (.invokevirtual 108, 3) := dk_182 0 108 (dk_at dksX0_copy_0 16 rfl rfl)
theorem dX0_copy_19 : decode cX0_copy 19 = .ok (.ifCond .ne 15, 3) := dk_154 0 15 (dk_at dksX0_copy_0 19 rfl rfl)
theorem dX0_copy_22 : decode cX0_copy 22 = .ok (.aload 7, 2) := dk_25 7 (dk_at dksX0_copy_0 22 rfl rfl)
theorem dX0_copy_24 : decode cX0_copy 24 = .ok (.invokevirtual 108, 3) := dk_182 0 108 (dk_at dksX0_copy_1 0 rfl rfl)
theorem dX0_copy_27 : decode cX0_copy 27 = .ok (.ifCond .ne 7, 3) := dk_154 0 7 (dk_at dksX0_copy_1 3 rfl rfl)
theorem dX0_copy_30 : decode cX0_copy 30 = .ok (.iconst 1, 1) := dk_4 (dk_at dksX0_copy_1 6 rfl rfl)
theorem dX0_copy_31 : decode cX0_copy 31 = .ok (.goto 4, 3) := dk_167 0 4 (dk_at dksX0_copy_1 7 rfl rfl)
theorem dX0_copy_34 : decode cX0_copy 34 = .ok (.iconst 0, 1) := dk_3 (dk_at dksX0_copy_1 10 rfl rfl)
theorem dX0_copy_35 : decode cX0_copy 35 = .ok (.bipush (-2), 2) := dk_16 254 (dk_at dksX0_copy_1 11 rfl rfl)
theorem dX0_copy_37 : decode cX0_copy 37 = .ok (.invokestatic 98, 3) := dk_184 0 98 (dk_at dksX0_copy_1 13 rfl rfl)
theorem dX0_copy_40 : decode cX0_copy 40 = .ok (.aload 6, 2) := dk_25 6 (dk_at dksX0_copy_1 16 rfl rfl)
theorem dX0_copy_42 : decode cX0_copy 42 = .ok (.getfield 112, 3) := dk_180 0 112 (dk_at dksX0_copy_1 18 rfl rfl)
theorem dX0_copy_45 : decode cX0_copy 45 = .ok (.ifnull 40, 3) := dk_198 0 40 (dk_at dksX0_copy_1 21 rfl rfl)
theorem dX0_copy_48 : decode cX0_copy 48 = .ok (.aload 7, 2) := dk_25 7 (dk_at dksX0_copy_2 0 rfl rfl)
theorem dX0_copy_50 : decode cX0_copy 50 = .ok (.getfield 112, 3) := dk_180 0 112 (dk_at dksX0_copy_2 2 rfl rfl)
theorem dX0_copy_53 : decode cX0_copy 53 = .ok (.ifnull 32, 3) := dk_198 0 32 (dk_at dksX0_copy_2 5 rfl rfl)
theorem dX0_copy_56 : decode cX0_copy 56 = .ok (.aload 6, 2) := dk_25 6 (dk_at dksX0_copy_2 8 rfl rfl)
theorem dX0_copy_58 : decode cX0_copy 58 = .ok (.invokevirtual 154, 3) := dk_182 0 154 (dk_at dksX0_copy_2 10 rfl rfl)
theorem dX0_copy_61 : decode cX0_copy 61 = .ok (.invokevirtual 161, 3) := dk_182 0 161 (dk_at dksX0_copy_2 13 rfl rfl)
theorem dX0_copy_64 : decode cX0_copy 64 = .ok (.aload 7, 2) := dk_25 7 (dk_at dksX0_copy_2 16 rfl rfl)
theorem dX0_copy_66 : decode cX0_copy 66 = .ok (.invokevirtual 154, 3) := dk_182 0 154 (dk_at dksX0_copy_2 18 rfl rfl)
theorem dX0_copy_69 : decode cX0_copy 69 = .ok (.invokevirtual 161, 3) := dk_182 0 161 (dk_at dksX0_copy_2 21 rfl rfl)
theorem dX0_copy_72 : decode cX0_copy 72 = .ok (.if_icmp .ne 7, 3) := dk_160 0 7 (dk_at dksX0_copy_3 0 rfl rfl)
theorem dX0_copy_75 : decode cX0_copy 75 = .ok (.iconst 1, 1) := dk_4 (dk_at dksX0_copy_3 3 rfl rfl)
theorem dX0_copy_76 : decode cX0_copy 76 = .ok (.goto 4, 3) := dk_167 0 4 (dk_at dksX0_copy_3 4 rfl rfl)
theorem dX0_copy_79 : decode cX0_copy 79 = .ok (.iconst 0, 1) := dk_3 (dk_at dksX0_copy_3 7 rfl rfl)
theorem dX0_copy_80 : decode cX0_copy 80 = .ok (.bipush (-2), 2) := dk_16 254 (dk_at dksX0_copy_3 8 rfl rfl)
theorem dX0_copy_82 : decode cX0_copy 82 = .ok (.invokestatic 98, 3) := dk_184 0 98 (dk_at dksX0_copy_3 10 rfl rfl)
theorem dX0_copy_85 : decode cX0_copy 85 = .ok (.aload 6, 2) := dk_25 6 (dk_at dksX0_copy_3 13 rfl rfl)
theorem dX0_copy_87 : decode cX0_copy 87 = .ok (.invokevirtual 154, 3) := dk_182 0 154 (dk_at dksX0_copy_3 15 rfl rfl)
theorem dX0_copy_90 : decode cX0_copy 90 = .ok (.astore 8, 2) := dk_58 8 (dk_at dksX0_copy_3 18 rfl rfl)
theorem dX0_copy_92 : decode cX0_copy 92 = .ok (.aload 7, 2) := dk_25 7 (dk_at dksX0_copy_3 20 rfl rfl)
theorem dX0_copy_94 : decode cX0_copy 94 = .ok (.invokevirtual 154, 3) := dk_182 0 154 (dk_at dksX0_copy_4 0 rfl rfl)
theorem dX0_copy_97 : decode cX0_copy 97 = .ok (.astore 9, 2) := dk_58 9 (dk_at dksX0_copy_4 3 rfl rfl)
theorem dX0_copy_99 : decode cX0_copy 99 = .ok (.iload 5, 2) := dk_21 5 (dk_at dksX0_copy_4 5 rfl rfl)
theorem dX0_copy_101 : decode cX0_copy 101 = .ok (.ifCond .lt 7, 3) := dk_155 0 7 (dk_at dksX0_copy_4 7 rfl rfl)
theorem dX0_copy_104 : decode cX0_copy 104 = .ok (.iconst 1, 1) := dk_4 (dk_at dksX0_copy_4 10 rfl rfl)
theorem dX0_copy_105 : decode cX0_copy 105 = .ok (.goto 4, 3) := dk_167 0 4 (dk_at dksX0_copy_4 11 rfl rfl)
theorem dX0_copy_108 : decode cX0_copy 108 = .ok (.iconst 0, 1) := dk_3 (dk_at dksX0_copy_4 14 rfl rfl)
theorem dX0_copy_109 : decode cX0_copy 109 = .ok (.bipush (-4), 2) := dk_16 252 (dk_at dksX0_copy_4 15 rfl rfl)
theorem dX0_copy_111 : decode cX0_copy 111 = .ok (.invokestatic 98, 3) := dk_184 0 98 (dk_at dksX0_copy_4 17 rfl rfl)
theorem dX0_copy_114 : decode cX0_copy 114 = .ok (.aload 8, 2) := dk_25 8 (dk_at dksX0_copy_4 20 rfl rfl)
theorem dX0_copy_116 : decode cX0_copy 116 = .ok (.invokevirtual 7, 3) := dk_182 0 7 (dk_at dksX0_copy_5 0 rfl rfl)
theorem dX0_copy_119 : decode cX0_copy 119 = .ok (.iload_n 3, 1) := dk_29 (dk_at dksX0_copy_5 3 rfl rfl)
theorem dX0_copy_120 : decode cX0_copy 120 = .ok (.aload 9, 2) := dk_25 9 (dk_at dksX0_copy_5 4 rfl rfl)
theorem dX0_copy_122 : decode cX0_copy 122 = .ok (.invokevirtual 7, 3) := dk_182 0 7 (dk_at dksX0_copy_5 6 rfl rfl)
theorem dX0_copy_125 : decode cX0_copy 125 = .ok (.iload 4, 2) := dk_21 4 (dk_at dksX0_copy_5 9 rfl rfl)
theorem dX0_copy_127 : decode cX0_copy 127 = .ok (.iload 5, 2) := dk_21 5 (dk_at dksX0_copy_5 11 rfl rfl)
theorem dX0_copy_129 : decode cX0_copy 129 = .ok (.invokestatic 15, 3) := dk_184 0 15 (dk_at dksX0_copy_5 13 rfl rfl)
theorem dX0_copy_132 : decode cX0_copy 132 = .ok (.goto 15, 3) := dk_167 0 15 (dk_at dksX0_copy_5 16 rfl rfl)
theorem dX0_copy_135 : decode cX0_copy 135 = .ok (.astore 10, 2) := dk_58 10 (dk_at dksX0_copy_5 19 rfl rfl)
theorem dX0_copy_137 : decode cX0_copy 137 = .ok (.new 21, 3) := dk_187 0 21 (dk_at dksX0_copy_5 21 rfl rfl)
theorem dX0_copy_140 : decode cX0_copy 140 = .ok (.dup, 1) := dk_89 (dk_at dksX0_copy_6 0 rfl rfl)
theorem dX0_copy_141 : decode cX0_copy 141 = .ok (.bipush (-5), 2) := dk_16 251 (dk_at dksX0_copy_6 1 rfl rfl)
theorem dX0_copy_143 : decode cX0_copy 143 = .ok (.invokespecial 23, 3) := dk_183 0 23 (dk_at dksX0_copy_6 3 rfl rfl)
theorem dX0_copy_146 : decode cX0_copy 146 = .ok (.athrow, 1) := dk_191 (dk_at dksX0_copy_6 6 rfl rfl)
theorem dX0_copy_147 : decode cX0_copy 147 = .ok (.iconst 1, 1) := dk_4 (dk_at dksX0_copy_6 7 rfl rfl)
theorem dX0_copy_148 : decode cX0_copy 148 = .ok (.ireturn, 1) := dk_172 (dk_at dksX0_copy_6 8 rfl rfl)
theorem dX0_copy_149 : decode cX0_copy 149 = .ok (.astore 6, 2) := dk_58 6 (dk_at dksX0_copy_6 9 rfl rfl)
theorem dX0_copy_151 : decode cX0_copy 151 = .ok (.aload_n 0, 1) := dk_42 (dk_at dksX0_copy_6 11 rfl rfl)
theorem dX0_copy_152 : decode cX0_copy 152 = .ok (.aload 6, 2) := dk_25 6 (dk_at dksX0_copy_6 12 rfl rfl)
theorem dX0_copy_154 : decode cX0_copy 154 = .ok (.invokevirtual 150, 3) := dk_182 0 150 (dk_at dksX0_copy_6 14 rfl rfl)
theorem dX0_copy_157 : decode cX0_copy 157 = .ok (.ireturn, 1) := dk_172 (dk_at dksX0_copy_6 17 rfl rfl)
abbrev cX0_element : ByteArray := prog_1_method_17_code
def yX0_element : MethodName := ⟨RX0, "element", "(II)J"⟩
def dkwX0_element_0 : List UInt8 := [42, 27, 182, 0, 136, 182, 0, 154, 28, 182, 0, 166, 173, 78, 9, 173, 78, 9, 173]
abbrev dktX0_element_0 : List UInt8 := dkwX0_element_0 ++ []
theorem dksX0_element_0 : cX0_element.data.toList.drop 0 = dktX0_element_0 := by decide +kernel
theorem dX0_element_0 : decode cX0_element 0 = .ok (.aload_n 0, 1) := dk_42 (dk_at dksX0_element_0 0 rfl rfl)
theorem dX0_element_1 : decode cX0_element 1 = .ok (.iload_n 1, 1) := dk_27 (dk_at dksX0_element_0 1 rfl rfl)
theorem dX0_element_2 : decode cX0_element 2 = .ok (.invokevirtual 136, 3) := dk_182 0 136 (dk_at dksX0_element_0 2 rfl rfl)
theorem dX0_element_5 : decode cX0_element 5 = .ok (.invokevirtual 154, 3) := dk_182 0 154 (dk_at dksX0_element_0 5 rfl rfl)
theorem dX0_element_8 : decode cX0_element 8 = .ok (.iload_n 2, 1) := dk_28 (dk_at dksX0_element_0 8 rfl rfl)
theorem dX0_element_9 : decode cX0_element 9 = .ok (.invokevirtual 166, 3) := dk_182 0 166 (dk_at dksX0_element_0 9 rfl rfl)
theorem dX0_element_12 : decode cX0_element 12 = .ok (.lreturn, 1) := dk_173 (dk_at dksX0_element_0 12 rfl rfl)
theorem dX0_element_13 : decode cX0_element 13 = .ok (.astore_n 3, 1) := dk_78 (dk_at dksX0_element_0 13 rfl rfl)
theorem dX0_element_14 : decode cX0_element 14 = .ok (.lconst 0, 1) := dk_9 (dk_at dksX0_element_0 14 rfl rfl)
theorem dX0_element_15 : decode cX0_element 15 = .ok (.lreturn, 1) := dk_173 (dk_at dksX0_element_0 15 rfl rfl)
theorem dX0_element_16 : decode cX0_element 16 = .ok (.astore_n 3, 1) := dk_78 (dk_at dksX0_element_0 16 rfl rfl)
theorem dX0_element_17 : decode cX0_element 17 = .ok (.lconst 0, 1) := dk_9 (dk_at dksX0_element_0 17 rfl rfl)
theorem dX0_element_18 : decode cX0_element 18 = .ok (.lreturn, 1) := dk_173 (dk_at dksX0_element_0 18 rfl rfl)
abbrev cX0_show : ByteArray := prog_1_method_18_code
def yX0_show : MethodName := ⟨RX0, "show", "(II)I"⟩
def dkwX0_show_1 : List UInt8 := [42, 180, 0, 81, 180, 0, 118, 28, 50, 181, 0, 112, 4, 172, 78, 42, 45, 182, 0, 150, 172]
abbrev dktX0_show_1 : List UInt8 := dkwX0_show_1 ++ []
def dkwX0_show_0 : List UInt8 := [42, 27, 182, 0, 136, 78, 28, 2, 160, 0, 10, 45, 1, 181, 0, 112, 3, 172, 42, 28, 182, 0, 102, 45]
abbrev dktX0_show_0 : List UInt8 := dkwX0_show_0 ++ dktX0_show_1
theorem dksX0_show_0 : cX0_show.data.toList.drop 0 = dktX0_show_0 := by decide +kernel
theorem dksX0_show_1 : cX0_show.data.toList.drop 24 = dktX0_show_1 := dk_seg dksX0_show_0 24 rfl rfl
theorem dX0_show_0 : decode cX0_show 0 = .ok (.aload_n 0, 1) := dk_42 (dk_at dksX0_show_0 0 rfl rfl)
theorem dX0_show_1 : decode cX0_show 1 = .ok (.iload_n 1, 1) := dk_27 (dk_at dksX0_show_0 1 rfl rfl)
theorem dX0_show_2 : decode cX0_show 2 = .ok (.invokevirtual 136, 3) := dk_182 0 136 (dk_at dksX0_show_0 2 rfl rfl)
theorem dX0_show_5 : decode cX0_show 5 = .ok (.astore_n 3, 1) := dk_78 (dk_at dksX0_show_0 5 rfl rfl)
theorem dX0_show_6 : decode cX0_show 6 = .ok (.iload_n 2, 1) := dk_28 (dk_at dksX0_show_0 6 rfl rfl)
theorem dX0_show_7 : decode cX0_show 7 = .ok (.iconst (-1), 1) := dk_2 (dk_at dksX0_show_0 7 rfl rfl)
theorem dX0_show_8 : decode cX0_show 8 = .ok (.if_icmp .ne 10, 3) := dk_160 0 10 (dk_at dksX0_show_0 8 rfl rfl)
theorem dX0_show_11 : decode cX0_show 11 = .ok (.aload_n 3, 1) := dk_45 (dk_at dksX0_show_0 11 rfl rfl)
theorem dX0_show_12 : decode cX0_show 12 = .ok (.aconst_null, 1) := dk_1 (dk_at dksX0_show_0 12 rfl rfl)
theorem dX0_show_13 : decode cX0_show 13 = .ok (.putfield 112, 3) := dk_181 0 112 (dk_at dksX0_show_0 13 rfl rfl)
theorem dX0_show_16 : decode cX0_show 16 = .ok (.iconst 0, 1) := dk_3 (dk_at dksX0_show_0 16 rfl rfl)
theorem dX0_show_17 : decode cX0_show 17 = .ok (.ireturn, 1) := dk_172 (dk_at dksX0_show_0 17 rfl rfl)
theorem dX0_show_18 : decode cX0_show 18 = .ok (.aload_n 0, 1) := dk_42 (dk_at dksX0_show_0 18 rfl rfl)
theorem dX0_show_19 : decode cX0_show 19 = .ok (.iload_n 2, 1) := dk_28 (dk_at dksX0_show_0 19 rfl rfl)
theorem dX0_show_20 : decode cX0_show 20 = .ok (.invokevirtual 102, 3) := dk_182 0 102 (dk_at dksX0_show_0 20 rfl rfl)
theorem dX0_show_23 : decode cX0_show 23 = .ok (.aload_n 3, 1) := dk_45 (dk_at dksX0_show_0 23 rfl rfl)
theorem dX0_show_24 : decode cX0_show 24 = .ok (.aload_n 0, 1) := dk_42 (dk_at dksX0_show_1 0 rfl rfl)
theorem dX0_show_25 : decode cX0_show 25 = .ok (.getfield 81, 3) := dk_180 0 81 (dk_at dksX0_show_1 1 rfl rfl)
theorem dX0_show_28 : decode cX0_show 28 = .ok (.getfield 118, 3) := dk_180 0 118 (dk_at dksX0_show_1 4 rfl rfl)
theorem dX0_show_31 : decode cX0_show 31 = .ok (.iload_n 2, 1) := dk_28 (dk_at dksX0_show_1 7 rfl rfl)
theorem dX0_show_32 : decode cX0_show 32 = .ok (.aaload, 1) := dk_50 (dk_at dksX0_show_1 8 rfl rfl)
theorem dX0_show_33 : decode cX0_show 33 = .ok (.putfield 112, 3) := dk_181 0 112 (dk_at dksX0_show_1 9 rfl rfl)
theorem dX0_show_36 : decode cX0_show 36 = .ok (.iconst 1, 1) := dk_4 (dk_at dksX0_show_1 12 rfl rfl)
theorem dX0_show_37 : decode cX0_show 37 = .ok (.ireturn, 1) := dk_172 (dk_at dksX0_show_1 13 rfl rfl)
theorem dX0_show_38 : decode cX0_show 38 = .ok (.astore_n 3, 1) := dk_78 (dk_at dksX0_show_1 14 rfl rfl)
theorem dX0_show_39 : decode cX0_show 39 = .ok (.aload_n 0, 1) := dk_42 (dk_at dksX0_show_1 15 rfl rfl)
theorem dX0_show_40 : decode cX0_show 40 = .ok (.aload_n 3, 1) := dk_45 (dk_at dksX0_show_1 16 rfl rfl)
theorem dX0_show_41 : decode cX0_show 41 = .ok (.invokevirtual 150, 3) := dk_182 0 150 (dk_at dksX0_show_1 17 rfl rfl)
theorem dX0_show_44 : decode cX0_show 44 = .ok (.ireturn, 1) := dk_172 (dk_at dksX0_show_1 20 rfl rfl)
abbrev cX0_mustThing : ByteArray := prog_1_method_9_code
def yX0_mustThing : MethodName := ⟨RX0, "mustThing", "(I)V"⟩
def dkwX0_mustThing_0 : List UInt8 := [42, 180, 0, 81, 27, 182, 0, 94, 2, 184, 0, 98, 177]
abbrev dktX0_mustThing_0 : List UInt8 := dkwX0_mustThing_0 ++ []
theorem dksX0_mustThing_0 : cX0_mustThing.data.toList.drop 0 = dktX0_mustThing_0 := by decide +kernel
theorem dX0_mustThing_0 : decode cX0_mustThing 0 = .ok (.aload_n 0, 1) := dk_42 (dk_at dksX0_mustThing_0 0 rfl rfl)
theorem dX0_mustThing_1 : decode cX0_mustThing 1 = .ok (.getfield 81, 3) := dk_180 0 81 (dk_at dksX0_mustThing_0 1 rfl rfl)
theorem dX0_mustThing_4 : decode cX0_mustThing 4 = .ok (.iload_n 1, 1) := dk_27 (dk_at dksX0_mustThing_0 4 rfl rfl)
theorem dX0_mustThing_5 : decode cX0_mustThing 5 = .ok (.invokevirtual 94, 3) := dk_182 0 94 (dk_at dksX0_mustThing_0 5 rfl rfl)
theorem dX0_mustThing_8 : decode cX0_mustThing 8 = .ok (.iconst (-1), 1) := dk_2 (dk_at dksX0_mustThing_0 8 rfl rfl)
theorem dX0_mustThing_9 : decode cX0_mustThing 9 = .ok (.invokestatic 98, 3) := dk_184 0 98 (dk_at dksX0_mustThing_0 9 rfl rfl)
theorem dX0_mustThing_12 : decode cX0_mustThing 12 = .ok (.return_, 1) := dk_177 (dk_at dksX0_mustThing_0 12 rfl rfl)
abbrev cX0_holds : ByteArray := prog_1_method_19_code
def yX0_holds : MethodName := ⟨RX0, "holds", "(I)I"⟩
def dkwX0_holds_2 : List UInt8 := [167, 0, 13, 16, 100, 44, 192, 0, 2, 182, 0, 161, 96, 172]
abbrev dktX0_holds_2 : List UInt8 := dkwX0_holds_2 ++ []
def dkwX0_holds_1 : List UInt8 := [42, 180, 0, 59, 27, 50, 180, 0, 112, 77, 44, 193, 0, 47, 153, 0, 13, 44, 192, 0, 47, 180, 0, 115]
abbrev dktX0_holds_1 : List UInt8 := dkwX0_holds_1 ++ dktX0_holds_2
def dkwX0_holds_0 : List UInt8 := [27, 155, 0, 21, 27, 16, 8, 162, 0, 15, 42, 180, 0, 59, 27, 50, 180, 0, 112, 199, 0, 5, 2, 172]
abbrev dktX0_holds_0 : List UInt8 := dkwX0_holds_0 ++ dktX0_holds_1
theorem dksX0_holds_0 : cX0_holds.data.toList.drop 0 = dktX0_holds_0 := by decide +kernel
theorem dksX0_holds_1 : cX0_holds.data.toList.drop 24 = dktX0_holds_1 := dk_seg dksX0_holds_0 24 rfl rfl
theorem dksX0_holds_2 : cX0_holds.data.toList.drop 48 = dktX0_holds_2 := dk_seg dksX0_holds_1 24 rfl rfl
theorem dX0_holds_0 : decode cX0_holds 0 = .ok (.iload_n 1, 1) := dk_27 (dk_at dksX0_holds_0 0 rfl rfl)
theorem dX0_holds_1 : decode cX0_holds 1 = .ok (.ifCond .lt 21, 3) := dk_155 0 21 (dk_at dksX0_holds_0 1 rfl rfl)
theorem dX0_holds_4 : decode cX0_holds 4 = .ok (.iload_n 1, 1) := dk_27 (dk_at dksX0_holds_0 4 rfl rfl)
theorem dX0_holds_5 : decode cX0_holds 5 = .ok (.bipush 8, 2) := dk_16 8 (dk_at dksX0_holds_0 5 rfl rfl)
theorem dX0_holds_7 : decode cX0_holds 7 = .ok (.if_icmp .ge 15, 3) := dk_162 0 15 (dk_at dksX0_holds_0 7 rfl rfl)
theorem dX0_holds_10 : decode cX0_holds 10 = .ok (.aload_n 0, 1) := dk_42 (dk_at dksX0_holds_0 10 rfl rfl)
theorem dX0_holds_11 : decode cX0_holds 11 = .ok (.getfield 59, 3) := dk_180 0 59 (dk_at dksX0_holds_0 11 rfl rfl)
theorem dX0_holds_14 : decode cX0_holds 14 = .ok (.iload_n 1, 1) := dk_27 (dk_at dksX0_holds_0 14 rfl rfl)
theorem dX0_holds_15 : decode cX0_holds 15 = .ok (.aaload, 1) := dk_50 (dk_at dksX0_holds_0 15 rfl rfl)
theorem dX0_holds_16 : decode cX0_holds 16 = .ok (.getfield 112, 3) := dk_180 0 112 (dk_at dksX0_holds_0 16 rfl rfl)
theorem dX0_holds_19 : decode cX0_holds 19 = .ok (.ifnonnull 5, 3) := dk_199 0 5 (dk_at dksX0_holds_0 19 rfl rfl)
theorem dX0_holds_22 : decode cX0_holds 22 = .ok (.iconst (-1), 1) := dk_2 (dk_at dksX0_holds_0 22 rfl rfl)
theorem dX0_holds_23 : decode cX0_holds 23 = .ok (.ireturn, 1) := dk_172 (dk_at dksX0_holds_0 23 rfl rfl)
theorem dX0_holds_24 : decode cX0_holds 24 = .ok (.aload_n 0, 1) := dk_42 (dk_at dksX0_holds_1 0 rfl rfl)
theorem dX0_holds_25 : decode cX0_holds 25 = .ok (.getfield 59, 3) := dk_180 0 59 (dk_at dksX0_holds_1 1 rfl rfl)
theorem dX0_holds_28 : decode cX0_holds 28 = .ok (.iload_n 1, 1) := dk_27 (dk_at dksX0_holds_1 4 rfl rfl)
theorem dX0_holds_29 : decode cX0_holds 29 = .ok (.aaload, 1) := dk_50 (dk_at dksX0_holds_1 5 rfl rfl)
theorem dX0_holds_30 : decode cX0_holds 30 = .ok (.getfield 112, 3) := dk_180 0 112 (dk_at dksX0_holds_1 6 rfl rfl)
theorem dX0_holds_33 : decode cX0_holds 33 = .ok (.astore_n 2, 1) := dk_77 (dk_at dksX0_holds_1 9 rfl rfl)
theorem dX0_holds_34 : decode cX0_holds 34 = .ok (.aload_n 2, 1) := dk_44 (dk_at dksX0_holds_1 10 rfl rfl)
theorem dX0_holds_35 : decode cX0_holds 35 = .ok (.instanceof 47, 3) := dk_193 0 47 (dk_at dksX0_holds_1 11 rfl rfl)
theorem dX0_holds_38 : decode cX0_holds 38 = .ok (.ifCond .eq 13, 3) := dk_153 0 13 (dk_at dksX0_holds_1 14 rfl rfl)
theorem dX0_holds_41 : decode cX0_holds 41 = .ok (.aload_n 2, 1) := dk_44 (dk_at dksX0_holds_1 17 rfl rfl)
theorem dX0_holds_42 : decode cX0_holds 42 = .ok (.checkcast 47, 3) := dk_192 0 47 (dk_at dksX0_holds_1 18 rfl rfl)
theorem dX0_holds_45 : decode cX0_holds 45 = .ok (.getfield 115, 3) := dk_180 0 115 (dk_at dksX0_holds_1 21 rfl rfl)
theorem dX0_holds_48 : decode cX0_holds 48 = .ok (.goto 13, 3) := dk_167 0 13 (dk_at dksX0_holds_2 0 rfl rfl)
theorem dX0_holds_51 : decode cX0_holds 51 = .ok (.bipush 100, 2) := dk_16 100 (dk_at dksX0_holds_2 3 rfl rfl)
theorem dX0_holds_53 : decode cX0_holds 53 = .ok (.aload_n 2, 1) := dk_44 (dk_at dksX0_holds_2 5 rfl rfl)
theorem dX0_holds_54 : decode cX0_holds 54 = .ok (.checkcast 2, 3) := dk_192 0 2 (dk_at dksX0_holds_2 6 rfl rfl)
theorem dX0_holds_57 : decode cX0_holds 57 = .ok (.invokevirtual 161, 3) := dk_182 0 161 (dk_at dksX0_holds_2 9 rfl rfl)
theorem dX0_holds_60 : decode cX0_holds 60 = .ok (.iadd, 1) := dk_96 (dk_at dksX0_holds_2 12 rfl rfl)
theorem dX0_holds_61 : decode cX0_holds 61 = .ok (.ireturn, 1) := dk_172 (dk_at dksX0_holds_2 13 rfl rfl)
abbrev cX0_says : ByteArray := prog_1_method_20_code
def yX0_says : MethodName := ⟨RX0, "says", "(II)I"⟩
def dkwX0_says_1 : List UInt8 := [180, 0, 81, 182, 0, 172, 172, 78, 42, 45, 182, 0, 150, 172]
abbrev dktX0_says_1 : List UInt8 := dkwX0_says_1 ++ []
def dkwX0_says_0 : List UInt8 := [42, 27, 182, 0, 136, 78, 28, 133, 9, 20, 0, 170, 184, 0, 142, 2, 184, 0, 98, 45, 28, 42]
abbrev dktX0_says_0 : List UInt8 := dkwX0_says_0 ++ dktX0_says_1
theorem dksX0_says_0 : cX0_says.data.toList.drop 0 = dktX0_says_0 := by decide +kernel
theorem dksX0_says_1 : cX0_says.data.toList.drop 22 = dktX0_says_1 := dk_seg dksX0_says_0 22 rfl rfl
theorem dX0_says_0 : decode cX0_says 0 = .ok (.aload_n 0, 1) := dk_42 (dk_at dksX0_says_0 0 rfl rfl)
theorem dX0_says_1 : decode cX0_says 1 = .ok (.iload_n 1, 1) := dk_27 (dk_at dksX0_says_0 1 rfl rfl)
theorem dX0_says_2 : decode cX0_says 2 = .ok (.invokevirtual 136, 3) := dk_182 0 136 (dk_at dksX0_says_0 2 rfl rfl)
theorem dX0_says_5 : decode cX0_says 5 = .ok (.astore_n 3, 1) := dk_78 (dk_at dksX0_says_0 5 rfl rfl)
theorem dX0_says_6 : decode cX0_says 6 = .ok (.iload_n 2, 1) := dk_28 (dk_at dksX0_says_0 6 rfl rfl)
theorem dX0_says_7 : decode cX0_says 7 = .ok (.i2l, 1) := dk_133 (dk_at dksX0_says_0 7 rfl rfl)
theorem dX0_says_8 : decode cX0_says 8 = .ok (.lconst 0, 1) := dk_9 (dk_at dksX0_says_0 8 rfl rfl)
theorem dX0_says_9 : decode cX0_says 9 = .ok (.ldc2_w 170, 3) := dk_20 0 170 (dk_at dksX0_says_0 9 rfl rfl)
theorem dX0_says_12 : decode cX0_says 12 = .ok (.invokestatic 142, 3) := dk_184 0 142 (dk_at dksX0_says_0 12 rfl rfl)
theorem dX0_says_15 : decode cX0_says 15 = .ok (.iconst (-1), 1) := dk_2 (dk_at dksX0_says_0 15 rfl rfl)
theorem dX0_says_16 : decode cX0_says 16 = .ok (.invokestatic 98, 3) := dk_184 0 98 (dk_at dksX0_says_0 16 rfl rfl)
theorem dX0_says_19 : decode cX0_says 19 = .ok (.aload_n 3, 1) := dk_45 (dk_at dksX0_says_0 19 rfl rfl)
theorem dX0_says_20 : decode cX0_says 20 = .ok (.iload_n 2, 1) := dk_28 (dk_at dksX0_says_0 20 rfl rfl)
theorem dX0_says_21 : decode cX0_says 21 = .ok (.aload_n 0, 1) := dk_42 (dk_at dksX0_says_0 21 rfl rfl)
theorem dX0_says_22 : decode cX0_says 22 = .ok (.getfield 81, 3) := dk_180 0 81 (dk_at dksX0_says_1 0 rfl rfl)
theorem dX0_says_25 : decode cX0_says 25 = .ok (.invokevirtual 172, 3) := dk_182 0 172 (dk_at dksX0_says_1 3 rfl rfl)
theorem dX0_says_28 : decode cX0_says 28 = .ok (.ireturn, 1) := dk_172 (dk_at dksX0_says_1 6 rfl rfl)
theorem dX0_says_29 : decode cX0_says 29 = .ok (.astore_n 3, 1) := dk_78 (dk_at dksX0_says_1 7 rfl rfl)
theorem dX0_says_30 : decode cX0_says 30 = .ok (.aload_n 0, 1) := dk_42 (dk_at dksX0_says_1 8 rfl rfl)
theorem dX0_says_31 : decode cX0_says 31 = .ok (.aload_n 3, 1) := dk_45 (dk_at dksX0_says_1 9 rfl rfl)
theorem dX0_says_32 : decode cX0_says 32 = .ok (.invokevirtual 150, 3) := dk_182 0 150 (dk_at dksX0_says_1 10 rfl rfl)
theorem dX0_says_35 : decode cX0_says 35 = .ok (.ireturn, 1) := dk_172 (dk_at dksX0_says_1 13 rfl rfl)
abbrev cX0_thing : ByteArray := prog_1_method_21_code
def yX0_thing : MethodName := ⟨RX0, "thing", "(IIIII)I"⟩
def dkwX0_thing_5 : List UInt8 := [29, 21, 4, 21, 5, 182, 0, 187, 172, 58, 6, 42, 25, 6, 182, 0, 150, 172]
abbrev dktX0_thing_5 : List UInt8 := dkwX0_thing_5 ++ []
def dkwX0_thing_4 : List UInt8 := [180, 0, 184, 16, 8, 162, 0, 7, 4, 167, 0, 4, 3, 16, 249, 184, 0, 98, 42, 180, 0, 81, 27, 28]
abbrev dktX0_thing_4 : List UInt8 := dkwX0_thing_4 ++ dktX0_thing_5
def dkwX0_thing_3 : List UInt8 := [16, 250, 184, 0, 98, 42, 180, 0, 81, 28, 29, 182, 0, 180, 16, 250, 184, 0, 98, 42, 180, 0, 81]
abbrev dktX0_thing_3 : List UInt8 := dkwX0_thing_3 ++ dktX0_thing_4
def dkwX0_thing_2 : List UInt8 := [184, 0, 142, 153, 0, 20, 21, 5, 133, 9, 20, 0, 176, 184, 0, 142, 153, 0, 7, 4, 167, 0, 4, 3]
abbrev dktX0_thing_2 : List UInt8 := dkwX0_thing_2 ++ dktX0_thing_3
def dkwX0_thing_1 : List UInt8 := [153, 0, 45, 29, 133, 9, 20, 0, 176, 184, 0, 142, 153, 0, 33, 21, 4, 133, 9, 20, 0, 178]
abbrev dktX0_thing_1 : List UInt8 := dkwX0_thing_1 ++ dktX0_thing_2
def dkwX0_thing_0 : List UInt8 := [27, 133, 9, 20, 0, 170, 184, 0, 142, 2, 184, 0, 98, 28, 133, 9, 20, 0, 176, 184, 0, 142]
abbrev dktX0_thing_0 : List UInt8 := dkwX0_thing_0 ++ dktX0_thing_1
theorem dksX0_thing_0 : cX0_thing.data.toList.drop 0 = dktX0_thing_0 := by decide +kernel
theorem dksX0_thing_1 : cX0_thing.data.toList.drop 22 = dktX0_thing_1 := dk_seg dksX0_thing_0 22 rfl rfl
theorem dksX0_thing_2 : cX0_thing.data.toList.drop 44 = dktX0_thing_2 := dk_seg dksX0_thing_1 22 rfl rfl
theorem dksX0_thing_3 : cX0_thing.data.toList.drop 68 = dktX0_thing_3 := dk_seg dksX0_thing_2 24 rfl rfl
theorem dksX0_thing_4 : cX0_thing.data.toList.drop 91 = dktX0_thing_4 := dk_seg dksX0_thing_3 23 rfl rfl
theorem dksX0_thing_5 : cX0_thing.data.toList.drop 115 = dktX0_thing_5 := dk_seg dksX0_thing_4 24 rfl rfl
theorem dX0_thing_0 : decode cX0_thing 0 = .ok (.iload_n 1, 1) := dk_27 (dk_at dksX0_thing_0 0 rfl rfl)
theorem dX0_thing_1 : decode cX0_thing 1 = .ok (.i2l, 1) := dk_133 (dk_at dksX0_thing_0 1 rfl rfl)
theorem dX0_thing_2 : decode cX0_thing 2 = .ok (.lconst 0, 1) := dk_9 (dk_at dksX0_thing_0 2 rfl rfl)
theorem dX0_thing_3 : decode cX0_thing 3 = .ok (.ldc2_w 170, 3) := dk_20 0 170 (dk_at dksX0_thing_0 3 rfl rfl)
theorem dX0_thing_6 : decode cX0_thing 6 = .ok (.invokestatic 142, 3) := dk_184 0 142 (dk_at dksX0_thing_0 6 rfl rfl)
theorem dX0_thing_9 : decode cX0_thing 9 = .ok (.iconst (-1), 1) := dk_2 (dk_at dksX0_thing_0 9 rfl rfl)
theorem dX0_thing_10 : decode cX0_thing 10 = .ok (.invokestatic 98, 3) := dk_184 0 98 (dk_at dksX0_thing_0 10 rfl rfl)
theorem dX0_thing_13 : decode cX0_thing 13 = .ok (.iload_n 2, 1) := dk_28 (dk_at dksX0_thing_0 13 rfl rfl)
theorem dX0_thing_14 : decode cX0_thing 14 = .ok (.i2l, 1) := dk_133 (dk_at dksX0_thing_0 14 rfl rfl)
theorem dX0_thing_15 : decode cX0_thing 15 = .ok (.lconst 0, 1) := dk_9 (dk_at dksX0_thing_0 15 rfl rfl)
theorem dX0_thing_16 : decode cX0_thing 16 = .ok (.ldc2_w 176, 3) := dk_20 0 176 (dk_at dksX0_thing_0 16 rfl rfl)
theorem dX0_thing_19 : decode cX0_thing 19 = .ok (.invokestatic 142, 3) := dk_184 0 142 (dk_at dksX0_thing_0 19 rfl rfl)
theorem dX0_thing_22 : decode cX0_thing 22 = .ok (.ifCond .eq 45, 3) := dk_153 0 45 (dk_at dksX0_thing_1 0 rfl rfl)
theorem dX0_thing_25 : decode cX0_thing 25 = .ok (.iload_n 3, 1) := dk_29 (dk_at dksX0_thing_1 3 rfl rfl)
theorem dX0_thing_26 : decode cX0_thing 26 = .ok (.i2l, 1) := dk_133 (dk_at dksX0_thing_1 4 rfl rfl)
theorem dX0_thing_27 : decode cX0_thing 27 = .ok (.lconst 0, 1) := dk_9 (dk_at dksX0_thing_1 5 rfl rfl)
theorem dX0_thing_28 : decode cX0_thing 28 = .ok (.ldc2_w 176, 3) := dk_20 0 176 (dk_at dksX0_thing_1 6 rfl rfl)
theorem dX0_thing_31 : decode cX0_thing 31 = .ok (.invokestatic 142, 3) := dk_184 0 142 (dk_at dksX0_thing_1 9 rfl rfl)
theorem dX0_thing_34 : decode cX0_thing 34 = .ok (.ifCond .eq 33, 3) := dk_153 0 33 (dk_at dksX0_thing_1 12 rfl rfl)
theorem dX0_thing_37 : decode cX0_thing 37 = .ok (.iload 4, 2) := dk_21 4 (dk_at dksX0_thing_1 15 rfl rfl)
theorem dX0_thing_39 : decode cX0_thing 39 = .ok (.i2l, 1) := dk_133 (dk_at dksX0_thing_1 17 rfl rfl)
theorem dX0_thing_40 : decode cX0_thing 40 = .ok (.lconst 0, 1) := dk_9 (dk_at dksX0_thing_1 18 rfl rfl)
theorem dX0_thing_41 : decode cX0_thing 41 = .ok (.ldc2_w 178, 3) := dk_20 0 178 (dk_at dksX0_thing_1 19 rfl rfl)
theorem dX0_thing_44 : decode cX0_thing 44 = .ok (.invokestatic 142, 3) := dk_184 0 142 (dk_at dksX0_thing_2 0 rfl rfl)
theorem dX0_thing_47 : decode cX0_thing 47 = .ok (.ifCond .eq 20, 3) := dk_153 0 20 (dk_at dksX0_thing_2 3 rfl rfl)
theorem dX0_thing_50 : decode cX0_thing 50 = .ok (.iload 5, 2) := dk_21 5 (dk_at dksX0_thing_2 6 rfl rfl)
theorem dX0_thing_52 : decode cX0_thing 52 = .ok (.i2l, 1) := dk_133 (dk_at dksX0_thing_2 8 rfl rfl)
theorem dX0_thing_53 : decode cX0_thing 53 = .ok (.lconst 0, 1) := dk_9 (dk_at dksX0_thing_2 9 rfl rfl)
theorem dX0_thing_54 : decode cX0_thing 54 = .ok (.ldc2_w 176, 3) := dk_20 0 176 (dk_at dksX0_thing_2 10 rfl rfl)
theorem dX0_thing_57 : decode cX0_thing 57 = .ok (.invokestatic 142, 3) := dk_184 0 142 (dk_at dksX0_thing_2 13 rfl rfl)
theorem dX0_thing_60 : decode cX0_thing 60 = .ok (.ifCond .eq 7, 3) := dk_153 0 7 (dk_at dksX0_thing_2 16 rfl rfl)
theorem dX0_thing_63 : decode cX0_thing 63 = .ok (.iconst 1, 1) := dk_4 (dk_at dksX0_thing_2 19 rfl rfl)
theorem dX0_thing_64 : decode cX0_thing 64 = .ok (.goto 4, 3) := dk_167 0 4 (dk_at dksX0_thing_2 20 rfl rfl)
theorem dX0_thing_67 : decode cX0_thing 67 = .ok (.iconst 0, 1) := dk_3 (dk_at dksX0_thing_2 23 rfl rfl)
theorem dX0_thing_68 : decode cX0_thing 68 = .ok (.bipush (-6), 2) := dk_16 250 (dk_at dksX0_thing_3 0 rfl rfl)
theorem dX0_thing_70 : decode cX0_thing 70 = .ok (.invokestatic 98, 3) := dk_184 0 98 (dk_at dksX0_thing_3 2 rfl rfl)
theorem dX0_thing_73 : decode cX0_thing 73 = .ok (.aload_n 0, 1) := dk_42 (dk_at dksX0_thing_3 5 rfl rfl)
theorem dX0_thing_74 : decode cX0_thing 74 = .ok (.getfield 81, 3) := dk_180 0 81 (dk_at dksX0_thing_3 6 rfl rfl)
theorem dX0_thing_77 : decode cX0_thing 77 = .ok (.iload_n 2, 1) := dk_28 (dk_at dksX0_thing_3 9 rfl rfl)
theorem dX0_thing_78 : decode cX0_thing 78 = .ok (.iload_n 3, 1) := dk_29 (dk_at dksX0_thing_3 10 rfl rfl)
theorem dX0_thing_79 : decode cX0_thing 79 = .ok (.invokevirtual 180, 3) := dk_182 0 180 (dk_at dksX0_thing_3 11 rfl rfl)
theorem dX0_thing_82 : decode cX0_thing 82 = .ok (.bipush (-6), 2) := dk_16 250 (dk_at dksX0_thing_3 14 rfl rfl)
theorem dX0_thing_84 : decode cX0_thing 84 = .ok (.invokestatic 98, 3) := dk_184 0 98 (dk_at dksX0_thing_3 16 rfl rfl)
theorem dX0_thing_87 : decode cX0_thing 87 = .ok (.aload_n 0, 1) := dk_42 (dk_at dksX0_thing_3 19 rfl rfl)
theorem dX0_thing_88 : decode cX0_thing 88 = .ok (.getfield 81, 3) := dk_180 0 81 (dk_at dksX0_thing_3 20 rfl rfl)
theorem dX0_thing_91 : decode cX0_thing 91 = .ok (.getfield 184, 3) := dk_180 0 184 (dk_at dksX0_thing_4 0 rfl rfl)
theorem dX0_thing_94 : decode cX0_thing 94 = .ok (.bipush 8, 2) := dk_16 8 (dk_at dksX0_thing_4 3 rfl rfl)
theorem dX0_thing_96 : decode cX0_thing 96 = .ok (.if_icmp .ge 7, 3) := dk_162 0 7 (dk_at dksX0_thing_4 5 rfl rfl)
theorem dX0_thing_99 : decode cX0_thing 99 = .ok (.iconst 1, 1) := dk_4 (dk_at dksX0_thing_4 8 rfl rfl)
theorem dX0_thing_100 : decode cX0_thing 100 = .ok (.goto 4, 3) := dk_167 0 4 (dk_at dksX0_thing_4 9 rfl rfl)
theorem dX0_thing_103 : decode cX0_thing 103 = .ok (.iconst 0, 1) := dk_3 (dk_at dksX0_thing_4 12 rfl rfl)
theorem dX0_thing_104 : decode cX0_thing 104 = .ok (.bipush (-7), 2) := dk_16 249 (dk_at dksX0_thing_4 13 rfl rfl)
theorem dX0_thing_106 : decode cX0_thing 106 = .ok (.invokestatic 98, 3) := dk_184 0 98 (dk_at dksX0_thing_4 15 rfl rfl)
theorem dX0_thing_109 : decode cX0_thing 109 = .ok (.aload_n 0, 1) := dk_42 (dk_at dksX0_thing_4 18 rfl rfl)
theorem dX0_thing_110 : decode cX0_thing 110 = .ok (.getfield 81, 3) := dk_180 0 81 (dk_at dksX0_thing_4 19 rfl rfl)
theorem dX0_thing_113 : decode cX0_thing 113 = .ok (.iload_n 1, 1) := dk_27 (dk_at dksX0_thing_4 22 rfl rfl)
theorem dX0_thing_114 : decode cX0_thing 114 = .ok (.iload_n 2, 1) := dk_28 (dk_at dksX0_thing_4 23 rfl rfl)
theorem dX0_thing_115 : decode cX0_thing 115 = .ok (.iload_n 3, 1) := dk_29 (dk_at dksX0_thing_5 0 rfl rfl)
theorem dX0_thing_116 : decode cX0_thing 116 = .ok (.iload 4, 2) := dk_21 4 (dk_at dksX0_thing_5 1 rfl rfl)
theorem dX0_thing_118 : decode cX0_thing 118 = .ok (.iload 5, 2) := dk_21 5 (dk_at dksX0_thing_5 3 rfl rfl)
theorem dX0_thing_120 : decode cX0_thing 120 = .ok (.invokevirtual 187, 3) := dk_182 0 187 (dk_at dksX0_thing_5 5 rfl rfl)
theorem dX0_thing_123 : decode cX0_thing 123 = .ok (.ireturn, 1) := dk_172 (dk_at dksX0_thing_5 8 rfl rfl)
theorem dX0_thing_124 : decode cX0_thing 124 = .ok (.astore 6, 2) := dk_58 6 (dk_at dksX0_thing_5 9 rfl rfl)
theorem dX0_thing_126 : decode cX0_thing 126 = .ok (.aload_n 0, 1) := dk_42 (dk_at dksX0_thing_5 11 rfl rfl)
theorem dX0_thing_127 : decode cX0_thing 127 = .ok (.aload 6, 2) := dk_25 6 (dk_at dksX0_thing_5 12 rfl rfl)
theorem dX0_thing_129 : decode cX0_thing 129 = .ok (.invokevirtual 150, 3) := dk_182 0 150 (dk_at dksX0_thing_5 14 rfl rfl)
theorem dX0_thing_132 : decode cX0_thing 132 = .ok (.ireturn, 1) := dk_172 (dk_at dksX0_thing_5 17 rfl rfl)
abbrev cX0_thingOfKind : ByteArray := prog_1_method_4_code
def yX0_thingOfKind : MethodName := ⟨RX0, "thingOfKind", "(IIIII)LSeenByOne$Thing;"⟩
def dkwX0_thingOfKind_5 : List UInt8 := [28, 29, 21, 4, 183, 0, 46, 176, 187, 0, 47, 89, 27, 28, 29, 21, 4, 183, 0, 49, 176]
abbrev dktX0_thingOfKind_5 : List UInt8 := dkwX0_thingOfKind_5 ++ []
def dkwX0_thingOfKind_4 : List UInt8 := [21, 4, 183, 0, 40, 176, 187, 0, 41, 89, 27, 28, 29, 21, 4, 183, 0, 43, 176, 187, 0, 44, 89, 27]
abbrev dktX0_thingOfKind_4 : List UInt8 := dkwX0_thingOfKind_4 ++ dktX0_thingOfKind_5
def dkwX0_thingOfKind_3 : List UInt8 := [183, 0, 34, 176, 187, 0, 35, 89, 27, 28, 29, 21, 4, 183, 0, 37, 176, 187, 0, 38, 89, 27, 28, 29]
abbrev dktX0_thingOfKind_3 : List UInt8 := dkwX0_thingOfKind_3 ++ dktX0_thingOfKind_4
def dkwX0_thingOfKind_2 : List UInt8 := [187, 0, 27, 89, 27, 28, 29, 21, 4, 183, 0, 29, 176, 187, 0, 32, 89, 27, 28, 29, 21, 4]
abbrev dktX0_thingOfKind_2 : List UInt8 := dkwX0_thingOfKind_2 ++ dktX0_thingOfKind_3
def dkwX0_thingOfKind_1 : List UInt8 := [170, 0, 0, 0, 0, 0, 117, 0, 0, 0, 1, 0, 0, 0, 6, 0, 0, 0, 39, 0, 0, 0, 52, 0, 0, 0, 65, 0, 0, 0, 78, 0, 0, 0, 91, 0, 0, 0, 104]
abbrev dktX0_thingOfKind_1 : List UInt8 := dkwX0_thingOfKind_1 ++ dktX0_thingOfKind_2
def dkwX0_thingOfKind_0 : List UInt8 := [26]
abbrev dktX0_thingOfKind_0 : List UInt8 := dkwX0_thingOfKind_0 ++ dktX0_thingOfKind_1
theorem dksX0_thingOfKind_0 : cX0_thingOfKind.data.toList.drop 0 = dktX0_thingOfKind_0 := by decide +kernel
theorem dksX0_thingOfKind_1 : cX0_thingOfKind.data.toList.drop 1 = dktX0_thingOfKind_1 := dk_seg dksX0_thingOfKind_0 1 rfl rfl
theorem dksX0_thingOfKind_2 : cX0_thingOfKind.data.toList.drop 40 = dktX0_thingOfKind_2 := dk_seg dksX0_thingOfKind_1 39 rfl rfl
theorem dksX0_thingOfKind_3 : cX0_thingOfKind.data.toList.drop 62 = dktX0_thingOfKind_3 := dk_seg dksX0_thingOfKind_2 22 rfl rfl
theorem dksX0_thingOfKind_4 : cX0_thingOfKind.data.toList.drop 86 = dktX0_thingOfKind_4 := dk_seg dksX0_thingOfKind_3 24 rfl rfl
theorem dksX0_thingOfKind_5 : cX0_thingOfKind.data.toList.drop 110 = dktX0_thingOfKind_5 := dk_seg dksX0_thingOfKind_4 24 rfl rfl
theorem dX0_thingOfKind_0 : decode cX0_thingOfKind 0 = .ok (.iload_n 0, 1) := dk_26 (dk_at dksX0_thingOfKind_0 0 rfl rfl)
theorem dX0_thingOfKind_1 : decode cX0_thingOfKind 1 = .ok (.tableswitch 117 1 6 #[39, 52, 65, 78, 91, 104], 39) := by decide +kernel
theorem dX0_thingOfKind_40 : decode cX0_thingOfKind 40 = .ok (.new 27, 3) := dk_187 0 27 (dk_at dksX0_thingOfKind_2 0 rfl rfl)
theorem dX0_thingOfKind_43 : decode cX0_thingOfKind 43 = .ok (.dup, 1) := dk_89 (dk_at dksX0_thingOfKind_2 3 rfl rfl)
theorem dX0_thingOfKind_44 : decode cX0_thingOfKind 44 = .ok (.iload_n 1, 1) := dk_27 (dk_at dksX0_thingOfKind_2 4 rfl rfl)
theorem dX0_thingOfKind_45 : decode cX0_thingOfKind 45 = .ok (.iload_n 2, 1) := dk_28 (dk_at dksX0_thingOfKind_2 5 rfl rfl)
theorem dX0_thingOfKind_46 : decode cX0_thingOfKind 46 = .ok (.iload_n 3, 1) := dk_29 (dk_at dksX0_thingOfKind_2 6 rfl rfl)
theorem dX0_thingOfKind_47 : decode cX0_thingOfKind 47 = .ok (.iload 4, 2) := dk_21 4 (dk_at dksX0_thingOfKind_2 7 rfl rfl)
theorem dX0_thingOfKind_49 : decode cX0_thingOfKind 49 = .ok (.invokespecial 29, 3) := dk_183 0 29 (dk_at dksX0_thingOfKind_2 9 rfl rfl)
theorem dX0_thingOfKind_52 : decode cX0_thingOfKind 52 = .ok (.areturn, 1) := dk_176 (dk_at dksX0_thingOfKind_2 12 rfl rfl)
theorem dX0_thingOfKind_53 : decode cX0_thingOfKind 53 = .ok (.new 32, 3) := dk_187 0 32 (dk_at dksX0_thingOfKind_2 13 rfl rfl)
theorem dX0_thingOfKind_56 : decode cX0_thingOfKind 56 = .ok (.dup, 1) := dk_89 (dk_at dksX0_thingOfKind_2 16 rfl rfl)
theorem dX0_thingOfKind_57 : decode cX0_thingOfKind 57 = .ok (.iload_n 1, 1) := dk_27 (dk_at dksX0_thingOfKind_2 17 rfl rfl)
theorem dX0_thingOfKind_58 : decode cX0_thingOfKind 58 = .ok (.iload_n 2, 1) := dk_28 (dk_at dksX0_thingOfKind_2 18 rfl rfl)
theorem dX0_thingOfKind_59 : decode cX0_thingOfKind 59 = .ok (.iload_n 3, 1) := dk_29 (dk_at dksX0_thingOfKind_2 19 rfl rfl)
theorem dX0_thingOfKind_60 : decode cX0_thingOfKind 60 = .ok (.iload 4, 2) := dk_21 4 (dk_at dksX0_thingOfKind_2 20 rfl rfl)
theorem dX0_thingOfKind_62 : decode cX0_thingOfKind 62 = .ok (.invokespecial 34, 3) := dk_183 0 34 (dk_at dksX0_thingOfKind_3 0 rfl rfl)
theorem dX0_thingOfKind_65 : decode cX0_thingOfKind 65 = .ok (.areturn, 1) := dk_176 (dk_at dksX0_thingOfKind_3 3 rfl rfl)
theorem dX0_thingOfKind_66 : decode cX0_thingOfKind 66 = .ok (.new 35, 3) := dk_187 0 35 (dk_at dksX0_thingOfKind_3 4 rfl rfl)
theorem dX0_thingOfKind_69 : decode cX0_thingOfKind 69 = .ok (.dup, 1) := dk_89 (dk_at dksX0_thingOfKind_3 7 rfl rfl)
theorem dX0_thingOfKind_70 : decode cX0_thingOfKind 70 = .ok (.iload_n 1, 1) := dk_27 (dk_at dksX0_thingOfKind_3 8 rfl rfl)
theorem dX0_thingOfKind_71 : decode cX0_thingOfKind 71 = .ok (.iload_n 2, 1) := dk_28 (dk_at dksX0_thingOfKind_3 9 rfl rfl)
theorem dX0_thingOfKind_72 : decode cX0_thingOfKind 72 = .ok (.iload_n 3, 1) := dk_29 (dk_at dksX0_thingOfKind_3 10 rfl rfl)
theorem dX0_thingOfKind_73 : decode cX0_thingOfKind 73 = .ok (.iload 4, 2) := dk_21 4 (dk_at dksX0_thingOfKind_3 11 rfl rfl)
theorem dX0_thingOfKind_75 : decode cX0_thingOfKind 75 = .ok (.invokespecial 37, 3) := dk_183 0 37 (dk_at dksX0_thingOfKind_3 13 rfl rfl)
theorem dX0_thingOfKind_78 : decode cX0_thingOfKind 78 = .ok (.areturn, 1) := dk_176 (dk_at dksX0_thingOfKind_3 16 rfl rfl)
theorem dX0_thingOfKind_79 : decode cX0_thingOfKind 79 = .ok (.new 38, 3) := dk_187 0 38 (dk_at dksX0_thingOfKind_3 17 rfl rfl)
theorem dX0_thingOfKind_82 : decode cX0_thingOfKind 82 = .ok (.dup, 1) := dk_89 (dk_at dksX0_thingOfKind_3 20 rfl rfl)
theorem dX0_thingOfKind_83 : decode cX0_thingOfKind 83 = .ok (.iload_n 1, 1) := dk_27 (dk_at dksX0_thingOfKind_3 21 rfl rfl)
theorem dX0_thingOfKind_84 : decode cX0_thingOfKind 84 = .ok (.iload_n 2, 1) := dk_28 (dk_at dksX0_thingOfKind_3 22 rfl rfl)
theorem dX0_thingOfKind_85 : decode cX0_thingOfKind 85 = .ok (.iload_n 3, 1) := dk_29 (dk_at dksX0_thingOfKind_3 23 rfl rfl)
theorem dX0_thingOfKind_86 : decode cX0_thingOfKind 86 = .ok (.iload 4, 2) := dk_21 4 (dk_at dksX0_thingOfKind_4 0 rfl rfl)
theorem dX0_thingOfKind_88 : decode cX0_thingOfKind 88 = .ok (.invokespecial 40, 3) := dk_183 0 40 (dk_at dksX0_thingOfKind_4 2 rfl rfl)
theorem dX0_thingOfKind_91 : decode cX0_thingOfKind 91 = .ok (.areturn, 1) := dk_176 (dk_at dksX0_thingOfKind_4 5 rfl rfl)
theorem dX0_thingOfKind_92 : decode cX0_thingOfKind 92 = .ok (.new 41, 3) := dk_187 0 41 (dk_at dksX0_thingOfKind_4 6 rfl rfl)
theorem dX0_thingOfKind_95 : decode cX0_thingOfKind 95 = .ok (.dup, 1) := dk_89 (dk_at dksX0_thingOfKind_4 9 rfl rfl)
theorem dX0_thingOfKind_96 : decode cX0_thingOfKind 96 = .ok (.iload_n 1, 1) := dk_27 (dk_at dksX0_thingOfKind_4 10 rfl rfl)
theorem dX0_thingOfKind_97 : decode cX0_thingOfKind 97 = .ok (.iload_n 2, 1) := dk_28 (dk_at dksX0_thingOfKind_4 11 rfl rfl)
theorem dX0_thingOfKind_98 : decode cX0_thingOfKind 98 = .ok (.iload_n 3, 1) := dk_29 (dk_at dksX0_thingOfKind_4 12 rfl rfl)
theorem dX0_thingOfKind_99 : decode cX0_thingOfKind 99 = .ok (.iload 4, 2) := dk_21 4 (dk_at dksX0_thingOfKind_4 13 rfl rfl)
theorem dX0_thingOfKind_101 : decode cX0_thingOfKind 101 = .ok (.invokespecial 43, 3) := dk_183 0 43 (dk_at dksX0_thingOfKind_4 15 rfl rfl)
theorem dX0_thingOfKind_104 : decode cX0_thingOfKind 104 = .ok (.areturn, 1) := dk_176 (dk_at dksX0_thingOfKind_4 18 rfl rfl)
theorem dX0_thingOfKind_105 : decode cX0_thingOfKind 105 = .ok (.new 44, 3) := dk_187 0 44 (dk_at dksX0_thingOfKind_4 19 rfl rfl)
theorem dX0_thingOfKind_108 : decode cX0_thingOfKind 108 = .ok (.dup, 1) := dk_89 (dk_at dksX0_thingOfKind_4 22 rfl rfl)
theorem dX0_thingOfKind_109 : decode cX0_thingOfKind 109 = .ok (.iload_n 1, 1) := dk_27 (dk_at dksX0_thingOfKind_4 23 rfl rfl)
theorem dX0_thingOfKind_110 : decode cX0_thingOfKind 110 = .ok (.iload_n 2, 1) := dk_28 (dk_at dksX0_thingOfKind_5 0 rfl rfl)
theorem dX0_thingOfKind_111 : decode cX0_thingOfKind 111 = .ok (.iload_n 3, 1) := dk_29 (dk_at dksX0_thingOfKind_5 1 rfl rfl)
theorem dX0_thingOfKind_112 : decode cX0_thingOfKind 112 = .ok (.iload 4, 2) := dk_21 4 (dk_at dksX0_thingOfKind_5 2 rfl rfl)
theorem dX0_thingOfKind_114 : decode cX0_thingOfKind 114 = .ok (.invokespecial 46, 3) := dk_183 0 46 (dk_at dksX0_thingOfKind_5 4 rfl rfl)
theorem dX0_thingOfKind_117 : decode cX0_thingOfKind 117 = .ok (.areturn, 1) := dk_176 (dk_at dksX0_thingOfKind_5 7 rfl rfl)
theorem dX0_thingOfKind_118 : decode cX0_thingOfKind 118 = .ok (.new 47, 3) := dk_187 0 47 (dk_at dksX0_thingOfKind_5 8 rfl rfl)
theorem dX0_thingOfKind_121 : decode cX0_thingOfKind 121 = .ok (.dup, 1) := dk_89 (dk_at dksX0_thingOfKind_5 11 rfl rfl)
theorem dX0_thingOfKind_122 : decode cX0_thingOfKind 122 = .ok (.iload_n 1, 1) := dk_27 (dk_at dksX0_thingOfKind_5 12 rfl rfl)
theorem dX0_thingOfKind_123 : decode cX0_thingOfKind 123 = .ok (.iload_n 2, 1) := dk_28 (dk_at dksX0_thingOfKind_5 13 rfl rfl)
theorem dX0_thingOfKind_124 : decode cX0_thingOfKind 124 = .ok (.iload_n 3, 1) := dk_29 (dk_at dksX0_thingOfKind_5 14 rfl rfl)
theorem dX0_thingOfKind_125 : decode cX0_thingOfKind 125 = .ok (.iload 4, 2) := dk_21 4 (dk_at dksX0_thingOfKind_5 15 rfl rfl)
theorem dX0_thingOfKind_127 : decode cX0_thingOfKind 127 = .ok (.invokespecial 49, 3) := dk_183 0 49 (dk_at dksX0_thingOfKind_5 17 rfl rfl)
theorem dX0_thingOfKind_130 : decode cX0_thingOfKind 130 = .ok (.areturn, 1) := dk_176 (dk_at dksX0_thingOfKind_5 20 rfl rfl)
abbrev cX0_thingOf : ByteArray := prog_1_method_22_code
def yX0_thingOf : MethodName := ⟨RX0, "thingOf", "(II)I"⟩
def dkwX0_thingOf_5 : List UInt8 := [4, 126, 172, 42, 182, 0, 191, 172]
abbrev dktX0_thingOf_5 : List UInt8 := dkwX0_thingOf_5 ++ []
def dkwX0_thingOf_4 : List UInt8 := [172, 45, 180, 0, 206, 172, 42, 180, 0, 81, 27, 182, 0, 209, 172, 42, 180, 0, 81, 180, 0, 213, 27, 122]
abbrev dktX0_thingOf_4 : List UInt8 := dkwX0_thingOf_4 ++ dktX0_thingOf_5
def dkwX0_thingOf_3 : List UInt8 := [45, 182, 0, 194, 172, 45, 180, 0, 197, 172, 45, 180, 0, 200, 172, 42, 180, 0, 81, 180, 0, 203, 27, 46]
abbrev dktX0_thingOf_3 : List UInt8 := dkwX0_thingOf_3 ++ dktX0_thingOf_4
def dkwX0_thingOf_2 : List UInt8 := [170, 0, 0, 0, 92, 0, 0, 0, 0, 0, 0, 0, 6, 0, 0, 0, 41, 0, 0, 0, 46, 0, 0, 0, 51, 0, 0, 0, 56, 0, 0, 0, 66, 0, 0, 0, 71, 0, 0, 0, 80]
abbrev dktX0_thingOf_2 : List UInt8 := dkwX0_thingOf_2 ++ dktX0_thingOf_3
def dkwX0_thingOf_1 : List UInt8 := [50, 78, 28]
abbrev dktX0_thingOf_1 : List UInt8 := dkwX0_thingOf_1 ++ dktX0_thingOf_2
def dkwX0_thingOf_0 : List UInt8 := [42, 180, 0, 81, 27, 182, 0, 94, 154, 0, 8, 42, 182, 0, 191, 172, 42, 180, 0, 81, 180, 0, 118, 27]
abbrev dktX0_thingOf_0 : List UInt8 := dkwX0_thingOf_0 ++ dktX0_thingOf_1
theorem dksX0_thingOf_0 : cX0_thingOf.data.toList.drop 0 = dktX0_thingOf_0 := by decide +kernel
theorem dksX0_thingOf_1 : cX0_thingOf.data.toList.drop 24 = dktX0_thingOf_1 := dk_seg dksX0_thingOf_0 24 rfl rfl
theorem dksX0_thingOf_2 : cX0_thingOf.data.toList.drop 27 = dktX0_thingOf_2 := dk_seg dksX0_thingOf_1 3 rfl rfl
theorem dksX0_thingOf_3 : cX0_thingOf.data.toList.drop 68 = dktX0_thingOf_3 := dk_seg dksX0_thingOf_2 41 rfl rfl
theorem dksX0_thingOf_4 : cX0_thingOf.data.toList.drop 92 = dktX0_thingOf_4 := dk_seg dksX0_thingOf_3 24 rfl rfl
theorem dksX0_thingOf_5 : cX0_thingOf.data.toList.drop 116 = dktX0_thingOf_5 := dk_seg dksX0_thingOf_4 24 rfl rfl
theorem dX0_thingOf_0 : decode cX0_thingOf 0 = .ok (.aload_n 0, 1) := dk_42 (dk_at dksX0_thingOf_0 0 rfl rfl)
theorem dX0_thingOf_1 : decode cX0_thingOf 1 = .ok (.getfield 81, 3) := dk_180 0 81 (dk_at dksX0_thingOf_0 1 rfl rfl)
theorem dX0_thingOf_4 : decode cX0_thingOf 4 = .ok (.iload_n 1, 1) := dk_27 (dk_at dksX0_thingOf_0 4 rfl rfl)
theorem dX0_thingOf_5 : decode cX0_thingOf 5 = .ok (.invokevirtual 94, 3) := dk_182 0 94 (dk_at dksX0_thingOf_0 5 rfl rfl)
theorem dX0_thingOf_8 : decode cX0_thingOf 8 = .ok (.ifCond .ne 8, 3) := dk_154 0 8 (dk_at dksX0_thingOf_0 8 rfl rfl)
theorem dX0_thingOf_11 : decode cX0_thingOf 11 = .ok (.aload_n 0, 1) := dk_42 (dk_at dksX0_thingOf_0 11 rfl rfl)
theorem dX0_thingOf_12 : decode cX0_thingOf 12 = .ok (.invokevirtual 191, 3) := dk_182 0 191 (dk_at dksX0_thingOf_0 12 rfl rfl)
theorem dX0_thingOf_15 : decode cX0_thingOf 15 = .ok (.ireturn, 1) := dk_172 (dk_at dksX0_thingOf_0 15 rfl rfl)
theorem dX0_thingOf_16 : decode cX0_thingOf 16 = .ok (.aload_n 0, 1) := dk_42 (dk_at dksX0_thingOf_0 16 rfl rfl)
theorem dX0_thingOf_17 : decode cX0_thingOf 17 = .ok (.getfield 81, 3) := dk_180 0 81 (dk_at dksX0_thingOf_0 17 rfl rfl)
theorem dX0_thingOf_20 : decode cX0_thingOf 20 = .ok (.getfield 118, 3) := dk_180 0 118 (dk_at dksX0_thingOf_0 20 rfl rfl)
theorem dX0_thingOf_23 : decode cX0_thingOf 23 = .ok (.iload_n 1, 1) := dk_27 (dk_at dksX0_thingOf_0 23 rfl rfl)
theorem dX0_thingOf_24 : decode cX0_thingOf 24 = .ok (.aaload, 1) := dk_50 (dk_at dksX0_thingOf_1 0 rfl rfl)
theorem dX0_thingOf_25 : decode cX0_thingOf 25 = .ok (.astore_n 3, 1) := dk_78 (dk_at dksX0_thingOf_1 1 rfl rfl)
theorem dX0_thingOf_26 : decode cX0_thingOf 26 = .ok (.iload_n 2, 1) := dk_28 (dk_at dksX0_thingOf_1 2 rfl rfl)
theorem dX0_thingOf_27 : decode cX0_thingOf 27 = .ok (.tableswitch 92 0 6 #[41, 46, 51, 56, 66, 71, 80], 41) := by decide +kernel
theorem dX0_thingOf_68 : decode cX0_thingOf 68 = .ok (.aload_n 3, 1) := dk_45 (dk_at dksX0_thingOf_3 0 rfl rfl)
theorem dX0_thingOf_69 : decode cX0_thingOf 69 = .ok (.invokevirtual 194, 3) := dk_182 0 194 (dk_at dksX0_thingOf_3 1 rfl rfl)
theorem dX0_thingOf_72 : decode cX0_thingOf 72 = .ok (.ireturn, 1) := dk_172 (dk_at dksX0_thingOf_3 4 rfl rfl)
theorem dX0_thingOf_73 : decode cX0_thingOf 73 = .ok (.aload_n 3, 1) := dk_45 (dk_at dksX0_thingOf_3 5 rfl rfl)
theorem dX0_thingOf_74 : decode cX0_thingOf 74 = .ok (.getfield 197, 3) := dk_180 0 197 (dk_at dksX0_thingOf_3 6 rfl rfl)
theorem dX0_thingOf_77 : decode cX0_thingOf 77 = .ok (.ireturn, 1) := dk_172 (dk_at dksX0_thingOf_3 9 rfl rfl)
theorem dX0_thingOf_78 : decode cX0_thingOf 78 = .ok (.aload_n 3, 1) := dk_45 (dk_at dksX0_thingOf_3 10 rfl rfl)
theorem dX0_thingOf_79 : decode cX0_thingOf 79 = .ok (.getfield 200, 3) := dk_180 0 200 (dk_at dksX0_thingOf_3 11 rfl rfl)
theorem dX0_thingOf_82 : decode cX0_thingOf 82 = .ok (.ireturn, 1) := dk_172 (dk_at dksX0_thingOf_3 14 rfl rfl)
theorem dX0_thingOf_83 : decode cX0_thingOf 83 = .ok (.aload_n 0, 1) := dk_42 (dk_at dksX0_thingOf_3 15 rfl rfl)
theorem dX0_thingOf_84 : decode cX0_thingOf 84 = .ok (.getfield 81, 3) := dk_180 0 81 (dk_at dksX0_thingOf_3 16 rfl rfl)
theorem dX0_thingOf_87 : decode cX0_thingOf 87 = .ok (.getfield 203, 3) := dk_180 0 203 (dk_at dksX0_thingOf_3 19 rfl rfl)
theorem dX0_thingOf_90 : decode cX0_thingOf 90 = .ok (.iload_n 1, 1) := dk_27 (dk_at dksX0_thingOf_3 22 rfl rfl)
theorem dX0_thingOf_91 : decode cX0_thingOf 91 = .ok (.iaload, 1) := dk_46 (dk_at dksX0_thingOf_3 23 rfl rfl)
theorem dX0_thingOf_92 : decode cX0_thingOf 92 = .ok (.ireturn, 1) := dk_172 (dk_at dksX0_thingOf_4 0 rfl rfl)
theorem dX0_thingOf_93 : decode cX0_thingOf 93 = .ok (.aload_n 3, 1) := dk_45 (dk_at dksX0_thingOf_4 1 rfl rfl)
theorem dX0_thingOf_94 : decode cX0_thingOf 94 = .ok (.getfield 206, 3) := dk_180 0 206 (dk_at dksX0_thingOf_4 2 rfl rfl)
theorem dX0_thingOf_97 : decode cX0_thingOf 97 = .ok (.ireturn, 1) := dk_172 (dk_at dksX0_thingOf_4 5 rfl rfl)
theorem dX0_thingOf_98 : decode cX0_thingOf 98 = .ok (.aload_n 0, 1) := dk_42 (dk_at dksX0_thingOf_4 6 rfl rfl)
theorem dX0_thingOf_99 : decode cX0_thingOf 99 = .ok (.getfield 81, 3) := dk_180 0 81 (dk_at dksX0_thingOf_4 7 rfl rfl)
theorem dX0_thingOf_102 : decode cX0_thingOf 102 = .ok (.iload_n 1, 1) := dk_27 (dk_at dksX0_thingOf_4 10 rfl rfl)
theorem dX0_thingOf_103 : decode cX0_thingOf 103 = .ok (.invokevirtual 209, 3) := dk_182 0 209 (dk_at dksX0_thingOf_4 11 rfl rfl)
theorem dX0_thingOf_106 : decode cX0_thingOf 106 = .ok (.ireturn, 1) := dk_172 (dk_at dksX0_thingOf_4 14 rfl rfl)
theorem dX0_thingOf_107 : decode cX0_thingOf 107 = .ok (.aload_n 0, 1) := dk_42 (dk_at dksX0_thingOf_4 15 rfl rfl)
theorem dX0_thingOf_108 : decode cX0_thingOf 108 = .ok (.getfield 81, 3) := dk_180 0 81 (dk_at dksX0_thingOf_4 16 rfl rfl)
theorem dX0_thingOf_111 : decode cX0_thingOf 111 = .ok (.getfield 213, 3) := dk_180 0 213 (dk_at dksX0_thingOf_4 19 rfl rfl)
theorem dX0_thingOf_114 : decode cX0_thingOf 114 = .ok (.iload_n 1, 1) := dk_27 (dk_at dksX0_thingOf_4 22 rfl rfl)
theorem dX0_thingOf_115 : decode cX0_thingOf 115 = .ok (.ishr, 1) := dk_122 (dk_at dksX0_thingOf_4 23 rfl rfl)
theorem dX0_thingOf_116 : decode cX0_thingOf 116 = .ok (.iconst 1, 1) := dk_4 (dk_at dksX0_thingOf_5 0 rfl rfl)
theorem dX0_thingOf_117 : decode cX0_thingOf 117 = .ok (.iand, 1) := dk_126 (dk_at dksX0_thingOf_5 1 rfl rfl)
theorem dX0_thingOf_118 : decode cX0_thingOf 118 = .ok (.ireturn, 1) := dk_172 (dk_at dksX0_thingOf_5 2 rfl rfl)
theorem dX0_thingOf_119 : decode cX0_thingOf 119 = .ok (.aload_n 0, 1) := dk_42 (dk_at dksX0_thingOf_5 3 rfl rfl)
theorem dX0_thingOf_120 : decode cX0_thingOf 120 = .ok (.invokevirtual 191, 3) := dk_182 0 191 (dk_at dksX0_thingOf_5 4 rfl rfl)
theorem dX0_thingOf_123 : decode cX0_thingOf 123 = .ok (.ireturn, 1) := dk_172 (dk_at dksX0_thingOf_5 7 rfl rfl)
abbrev cX0_beyond : ByteArray := prog_1_method_7_code
def yX0_beyond : MethodName := ⟨RX0, "beyond", "()I"⟩
def dkwX0_beyond_0 : List UInt8 := [42, 180, 0, 63, 8, 92, 46, 4, 96, 79, 16, 251, 172]
abbrev dktX0_beyond_0 : List UInt8 := dkwX0_beyond_0 ++ []
theorem dksX0_beyond_0 : cX0_beyond.data.toList.drop 0 = dktX0_beyond_0 := by decide +kernel
theorem dX0_beyond_0 : decode cX0_beyond 0 = .ok (.aload_n 0, 1) := dk_42 (dk_at dksX0_beyond_0 0 rfl rfl)
theorem dX0_beyond_1 : decode cX0_beyond 1 = .ok (.getfield 63, 3) := dk_180 0 63 (dk_at dksX0_beyond_0 1 rfl rfl)
theorem dX0_beyond_4 : decode cX0_beyond 4 = .ok (.iconst 5, 1) := dk_8 (dk_at dksX0_beyond_0 4 rfl rfl)
theorem dX0_beyond_5 : decode cX0_beyond 5 = .ok (.dup2, 1) := dk_92 (dk_at dksX0_beyond_0 5 rfl rfl)
theorem dX0_beyond_6 : decode cX0_beyond 6 = .ok (.iaload, 1) := dk_46 (dk_at dksX0_beyond_0 6 rfl rfl)
theorem dX0_beyond_7 : decode cX0_beyond 7 = .ok (.iconst 1, 1) := dk_4 (dk_at dksX0_beyond_0 7 rfl rfl)
theorem dX0_beyond_8 : decode cX0_beyond 8 = .ok (.iadd, 1) := dk_96 (dk_at dksX0_beyond_0 8 rfl rfl)
theorem dX0_beyond_9 : decode cX0_beyond 9 = .ok (.iastore, 1) := dk_79 (dk_at dksX0_beyond_0 9 rfl rfl)
theorem dX0_beyond_10 : decode cX0_beyond 10 = .ok (.bipush (-5), 2) := dk_16 251 (dk_at dksX0_beyond_0 10 rfl rfl)
theorem dX0_beyond_12 : decode cX0_beyond 12 = .ok (.ireturn, 1) := dk_172 (dk_at dksX0_beyond_0 12 rfl rfl)
abbrev cX0_height : ByteArray := prog_1_method_23_code
def yX0_height : MethodName := ⟨RX0, "height", "(II)I"⟩
def dkwX0_height_2 : List UInt8 := [172]
abbrev dktX0_height_2 : List UInt8 := dkwX0_height_2 ++ []
def dkwX0_height_1 : List UInt8 := [180, 0, 203, 27, 46, 62, 42, 180, 0, 81, 180, 0, 203, 27, 28, 79, 29, 172, 78, 42, 45, 182, 0, 150]
abbrev dktX0_height_1 : List UInt8 := dkwX0_height_1 ++ dktX0_height_2
def dkwX0_height_0 : List UInt8 := [42, 27, 182, 0, 102, 28, 133, 9, 20, 0, 178, 184, 0, 142, 16, 250, 184, 0, 98, 42, 180, 0, 81]
abbrev dktX0_height_0 : List UInt8 := dkwX0_height_0 ++ dktX0_height_1
theorem dksX0_height_0 : cX0_height.data.toList.drop 0 = dktX0_height_0 := by decide +kernel
theorem dksX0_height_1 : cX0_height.data.toList.drop 23 = dktX0_height_1 := dk_seg dksX0_height_0 23 rfl rfl
theorem dksX0_height_2 : cX0_height.data.toList.drop 47 = dktX0_height_2 := dk_seg dksX0_height_1 24 rfl rfl
theorem dX0_height_0 : decode cX0_height 0 = .ok (.aload_n 0, 1) := dk_42 (dk_at dksX0_height_0 0 rfl rfl)
theorem dX0_height_1 : decode cX0_height 1 = .ok (.iload_n 1, 1) := dk_27 (dk_at dksX0_height_0 1 rfl rfl)
theorem dX0_height_2 : decode cX0_height 2 = .ok (.invokevirtual 102, 3) := dk_182 0 102 (dk_at dksX0_height_0 2 rfl rfl)
theorem dX0_height_5 : decode cX0_height 5 = .ok (.iload_n 2, 1) := dk_28 (dk_at dksX0_height_0 5 rfl rfl)
theorem dX0_height_6 : decode cX0_height 6 = .ok (.i2l, 1) := dk_133 (dk_at dksX0_height_0 6 rfl rfl)
theorem dX0_height_7 : decode cX0_height 7 = .ok (.lconst 0, 1) := dk_9 (dk_at dksX0_height_0 7 rfl rfl)
theorem dX0_height_8 : decode cX0_height 8 = .ok (.ldc2_w 178, 3) := dk_20 0 178 (dk_at dksX0_height_0 8 rfl rfl)
theorem dX0_height_11 : decode cX0_height 11 = .ok (.invokestatic 142, 3) := dk_184 0 142 (dk_at dksX0_height_0 11 rfl rfl)
theorem dX0_height_14 : decode cX0_height 14 = .ok (.bipush (-6), 2) := dk_16 250 (dk_at dksX0_height_0 14 rfl rfl)
theorem dX0_height_16 : decode cX0_height 16 = .ok (.invokestatic 98, 3) := dk_184 0 98 (dk_at dksX0_height_0 16 rfl rfl)
theorem dX0_height_19 : decode cX0_height 19 = .ok (.aload_n 0, 1) := dk_42 (dk_at dksX0_height_0 19 rfl rfl)
theorem dX0_height_20 : decode cX0_height 20 = .ok (.getfield 81, 3) := dk_180 0 81 (dk_at dksX0_height_0 20 rfl rfl)
theorem dX0_height_23 : decode cX0_height 23 = .ok (.getfield 203, 3) := dk_180 0 203 (dk_at dksX0_height_1 0 rfl rfl)
theorem dX0_height_26 : decode cX0_height 26 = .ok (.iload_n 1, 1) := dk_27 (dk_at dksX0_height_1 3 rfl rfl)
theorem dX0_height_27 : decode cX0_height 27 = .ok (.iaload, 1) := dk_46 (dk_at dksX0_height_1 4 rfl rfl)
theorem dX0_height_28 : decode cX0_height 28 = .ok (.istore_n 3, 1) := dk_62 (dk_at dksX0_height_1 5 rfl rfl)
theorem dX0_height_29 : decode cX0_height 29 = .ok (.aload_n 0, 1) := dk_42 (dk_at dksX0_height_1 6 rfl rfl)
theorem dX0_height_30 : decode cX0_height 30 = .ok (.getfield 81, 3) := dk_180 0 81 (dk_at dksX0_height_1 7 rfl rfl)
theorem dX0_height_33 : decode cX0_height 33 = .ok (.getfield 203, 3) := dk_180 0 203 (dk_at dksX0_height_1 10 rfl rfl)
theorem dX0_height_36 : decode cX0_height 36 = .ok (.iload_n 1, 1) := dk_27 (dk_at dksX0_height_1 13 rfl rfl)
theorem dX0_height_37 : decode cX0_height 37 = .ok (.iload_n 2, 1) := dk_28 (dk_at dksX0_height_1 14 rfl rfl)
theorem dX0_height_38 : decode cX0_height 38 = .ok (.iastore, 1) := dk_79 (dk_at dksX0_height_1 15 rfl rfl)
theorem dX0_height_39 : decode cX0_height 39 = .ok (.iload_n 3, 1) := dk_29 (dk_at dksX0_height_1 16 rfl rfl)
theorem dX0_height_40 : decode cX0_height 40 = .ok (.ireturn, 1) := dk_172 (dk_at dksX0_height_1 17 rfl rfl)
theorem dX0_height_41 : decode cX0_height 41 = .ok (.astore_n 3, 1) := dk_78 (dk_at dksX0_height_1 18 rfl rfl)
theorem dX0_height_42 : decode cX0_height 42 = .ok (.aload_n 0, 1) := dk_42 (dk_at dksX0_height_1 19 rfl rfl)
theorem dX0_height_43 : decode cX0_height 43 = .ok (.aload_n 3, 1) := dk_45 (dk_at dksX0_height_1 20 rfl rfl)
theorem dX0_height_44 : decode cX0_height 44 = .ok (.invokevirtual 150, 3) := dk_182 0 150 (dk_at dksX0_height_1 21 rfl rfl)
theorem dX0_height_47 : decode cX0_height 47 = .ok (.ireturn, 1) := dk_172 (dk_at dksX0_height_2 0 rfl rfl)
abbrev cX0_ask : ByteArray := prog_1_method_24_code
def yX0_ask : MethodName := ⟨RX0, "ask", "(II)I"⟩
def dkwX0_ask_4 : List UInt8 := [181, 0, 220, 29, 172, 78, 42, 45, 182, 0, 150, 172]
abbrev dktX0_ask_4 : List UInt8 := dkwX0_ask_4 ++ []
def dkwX0_ask_3 : List UInt8 := [4, 167, 0, 4, 3, 181, 0, 216, 167, 0, 19, 42, 180, 0, 81, 180, 0, 220, 62, 42, 180, 0, 81, 28]
abbrev dktX0_ask_3 : List UInt8 := dkwX0_ask_3 ++ dktX0_ask_4
def dkwX0_ask_2 : List UInt8 := [180, 0, 81, 180, 0, 216, 153, 0, 7, 4, 167, 0, 4, 3, 62, 42, 180, 0, 81, 28, 4, 160, 0, 7]
abbrev dktX0_ask_2 : List UInt8 := dkwX0_ask_2 ++ dktX0_ask_3
def dkwX0_ask_1 : List UInt8 := [20, 0, 176, 184, 0, 142, 153, 0, 7, 4, 167, 0, 4, 3, 16, 250, 184, 0, 98, 27, 154, 0, 39, 42]
abbrev dktX0_ask_1 : List UInt8 := dkwX0_ask_1 ++ dktX0_ask_2
def dkwX0_ask_0 : List UInt8 := [27, 133, 9, 10, 184, 0, 142, 153, 0, 28, 28, 133, 27, 133, 27, 154, 0, 7, 10, 167, 0, 6]
abbrev dktX0_ask_0 : List UInt8 := dkwX0_ask_0 ++ dktX0_ask_1
theorem dksX0_ask_0 : cX0_ask.data.toList.drop 0 = dktX0_ask_0 := by decide +kernel
theorem dksX0_ask_1 : cX0_ask.data.toList.drop 22 = dktX0_ask_1 := dk_seg dksX0_ask_0 22 rfl rfl
theorem dksX0_ask_2 : cX0_ask.data.toList.drop 46 = dktX0_ask_2 := dk_seg dksX0_ask_1 24 rfl rfl
theorem dksX0_ask_3 : cX0_ask.data.toList.drop 70 = dktX0_ask_3 := dk_seg dksX0_ask_2 24 rfl rfl
theorem dksX0_ask_4 : cX0_ask.data.toList.drop 94 = dktX0_ask_4 := dk_seg dksX0_ask_3 24 rfl rfl
theorem dX0_ask_0 : decode cX0_ask 0 = .ok (.iload_n 1, 1) := dk_27 (dk_at dksX0_ask_0 0 rfl rfl)
theorem dX0_ask_1 : decode cX0_ask 1 = .ok (.i2l, 1) := dk_133 (dk_at dksX0_ask_0 1 rfl rfl)
theorem dX0_ask_2 : decode cX0_ask 2 = .ok (.lconst 0, 1) := dk_9 (dk_at dksX0_ask_0 2 rfl rfl)
theorem dX0_ask_3 : decode cX0_ask 3 = .ok (.lconst 1, 1) := dk_10 (dk_at dksX0_ask_0 3 rfl rfl)
theorem dX0_ask_4 : decode cX0_ask 4 = .ok (.invokestatic 142, 3) := dk_184 0 142 (dk_at dksX0_ask_0 4 rfl rfl)
theorem dX0_ask_7 : decode cX0_ask 7 = .ok (.ifCond .eq 28, 3) := dk_153 0 28 (dk_at dksX0_ask_0 7 rfl rfl)
theorem dX0_ask_10 : decode cX0_ask 10 = .ok (.iload_n 2, 1) := dk_28 (dk_at dksX0_ask_0 10 rfl rfl)
theorem dX0_ask_11 : decode cX0_ask 11 = .ok (.i2l, 1) := dk_133 (dk_at dksX0_ask_0 11 rfl rfl)
theorem dX0_ask_12 : decode cX0_ask 12 = .ok (.iload_n 1, 1) := dk_27 (dk_at dksX0_ask_0 12 rfl rfl)
theorem dX0_ask_13 : decode cX0_ask 13 = .ok (.i2l, 1) := dk_133 (dk_at dksX0_ask_0 13 rfl rfl)
theorem dX0_ask_14 : decode cX0_ask 14 = .ok (.iload_n 1, 1) := dk_27 (dk_at dksX0_ask_0 14 rfl rfl)
theorem dX0_ask_15 : decode cX0_ask 15 = .ok (.ifCond .ne 7, 3) := dk_154 0 7 (dk_at dksX0_ask_0 15 rfl rfl)
theorem dX0_ask_18 : decode cX0_ask 18 = .ok (.lconst 1, 1) := dk_10 (dk_at dksX0_ask_0 18 rfl rfl)
theorem dX0_ask_19 : decode cX0_ask 19 = .ok (.goto 6, 3) := dk_167 0 6 (dk_at dksX0_ask_0 19 rfl rfl)
theorem dX0_ask_22 : decode cX0_ask 22 = .ok (.ldc2_w 176, 3) := dk_20 0 176 (dk_at dksX0_ask_1 0 rfl rfl)
theorem dX0_ask_25 : decode cX0_ask 25 = .ok (.invokestatic 142, 3) := dk_184 0 142 (dk_at dksX0_ask_1 3 rfl rfl)
theorem dX0_ask_28 : decode cX0_ask 28 = .ok (.ifCond .eq 7, 3) := dk_153 0 7 (dk_at dksX0_ask_1 6 rfl rfl)
theorem dX0_ask_31 : decode cX0_ask 31 = .ok (.iconst 1, 1) := dk_4 (dk_at dksX0_ask_1 9 rfl rfl)
theorem dX0_ask_32 : decode cX0_ask 32 = .ok (.goto 4, 3) := dk_167 0 4 (dk_at dksX0_ask_1 10 rfl rfl)
theorem dX0_ask_35 : decode cX0_ask 35 = .ok (.iconst 0, 1) := dk_3 (dk_at dksX0_ask_1 13 rfl rfl)
theorem dX0_ask_36 : decode cX0_ask 36 = .ok (.bipush (-6), 2) := dk_16 250 (dk_at dksX0_ask_1 14 rfl rfl)
theorem dX0_ask_38 : decode cX0_ask 38 = .ok (.invokestatic 98, 3) := dk_184 0 98 (dk_at dksX0_ask_1 16 rfl rfl)
theorem dX0_ask_41 : decode cX0_ask 41 = .ok (.iload_n 1, 1) := dk_27 (dk_at dksX0_ask_1 19 rfl rfl)
theorem dX0_ask_42 : decode cX0_ask 42 = .ok (.ifCond .ne 39, 3) := dk_154 0 39 (dk_at dksX0_ask_1 20 rfl rfl)
theorem dX0_ask_45 : decode cX0_ask 45 = .ok (.aload_n 0, 1) := dk_42 (dk_at dksX0_ask_1 23 rfl rfl)
theorem dX0_ask_46 : decode cX0_ask 46 = .ok (.getfield 81, 3) := dk_180 0 81 (dk_at dksX0_ask_2 0 rfl rfl)
theorem dX0_ask_49 : decode cX0_ask 49 = .ok (.getfield 216, 3) := dk_180 0 216 (dk_at dksX0_ask_2 3 rfl rfl)
theorem dX0_ask_52 : decode cX0_ask 52 = .ok (.ifCond .eq 7, 3) := dk_153 0 7 (dk_at dksX0_ask_2 6 rfl rfl)
theorem dX0_ask_55 : decode cX0_ask 55 = .ok (.iconst 1, 1) := dk_4 (dk_at dksX0_ask_2 9 rfl rfl)
theorem dX0_ask_56 : decode cX0_ask 56 = .ok (.goto 4, 3) := dk_167 0 4 (dk_at dksX0_ask_2 10 rfl rfl)
theorem dX0_ask_59 : decode cX0_ask 59 = .ok (.iconst 0, 1) := dk_3 (dk_at dksX0_ask_2 13 rfl rfl)
theorem dX0_ask_60 : decode cX0_ask 60 = .ok (.istore_n 3, 1) := dk_62 (dk_at dksX0_ask_2 14 rfl rfl)
theorem dX0_ask_61 : decode cX0_ask 61 = .ok (.aload_n 0, 1) := dk_42 (dk_at dksX0_ask_2 15 rfl rfl)
theorem dX0_ask_62 : decode cX0_ask 62 = .ok (.getfield 81, 3) := dk_180 0 81 (dk_at dksX0_ask_2 16 rfl rfl)
theorem dX0_ask_65 : decode cX0_ask 65 = .ok (.iload_n 2, 1) := dk_28 (dk_at dksX0_ask_2 19 rfl rfl)
theorem dX0_ask_66 : decode cX0_ask 66 = .ok (.iconst 1, 1) := dk_4 (dk_at dksX0_ask_2 20 rfl rfl)
theorem dX0_ask_67 : decode cX0_ask 67 = .ok (.if_icmp .ne 7, 3) := dk_160 0 7 (dk_at dksX0_ask_2 21 rfl rfl)
theorem dX0_ask_70 : decode cX0_ask 70 = .ok (.iconst 1, 1) := dk_4 (dk_at dksX0_ask_3 0 rfl rfl)
theorem dX0_ask_71 : decode cX0_ask 71 = .ok (.goto 4, 3) := dk_167 0 4 (dk_at dksX0_ask_3 1 rfl rfl)
theorem dX0_ask_74 : decode cX0_ask 74 = .ok (.iconst 0, 1) := dk_3 (dk_at dksX0_ask_3 4 rfl rfl)
theorem dX0_ask_75 : decode cX0_ask 75 = .ok (.putfield 216, 3) := dk_181 0 216 (dk_at dksX0_ask_3 5 rfl rfl)
theorem dX0_ask_78 : decode cX0_ask 78 = .ok (.goto 19, 3) := dk_167 0 19 (dk_at dksX0_ask_3 8 rfl rfl)
theorem dX0_ask_81 : decode cX0_ask 81 = .ok (.aload_n 0, 1) := dk_42 (dk_at dksX0_ask_3 11 rfl rfl)
theorem dX0_ask_82 : decode cX0_ask 82 = .ok (.getfield 81, 3) := dk_180 0 81 (dk_at dksX0_ask_3 12 rfl rfl)
theorem dX0_ask_85 : decode cX0_ask 85 = .ok (.getfield 220, 3) := dk_180 0 220 (dk_at dksX0_ask_3 15 rfl rfl)
theorem dX0_ask_88 : decode cX0_ask 88 = .ok (.istore_n 3, 1) := dk_62 (dk_at dksX0_ask_3 18 rfl rfl)
theorem dX0_ask_89 : decode cX0_ask 89 = .ok (.aload_n 0, 1) := dk_42 (dk_at dksX0_ask_3 19 rfl rfl)
theorem dX0_ask_90 : decode cX0_ask 90 = .ok (.getfield 81, 3) := dk_180 0 81 (dk_at dksX0_ask_3 20 rfl rfl)
theorem dX0_ask_93 : decode cX0_ask 93 = .ok (.iload_n 2, 1) := dk_28 (dk_at dksX0_ask_3 23 rfl rfl)
theorem dX0_ask_94 : decode cX0_ask 94 = .ok (.putfield 220, 3) := dk_181 0 220 (dk_at dksX0_ask_4 0 rfl rfl)
theorem dX0_ask_97 : decode cX0_ask 97 = .ok (.iload_n 3, 1) := dk_29 (dk_at dksX0_ask_4 3 rfl rfl)
theorem dX0_ask_98 : decode cX0_ask 98 = .ok (.ireturn, 1) := dk_172 (dk_at dksX0_ask_4 4 rfl rfl)
theorem dX0_ask_99 : decode cX0_ask 99 = .ok (.astore_n 3, 1) := dk_78 (dk_at dksX0_ask_4 5 rfl rfl)
theorem dX0_ask_100 : decode cX0_ask 100 = .ok (.aload_n 0, 1) := dk_42 (dk_at dksX0_ask_4 6 rfl rfl)
theorem dX0_ask_101 : decode cX0_ask 101 = .ok (.aload_n 3, 1) := dk_45 (dk_at dksX0_ask_4 7 rfl rfl)
theorem dX0_ask_102 : decode cX0_ask 102 = .ok (.invokevirtual 150, 3) := dk_182 0 150 (dk_at dksX0_ask_4 8 rfl rfl)
theorem dX0_ask_105 : decode cX0_ask 105 = .ok (.ireturn, 1) := dk_172 (dk_at dksX0_ask_4 11 rfl rfl)
abbrev cX0_shut : ByteArray := prog_1_method_25_code
def yX0_shut : MethodName := ⟨RX0, "shut", "(IIZ)I"⟩
def dkwX0_shut_4 : List UInt8 := [172]
abbrev dktX0_shut_4 : List UInt8 := dkwX0_shut_4 ++ []
def dkwX0_shut_3 : List UInt8 := [2, 130, 126, 79, 21, 4, 29, 159, 0, 7, 4, 167, 0, 4, 3, 172, 58, 4, 42, 25, 4, 182, 0, 150]
abbrev dktX0_shut_3 : List UInt8 := dkwX0_shut_3 ++ dktX0_shut_4
def dkwX0_shut_2 : List UInt8 := [180, 0, 227, 28, 46, 4, 27, 120, 128, 167, 0, 18, 42, 180, 0, 81, 180, 0, 227, 28, 46, 4, 27, 120]
abbrev dktX0_shut_2 : List UInt8 := dkwX0_shut_2 ++ dktX0_shut_3
def dkwX0_shut_1 : List UInt8 := [167, 0, 4, 3, 54, 4, 42, 180, 0, 81, 180, 0, 227, 28, 29, 153, 0, 19, 42, 180, 0, 81]
abbrev dktX0_shut_1 : List UInt8 := dkwX0_shut_1 ++ dktX0_shut_2
def dkwX0_shut_0 : List UInt8 := [42, 27, 28, 182, 0, 223, 42, 180, 0, 81, 180, 0, 227, 28, 46, 27, 122, 4, 126, 153, 0, 7, 4]
abbrev dktX0_shut_0 : List UInt8 := dkwX0_shut_0 ++ dktX0_shut_1
theorem dksX0_shut_0 : cX0_shut.data.toList.drop 0 = dktX0_shut_0 := by decide +kernel
theorem dksX0_shut_1 : cX0_shut.data.toList.drop 23 = dktX0_shut_1 := dk_seg dksX0_shut_0 23 rfl rfl
theorem dksX0_shut_2 : cX0_shut.data.toList.drop 45 = dktX0_shut_2 := dk_seg dksX0_shut_1 22 rfl rfl
theorem dksX0_shut_3 : cX0_shut.data.toList.drop 69 = dktX0_shut_3 := dk_seg dksX0_shut_2 24 rfl rfl
theorem dksX0_shut_4 : cX0_shut.data.toList.drop 93 = dktX0_shut_4 := dk_seg dksX0_shut_3 24 rfl rfl
theorem dX0_shut_0 : decode cX0_shut 0 = .ok (.aload_n 0, 1) := dk_42 (dk_at dksX0_shut_0 0 rfl rfl)
theorem dX0_shut_1 : decode cX0_shut 1 = .ok (.iload_n 1, 1) := dk_27 (dk_at dksX0_shut_0 1 rfl rfl)
theorem dX0_shut_2 : decode cX0_shut 2 = .ok (.iload_n 2, 1) := dk_28 (dk_at dksX0_shut_0 2 rfl rfl)
theorem dX0_shut_3 : decode cX0_shut 3 = .ok (.invokevirtual 223, 3) := dk_182 0 223 (dk_at dksX0_shut_0 3 rfl rfl)
theorem dX0_shut_6 : decode cX0_shut 6 = .ok (.aload_n 0, 1) := dk_42 (dk_at dksX0_shut_0 6 rfl rfl)
theorem dX0_shut_7 : decode cX0_shut 7 = .ok (.getfield 81, 3) := dk_180 0 81 (dk_at dksX0_shut_0 7 rfl rfl)
theorem dX0_shut_10 : decode cX0_shut 10 = .ok (.getfield 227, 3) := dk_180 0 227 (dk_at dksX0_shut_0 10 rfl rfl)
theorem dX0_shut_13 : decode cX0_shut 13 = .ok (.iload_n 2, 1) := dk_28 (dk_at dksX0_shut_0 13 rfl rfl)
theorem dX0_shut_14 : decode cX0_shut 14 = .ok (.iaload, 1) := dk_46 (dk_at dksX0_shut_0 14 rfl rfl)
theorem dX0_shut_15 : decode cX0_shut 15 = .ok (.iload_n 1, 1) := dk_27 (dk_at dksX0_shut_0 15 rfl rfl)
theorem dX0_shut_16 : decode cX0_shut 16 = .ok (.ishr, 1) := dk_122 (dk_at dksX0_shut_0 16 rfl rfl)
theorem dX0_shut_17 : decode cX0_shut 17 = .ok (.iconst 1, 1) := dk_4 (dk_at dksX0_shut_0 17 rfl rfl)
theorem dX0_shut_18 : decode cX0_shut 18 = .ok (.iand, 1) := dk_126 (dk_at dksX0_shut_0 18 rfl rfl)
theorem dX0_shut_19 : decode cX0_shut 19 = .ok (.ifCond .eq 7, 3) := dk_153 0 7 (dk_at dksX0_shut_0 19 rfl rfl)
theorem dX0_shut_22 : decode cX0_shut 22 = .ok (.iconst 1, 1) := dk_4 (dk_at dksX0_shut_0 22 rfl rfl)
theorem dX0_shut_23 : decode cX0_shut 23 = .ok (.goto 4, 3) := dk_167 0 4 (dk_at dksX0_shut_1 0 rfl rfl)
theorem dX0_shut_26 : decode cX0_shut 26 = .ok (.iconst 0, 1) := dk_3 (dk_at dksX0_shut_1 3 rfl rfl)
theorem dX0_shut_27 : decode cX0_shut 27 = .ok (.istore 4, 2) := dk_54 4 (dk_at dksX0_shut_1 4 rfl rfl)
theorem dX0_shut_29 : decode cX0_shut 29 = .ok (.aload_n 0, 1) := dk_42 (dk_at dksX0_shut_1 6 rfl rfl)
theorem dX0_shut_30 : decode cX0_shut 30 = .ok (.getfield 81, 3) := dk_180 0 81 (dk_at dksX0_shut_1 7 rfl rfl)
theorem dX0_shut_33 : decode cX0_shut 33 = .ok (.getfield 227, 3) := dk_180 0 227 (dk_at dksX0_shut_1 10 rfl rfl)
theorem dX0_shut_36 : decode cX0_shut 36 = .ok (.iload_n 2, 1) := dk_28 (dk_at dksX0_shut_1 13 rfl rfl)
theorem dX0_shut_37 : decode cX0_shut 37 = .ok (.iload_n 3, 1) := dk_29 (dk_at dksX0_shut_1 14 rfl rfl)
theorem dX0_shut_38 : decode cX0_shut 38 = .ok (.ifCond .eq 19, 3) := dk_153 0 19 (dk_at dksX0_shut_1 15 rfl rfl)
theorem dX0_shut_41 : decode cX0_shut 41 = .ok (.aload_n 0, 1) := dk_42 (dk_at dksX0_shut_1 18 rfl rfl)
theorem dX0_shut_42 : decode cX0_shut 42 = .ok (.getfield 81, 3) := dk_180 0 81 (dk_at dksX0_shut_1 19 rfl rfl)
theorem dX0_shut_45 : decode cX0_shut 45 = .ok (.getfield 227, 3) := dk_180 0 227 (dk_at dksX0_shut_2 0 rfl rfl)
theorem dX0_shut_48 : decode cX0_shut 48 = .ok (.iload_n 2, 1) := dk_28 (dk_at dksX0_shut_2 3 rfl rfl)
theorem dX0_shut_49 : decode cX0_shut 49 = .ok (.iaload, 1) := dk_46 (dk_at dksX0_shut_2 4 rfl rfl)
theorem dX0_shut_50 : decode cX0_shut 50 = .ok (.iconst 1, 1) := dk_4 (dk_at dksX0_shut_2 5 rfl rfl)
theorem dX0_shut_51 : decode cX0_shut 51 = .ok (.iload_n 1, 1) := dk_27 (dk_at dksX0_shut_2 6 rfl rfl)
theorem dX0_shut_52 : decode cX0_shut 52 = .ok (.ishl, 1) := dk_120 (dk_at dksX0_shut_2 7 rfl rfl)
theorem dX0_shut_53 : decode cX0_shut 53 = .ok (.ior, 1) := dk_128 (dk_at dksX0_shut_2 8 rfl rfl)
theorem dX0_shut_54 : decode cX0_shut 54 = .ok (.goto 18, 3) := dk_167 0 18 (dk_at dksX0_shut_2 9 rfl rfl)
theorem dX0_shut_57 : decode cX0_shut 57 = .ok (.aload_n 0, 1) := dk_42 (dk_at dksX0_shut_2 12 rfl rfl)
theorem dX0_shut_58 : decode cX0_shut 58 = .ok (.getfield 81, 3) := dk_180 0 81 (dk_at dksX0_shut_2 13 rfl rfl)
theorem dX0_shut_61 : decode cX0_shut 61 = .ok (.getfield 227, 3) := dk_180 0 227 (dk_at dksX0_shut_2 16 rfl rfl)
theorem dX0_shut_64 : decode cX0_shut 64 = .ok (.iload_n 2, 1) := dk_28 (dk_at dksX0_shut_2 19 rfl rfl)
theorem dX0_shut_65 : decode cX0_shut 65 = .ok (.iaload, 1) := dk_46 (dk_at dksX0_shut_2 20 rfl rfl)
theorem dX0_shut_66 : decode cX0_shut 66 = .ok (.iconst 1, 1) := dk_4 (dk_at dksX0_shut_2 21 rfl rfl)
theorem dX0_shut_67 : decode cX0_shut 67 = .ok (.iload_n 1, 1) := dk_27 (dk_at dksX0_shut_2 22 rfl rfl)
theorem dX0_shut_68 : decode cX0_shut 68 = .ok (.ishl, 1) := dk_120 (dk_at dksX0_shut_2 23 rfl rfl)
theorem dX0_shut_69 : decode cX0_shut 69 = .ok (.iconst (-1), 1) := dk_2 (dk_at dksX0_shut_3 0 rfl rfl)
theorem dX0_shut_70 : decode cX0_shut 70 = .ok (.ixor, 1) := dk_130 (dk_at dksX0_shut_3 1 rfl rfl)
theorem dX0_shut_71 : decode cX0_shut 71 = .ok (.iand, 1) := dk_126 (dk_at dksX0_shut_3 2 rfl rfl)
theorem dX0_shut_72 : decode cX0_shut 72 = .ok (.iastore, 1) := dk_79 (dk_at dksX0_shut_3 3 rfl rfl)
theorem dX0_shut_73 : decode cX0_shut 73 = .ok (.iload 4, 2) := dk_21 4 (dk_at dksX0_shut_3 4 rfl rfl)
theorem dX0_shut_75 : decode cX0_shut 75 = .ok (.iload_n 3, 1) := dk_29 (dk_at dksX0_shut_3 6 rfl rfl)
theorem dX0_shut_76 : decode cX0_shut 76 = .ok (.if_icmp .eq 7, 3) := dk_159 0 7 (dk_at dksX0_shut_3 7 rfl rfl)
theorem dX0_shut_79 : decode cX0_shut 79 = .ok (.iconst 1, 1) := dk_4 (dk_at dksX0_shut_3 10 rfl rfl)
theorem dX0_shut_80 : decode cX0_shut 80 = .ok (.goto 4, 3) := dk_167 0 4 (dk_at dksX0_shut_3 11 rfl rfl)
theorem dX0_shut_83 : decode cX0_shut 83 = .ok (.iconst 0, 1) := dk_3 (dk_at dksX0_shut_3 14 rfl rfl)
theorem dX0_shut_84 : decode cX0_shut 84 = .ok (.ireturn, 1) := dk_172 (dk_at dksX0_shut_3 15 rfl rfl)
theorem dX0_shut_85 : decode cX0_shut 85 = .ok (.astore 4, 2) := dk_58 4 (dk_at dksX0_shut_3 16 rfl rfl)
theorem dX0_shut_87 : decode cX0_shut 87 = .ok (.aload_n 0, 1) := dk_42 (dk_at dksX0_shut_3 18 rfl rfl)
theorem dX0_shut_88 : decode cX0_shut 88 = .ok (.aload 4, 2) := dk_25 4 (dk_at dksX0_shut_3 19 rfl rfl)
theorem dX0_shut_90 : decode cX0_shut 90 = .ok (.invokevirtual 150, 3) := dk_182 0 150 (dk_at dksX0_shut_3 21 rfl rfl)
theorem dX0_shut_93 : decode cX0_shut 93 = .ok (.ireturn, 1) := dk_172 (dk_at dksX0_shut_4 0 rfl rfl)
abbrev cX0_mustHouses : ByteArray := prog_1_method_11_code
def yX0_mustHouses : MethodName := ⟨RX0, "mustHouses", "(II)V"⟩
def dkwX0_mustHouses_3 : List UInt8 := [167, 0, 4, 3, 16, 250, 184, 0, 98, 177]
abbrev dktX0_mustHouses_3 : List UInt8 := dkwX0_mustHouses_3 ++ []
def dkwX0_mustHouses_2 : List UInt8 := [182, 0, 105, 153, 0, 7, 4, 167, 0, 4, 3, 16, 254, 184, 0, 98, 27, 28, 159, 0, 7, 4]
abbrev dktX0_mustHouses_2 : List UInt8 := dkwX0_mustHouses_2 ++ dktX0_mustHouses_3
def dkwX0_mustHouses_1 : List UInt8 := [167, 0, 4, 3, 2, 184, 0, 98, 42, 180, 0, 81, 27, 182, 0, 105, 153, 0, 18, 42, 180, 0, 81, 28]
abbrev dktX0_mustHouses_1 : List UInt8 := dkwX0_mustHouses_1 ++ dktX0_mustHouses_2
def dkwX0_mustHouses_0 : List UInt8 := [42, 180, 0, 81, 27, 182, 0, 94, 153, 0, 18, 42, 180, 0, 81, 28, 182, 0, 94, 153, 0, 7, 4]
abbrev dktX0_mustHouses_0 : List UInt8 := dkwX0_mustHouses_0 ++ dktX0_mustHouses_1
theorem dksX0_mustHouses_0 : cX0_mustHouses.data.toList.drop 0 = dktX0_mustHouses_0 := by decide +kernel
theorem dksX0_mustHouses_1 : cX0_mustHouses.data.toList.drop 23 = dktX0_mustHouses_1 := dk_seg dksX0_mustHouses_0 23 rfl rfl
theorem dksX0_mustHouses_2 : cX0_mustHouses.data.toList.drop 47 = dktX0_mustHouses_2 := dk_seg dksX0_mustHouses_1 24 rfl rfl
theorem dksX0_mustHouses_3 : cX0_mustHouses.data.toList.drop 69 = dktX0_mustHouses_3 := dk_seg dksX0_mustHouses_2 22 rfl rfl
theorem dX0_mustHouses_0 : decode cX0_mustHouses 0 = .ok (.aload_n 0, 1) := dk_42 (dk_at dksX0_mustHouses_0 0 rfl rfl)
theorem dX0_mustHouses_1 : decode cX0_mustHouses 1 = .ok (.getfield 81, 3) := dk_180 0 81 (dk_at dksX0_mustHouses_0 1 rfl rfl)
theorem dX0_mustHouses_4 : decode cX0_mustHouses 4 = .ok (.iload_n 1, 1) := dk_27 (dk_at dksX0_mustHouses_0 4 rfl rfl)
theorem dX0_mustHouses_5 : decode cX0_mustHouses 5 = .ok (.invokevirtual 94, 3) := dk_182 0 94 (dk_at dksX0_mustHouses_0 5 rfl rfl)
theorem dX0_mustHouses_8 : decode cX0_mustHouses 8 = .ok (.ifCond .eq 18, 3) := dk_153 0 18 (dk_at dksX0_mustHouses_0 8 rfl rfl)
theorem dX0_mustHouses_11 : decode cX0_mustHouses 11 = .ok (.aload_n 0, 1) := dk_42 (dk_at dksX0_mustHouses_0 11 rfl rfl)
theorem dX0_mustHouses_12 : decode cX0_mustHouses 12 = .ok (.getfield 81, 3) := dk_180 0 81 (dk_at dksX0_mustHouses_0 12 rfl rfl)
theorem dX0_mustHouses_15 : decode cX0_mustHouses 15 = .ok (.iload_n 2, 1) := dk_28 (dk_at dksX0_mustHouses_0 15 rfl rfl)
theorem dX0_mustHouses_16 : decode cX0_mustHouses 16 = .ok (.invokevirtual 94, 3) := dk_182 0 94 (dk_at dksX0_mustHouses_0 16 rfl rfl)
theorem dX0_mustHouses_19 : decode cX0_mustHouses 19 = .ok (.ifCond .eq 7, 3) := dk_153 0 7 (dk_at dksX0_mustHouses_0 19 rfl rfl)
theorem dX0_mustHouses_22 : decode cX0_mustHouses 22 = .ok (.iconst 1, 1) := dk_4 (dk_at dksX0_mustHouses_0 22 rfl rfl)
theorem dX0_mustHouses_23 : decode cX0_mustHouses 23 = .ok (.goto 4, 3) := dk_167 0 4 (dk_at dksX0_mustHouses_1 0 rfl rfl)
theorem dX0_mustHouses_26 : decode cX0_mustHouses 26 = .ok (.iconst 0, 1) := dk_3 (dk_at dksX0_mustHouses_1 3 rfl rfl)
theorem dX0_mustHouses_27 : decode cX0_mustHouses 27 = .ok (.iconst (-1), 1) := dk_2 (dk_at dksX0_mustHouses_1 4 rfl rfl)
theorem dX0_mustHouses_28 : decode cX0_mustHouses 28 = .ok (.invokestatic 98, 3) := dk_184 0 98 (dk_at dksX0_mustHouses_1 5 rfl rfl)
theorem dX0_mustHouses_31 : decode cX0_mustHouses 31 = .ok (.aload_n 0, 1) := dk_42 (dk_at dksX0_mustHouses_1 8 rfl rfl)
theorem dX0_mustHouses_32 : decode cX0_mustHouses 32 = .ok (.getfield 81, 3) := dk_180 0 81 (dk_at dksX0_mustHouses_1 9 rfl rfl)
theorem dX0_mustHouses_35 : decode cX0_mustHouses 35 = .ok (.iload_n 1, 1) := dk_27 (dk_at dksX0_mustHouses_1 12 rfl rfl)
theorem dX0_mustHouses_36 : decode cX0_mustHouses 36 = .ok (.invokevirtual 105, 3) := dk_182 0 105 (dk_at dksX0_mustHouses_1 13 rfl rfl)
theorem dX0_mustHouses_39 : decode cX0_mustHouses 39 = .ok (.ifCond .eq 18, 3) := dk_153 0 18 (dk_at dksX0_mustHouses_1 16 rfl rfl)
theorem dX0_mustHouses_42 : decode cX0_mustHouses 42 = .ok (.aload_n 0, 1) := dk_42 (dk_at dksX0_mustHouses_1 19 rfl rfl)
theorem dX0_mustHouses_43 : decode cX0_mustHouses 43 = .ok (.getfield 81, 3) := dk_180 0 81 (dk_at dksX0_mustHouses_1 20 rfl rfl)
theorem dX0_mustHouses_46 : decode cX0_mustHouses 46 = .ok (.iload_n 2, 1) := dk_28 (dk_at dksX0_mustHouses_1 23 rfl rfl)
theorem dX0_mustHouses_47 : decode cX0_mustHouses 47 = .ok (.invokevirtual 105, 3) := dk_182 0 105 (dk_at dksX0_mustHouses_2 0 rfl rfl)
theorem dX0_mustHouses_50 : decode cX0_mustHouses 50 = .ok (.ifCond .eq 7, 3) := dk_153 0 7 (dk_at dksX0_mustHouses_2 3 rfl rfl)
theorem dX0_mustHouses_53 : decode cX0_mustHouses 53 = .ok (.iconst 1, 1) := dk_4 (dk_at dksX0_mustHouses_2 6 rfl rfl)
theorem dX0_mustHouses_54 : decode cX0_mustHouses 54 = .ok (.goto 4, 3) := dk_167 0 4 (dk_at dksX0_mustHouses_2 7 rfl rfl)
theorem dX0_mustHouses_57 : decode cX0_mustHouses 57 = .ok (.iconst 0, 1) := dk_3 (dk_at dksX0_mustHouses_2 10 rfl rfl)
theorem dX0_mustHouses_58 : decode cX0_mustHouses 58 = .ok (.bipush (-2), 2) := dk_16 254 (dk_at dksX0_mustHouses_2 11 rfl rfl)
theorem dX0_mustHouses_60 : decode cX0_mustHouses 60 = .ok (.invokestatic 98, 3) := dk_184 0 98 (dk_at dksX0_mustHouses_2 13 rfl rfl)
theorem dX0_mustHouses_63 : decode cX0_mustHouses 63 = .ok (.iload_n 1, 1) := dk_27 (dk_at dksX0_mustHouses_2 16 rfl rfl)
theorem dX0_mustHouses_64 : decode cX0_mustHouses 64 = .ok (.iload_n 2, 1) := dk_28 (dk_at dksX0_mustHouses_2 17 rfl rfl)
theorem dX0_mustHouses_65 : decode cX0_mustHouses 65 = .ok (.if_icmp .eq 7, 3) := dk_159 0 7 (dk_at dksX0_mustHouses_2 18 rfl rfl)
theorem dX0_mustHouses_68 : decode cX0_mustHouses 68 = .ok (.iconst 1, 1) := dk_4 (dk_at dksX0_mustHouses_2 21 rfl rfl)
theorem dX0_mustHouses_69 : decode cX0_mustHouses 69 = .ok (.goto 4, 3) := dk_167 0 4 (dk_at dksX0_mustHouses_3 0 rfl rfl)
theorem dX0_mustHouses_72 : decode cX0_mustHouses 72 = .ok (.iconst 0, 1) := dk_3 (dk_at dksX0_mustHouses_3 3 rfl rfl)
theorem dX0_mustHouses_73 : decode cX0_mustHouses 73 = .ok (.bipush (-6), 2) := dk_16 250 (dk_at dksX0_mustHouses_3 4 rfl rfl)
theorem dX0_mustHouses_75 : decode cX0_mustHouses 75 = .ok (.invokestatic 98, 3) := dk_184 0 98 (dk_at dksX0_mustHouses_3 6 rfl rfl)
theorem dX0_mustHouses_78 : decode cX0_mustHouses 78 = .ok (.return_, 1) := dk_177 (dk_at dksX0_mustHouses_3 9 rfl rfl)
abbrev cX0_draw : ByteArray := prog_1_method_26_code
def yX0_draw : MethodName := ⟨RX0, "draw", "(IZ)I"⟩
def dkwX0_draw_3 : List UInt8 := [3, 172, 78, 42, 45, 182, 0, 150, 172]
abbrev dktX0_draw_3 : List UInt8 := dkwX0_draw_3 ++ []
def dkwX0_draw_2 : List UInt8 := [180, 0, 81, 180, 0, 213, 4, 27, 120, 2, 130, 126, 181, 0, 213, 29, 28, 159, 0, 7, 4, 167, 0, 4]
abbrev dktX0_draw_2 : List UInt8 := dkwX0_draw_2 ++ dktX0_draw_3
def dkwX0_draw_1 : List UInt8 := [62, 42, 180, 0, 81, 28, 153, 0, 17, 42, 180, 0, 81, 180, 0, 213, 4, 27, 120, 128, 167, 0, 16, 42]
abbrev dktX0_draw_1 : List UInt8 := dkwX0_draw_1 ++ dktX0_draw_2
def dkwX0_draw_0 : List UInt8 := [42, 27, 182, 0, 230, 42, 180, 0, 81, 180, 0, 213, 27, 122, 4, 126, 153, 0, 7, 4, 167, 0, 4, 3]
abbrev dktX0_draw_0 : List UInt8 := dkwX0_draw_0 ++ dktX0_draw_1
theorem dksX0_draw_0 : cX0_draw.data.toList.drop 0 = dktX0_draw_0 := by decide +kernel
theorem dksX0_draw_1 : cX0_draw.data.toList.drop 24 = dktX0_draw_1 := dk_seg dksX0_draw_0 24 rfl rfl
theorem dksX0_draw_2 : cX0_draw.data.toList.drop 48 = dktX0_draw_2 := dk_seg dksX0_draw_1 24 rfl rfl
theorem dksX0_draw_3 : cX0_draw.data.toList.drop 72 = dktX0_draw_3 := dk_seg dksX0_draw_2 24 rfl rfl
theorem dX0_draw_0 : decode cX0_draw 0 = .ok (.aload_n 0, 1) := dk_42 (dk_at dksX0_draw_0 0 rfl rfl)
theorem dX0_draw_1 : decode cX0_draw 1 = .ok (.iload_n 1, 1) := dk_27 (dk_at dksX0_draw_0 1 rfl rfl)
theorem dX0_draw_2 : decode cX0_draw 2 = .ok (.invokevirtual 230, 3) := dk_182 0 230 (dk_at dksX0_draw_0 2 rfl rfl)
theorem dX0_draw_5 : decode cX0_draw 5 = .ok (.aload_n 0, 1) := dk_42 (dk_at dksX0_draw_0 5 rfl rfl)
theorem dX0_draw_6 : decode cX0_draw 6 = .ok (.getfield 81, 3) := dk_180 0 81 (dk_at dksX0_draw_0 6 rfl rfl)
theorem dX0_draw_9 : decode cX0_draw 9 = .ok (.getfield 213, 3) := dk_180 0 213 (dk_at dksX0_draw_0 9 rfl rfl)
theorem dX0_draw_12 : decode cX0_draw 12 = .ok (.iload_n 1, 1) := dk_27 (dk_at dksX0_draw_0 12 rfl rfl)
theorem dX0_draw_13 : decode cX0_draw 13 = .ok (.ishr, 1) := dk_122 (dk_at dksX0_draw_0 13 rfl rfl)
theorem dX0_draw_14 : decode cX0_draw 14 = .ok (.iconst 1, 1) := dk_4 (dk_at dksX0_draw_0 14 rfl rfl)
theorem dX0_draw_15 : decode cX0_draw 15 = .ok (.iand, 1) := dk_126 (dk_at dksX0_draw_0 15 rfl rfl)
theorem dX0_draw_16 : decode cX0_draw 16 = .ok (.ifCond .eq 7, 3) := dk_153 0 7 (dk_at dksX0_draw_0 16 rfl rfl)
theorem dX0_draw_19 : decode cX0_draw 19 = .ok (.iconst 1, 1) := dk_4 (dk_at dksX0_draw_0 19 rfl rfl)
theorem dX0_draw_20 : decode cX0_draw 20 = .ok (.goto 4, 3) := dk_167 0 4 (dk_at dksX0_draw_0 20 rfl rfl)
theorem dX0_draw_23 : decode cX0_draw 23 = .ok (.iconst 0, 1) := dk_3 (dk_at dksX0_draw_0 23 rfl rfl)
theorem dX0_draw_24 : decode cX0_draw 24 = .ok (.istore_n 3, 1) := dk_62 (dk_at dksX0_draw_1 0 rfl rfl)
theorem dX0_draw_25 : decode cX0_draw 25 = .ok (.aload_n 0, 1) := dk_42 (dk_at dksX0_draw_1 1 rfl rfl)
theorem dX0_draw_26 : decode cX0_draw 26 = .ok (.getfield 81, 3) := dk_180 0 81 (dk_at dksX0_draw_1 2 rfl rfl)
theorem dX0_draw_29 : decode cX0_draw 29 = .ok (.iload_n 2, 1) := dk_28 (dk_at dksX0_draw_1 5 rfl rfl)
theorem dX0_draw_30 : decode cX0_draw 30 = .ok (.ifCond .eq 17, 3) := dk_153 0 17 (dk_at dksX0_draw_1 6 rfl rfl)
theorem dX0_draw_33 : decode cX0_draw 33 = .ok (.aload_n 0, 1) := dk_42 (dk_at dksX0_draw_1 9 rfl rfl)
theorem dX0_draw_34 : decode cX0_draw 34 = .ok (.getfield 81, 3) := dk_180 0 81 (dk_at dksX0_draw_1 10 rfl rfl)
theorem dX0_draw_37 : decode cX0_draw 37 = .ok (.getfield 213, 3) := dk_180 0 213 (dk_at dksX0_draw_1 13 rfl rfl)
theorem dX0_draw_40 : decode cX0_draw 40 = .ok (.iconst 1, 1) := dk_4 (dk_at dksX0_draw_1 16 rfl rfl)
theorem dX0_draw_41 : decode cX0_draw 41 = .ok (.iload_n 1, 1) := dk_27 (dk_at dksX0_draw_1 17 rfl rfl)
theorem dX0_draw_42 : decode cX0_draw 42 = .ok (.ishl, 1) := dk_120 (dk_at dksX0_draw_1 18 rfl rfl)
theorem dX0_draw_43 : decode cX0_draw 43 = .ok (.ior, 1) := dk_128 (dk_at dksX0_draw_1 19 rfl rfl)
theorem dX0_draw_44 : decode cX0_draw 44 = .ok (.goto 16, 3) := dk_167 0 16 (dk_at dksX0_draw_1 20 rfl rfl)
theorem dX0_draw_47 : decode cX0_draw 47 = .ok (.aload_n 0, 1) := dk_42 (dk_at dksX0_draw_1 23 rfl rfl)
theorem dX0_draw_48 : decode cX0_draw 48 = .ok (.getfield 81, 3) := dk_180 0 81 (dk_at dksX0_draw_2 0 rfl rfl)
theorem dX0_draw_51 : decode cX0_draw 51 = .ok (.getfield 213, 3) := dk_180 0 213 (dk_at dksX0_draw_2 3 rfl rfl)
theorem dX0_draw_54 : decode cX0_draw 54 = .ok (.iconst 1, 1) := dk_4 (dk_at dksX0_draw_2 6 rfl rfl)
theorem dX0_draw_55 : decode cX0_draw 55 = .ok (.iload_n 1, 1) := dk_27 (dk_at dksX0_draw_2 7 rfl rfl)
theorem dX0_draw_56 : decode cX0_draw 56 = .ok (.ishl, 1) := dk_120 (dk_at dksX0_draw_2 8 rfl rfl)
theorem dX0_draw_57 : decode cX0_draw 57 = .ok (.iconst (-1), 1) := dk_2 (dk_at dksX0_draw_2 9 rfl rfl)
theorem dX0_draw_58 : decode cX0_draw 58 = .ok (.ixor, 1) := dk_130 (dk_at dksX0_draw_2 10 rfl rfl)
theorem dX0_draw_59 : decode cX0_draw 59 = .ok (.iand, 1) := dk_126 (dk_at dksX0_draw_2 11 rfl rfl)
theorem dX0_draw_60 : decode cX0_draw 60 = .ok (.putfield 213, 3) := dk_181 0 213 (dk_at dksX0_draw_2 12 rfl rfl)
theorem dX0_draw_63 : decode cX0_draw 63 = .ok (.iload_n 3, 1) := dk_29 (dk_at dksX0_draw_2 15 rfl rfl)
theorem dX0_draw_64 : decode cX0_draw 64 = .ok (.iload_n 2, 1) := dk_28 (dk_at dksX0_draw_2 16 rfl rfl)
theorem dX0_draw_65 : decode cX0_draw 65 = .ok (.if_icmp .eq 7, 3) := dk_159 0 7 (dk_at dksX0_draw_2 17 rfl rfl)
theorem dX0_draw_68 : decode cX0_draw 68 = .ok (.iconst 1, 1) := dk_4 (dk_at dksX0_draw_2 20 rfl rfl)
theorem dX0_draw_69 : decode cX0_draw 69 = .ok (.goto 4, 3) := dk_167 0 4 (dk_at dksX0_draw_2 21 rfl rfl)
theorem dX0_draw_72 : decode cX0_draw 72 = .ok (.iconst 0, 1) := dk_3 (dk_at dksX0_draw_3 0 rfl rfl)
theorem dX0_draw_73 : decode cX0_draw 73 = .ok (.ireturn, 1) := dk_172 (dk_at dksX0_draw_3 1 rfl rfl)
theorem dX0_draw_74 : decode cX0_draw 74 = .ok (.astore_n 3, 1) := dk_78 (dk_at dksX0_draw_3 2 rfl rfl)
theorem dX0_draw_75 : decode cX0_draw 75 = .ok (.aload_n 0, 1) := dk_42 (dk_at dksX0_draw_3 3 rfl rfl)
theorem dX0_draw_76 : decode cX0_draw 76 = .ok (.aload_n 3, 1) := dk_45 (dk_at dksX0_draw_3 4 rfl rfl)
theorem dX0_draw_77 : decode cX0_draw 77 = .ok (.invokevirtual 150, 3) := dk_182 0 150 (dk_at dksX0_draw_3 5 rfl rfl)
theorem dX0_draw_80 : decode cX0_draw 80 = .ok (.ireturn, 1) := dk_172 (dk_at dksX0_draw_3 8 rfl rfl)
abbrev cX0_mustHouse : ByteArray := prog_1_method_10_code
def yX0_mustHouse : MethodName := ⟨RX0, "mustHouse", "(I)V"⟩
def dkwX0_mustHouse_0 : List UInt8 := [42, 27, 182, 0, 102, 42, 180, 0, 81, 27, 182, 0, 105, 16, 254, 184, 0, 98, 177]
abbrev dktX0_mustHouse_0 : List UInt8 := dkwX0_mustHouse_0 ++ []
theorem dksX0_mustHouse_0 : cX0_mustHouse.data.toList.drop 0 = dktX0_mustHouse_0 := by decide +kernel
theorem dX0_mustHouse_0 : decode cX0_mustHouse 0 = .ok (.aload_n 0, 1) := dk_42 (dk_at dksX0_mustHouse_0 0 rfl rfl)
theorem dX0_mustHouse_1 : decode cX0_mustHouse 1 = .ok (.iload_n 1, 1) := dk_27 (dk_at dksX0_mustHouse_0 1 rfl rfl)
theorem dX0_mustHouse_2 : decode cX0_mustHouse 2 = .ok (.invokevirtual 102, 3) := dk_182 0 102 (dk_at dksX0_mustHouse_0 2 rfl rfl)
theorem dX0_mustHouse_5 : decode cX0_mustHouse 5 = .ok (.aload_n 0, 1) := dk_42 (dk_at dksX0_mustHouse_0 5 rfl rfl)
theorem dX0_mustHouse_6 : decode cX0_mustHouse 6 = .ok (.getfield 81, 3) := dk_180 0 81 (dk_at dksX0_mustHouse_0 6 rfl rfl)
theorem dX0_mustHouse_9 : decode cX0_mustHouse 9 = .ok (.iload_n 1, 1) := dk_27 (dk_at dksX0_mustHouse_0 9 rfl rfl)
theorem dX0_mustHouse_10 : decode cX0_mustHouse 10 = .ok (.invokevirtual 105, 3) := dk_182 0 105 (dk_at dksX0_mustHouse_0 10 rfl rfl)
theorem dX0_mustHouse_13 : decode cX0_mustHouse 13 = .ok (.bipush (-2), 2) := dk_16 254 (dk_at dksX0_mustHouse_0 13 rfl rfl)
theorem dX0_mustHouse_15 : decode cX0_mustHouse 15 = .ok (.invokestatic 98, 3) := dk_184 0 98 (dk_at dksX0_mustHouse_0 15 rfl rfl)
theorem dX0_mustHouse_18 : decode cX0_mustHouse 18 = .ok (.return_, 1) := dk_177 (dk_at dksX0_mustHouse_0 18 rfl rfl)
abbrev cX0_ground : ByteArray := prog_1_method_27_code
def yX0_ground : MethodName := ⟨RX0, "ground", "(I)I"⟩
def dkwX0_ground_3 : List UInt8 := [183, 0, 23, 191, 77, 42, 44, 182, 0, 150, 172]
abbrev dktX0_ground_3 : List UInt8 := dkwX0_ground_3 ++ []
def dkwX0_ground_2 : List UInt8 := [181, 0, 81, 21, 4, 172, 58, 4, 42, 25, 4, 180, 0, 247, 181, 0, 84, 187, 0, 21, 89, 16, 250]
abbrev dktX0_ground_2 : List UInt8 := dkwX0_ground_2 ++ dktX0_ground_3
def dkwX0_ground_1 : List UInt8 := [180, 0, 81, 182, 0, 233, 78, 187, 0, 237, 89, 44, 45, 183, 0, 239, 182, 0, 242, 54, 4, 42, 45]
abbrev dktX0_ground_1 : List UInt8 := dkwX0_ground_1 ++ dktX0_ground_2
def dkwX0_ground_0 : List UInt8 := [42, 27, 182, 0, 136, 182, 0, 154, 77, 42, 2, 181, 0, 84, 187, 0, 74, 89, 183, 0, 76, 42]
abbrev dktX0_ground_0 : List UInt8 := dkwX0_ground_0 ++ dktX0_ground_1
theorem dksX0_ground_0 : cX0_ground.data.toList.drop 0 = dktX0_ground_0 := by decide +kernel
theorem dksX0_ground_1 : cX0_ground.data.toList.drop 22 = dktX0_ground_1 := dk_seg dksX0_ground_0 22 rfl rfl
theorem dksX0_ground_2 : cX0_ground.data.toList.drop 45 = dktX0_ground_2 := dk_seg dksX0_ground_1 23 rfl rfl
theorem dksX0_ground_3 : cX0_ground.data.toList.drop 68 = dktX0_ground_3 := dk_seg dksX0_ground_2 23 rfl rfl
theorem dX0_ground_0 : decode cX0_ground 0 = .ok (.aload_n 0, 1) := dk_42 (dk_at dksX0_ground_0 0 rfl rfl)
theorem dX0_ground_1 : decode cX0_ground 1 = .ok (.iload_n 1, 1) := dk_27 (dk_at dksX0_ground_0 1 rfl rfl)
theorem dX0_ground_2 : decode cX0_ground 2 = .ok (.invokevirtual 136, 3) := dk_182 0 136 (dk_at dksX0_ground_0 2 rfl rfl)
theorem dX0_ground_5 : decode cX0_ground 5 = .ok (.invokevirtual 154, 3) := dk_182 0 154 (dk_at dksX0_ground_0 5 rfl rfl)
theorem dX0_ground_8 : decode cX0_ground 8 = .ok (.astore_n 2, 1) := dk_77 (dk_at dksX0_ground_0 8 rfl rfl)
theorem dX0_ground_9 : decode cX0_ground 9 = .ok (.aload_n 0, 1) := dk_42 (dk_at dksX0_ground_0 9 rfl rfl)
theorem dX0_ground_10 : decode cX0_ground 10 = .ok (.iconst (-1), 1) := dk_2 (dk_at dksX0_ground_0 10 rfl rfl)
theorem dX0_ground_11 : decode cX0_ground 11 = .ok (.putfield 84, 3) := dk_181 0 84 (dk_at dksX0_ground_0 11 rfl rfl)
theorem dX0_ground_14 : decode cX0_ground 14 = .ok (.new 74, 3) := dk_187 0 74 (dk_at dksX0_ground_0 14 rfl rfl)
theorem dX0_ground_17 : decode cX0_ground 17 = .ok (.dup, 1) := dk_89 (dk_at dksX0_ground_0 17 rfl rfl)
theorem dX0_ground_18 : decode cX0_ground 18 = .ok (.invokespecial 76, 3) := dk_183 0 76 (dk_at dksX0_ground_0 18 rfl rfl)
theorem dX0_ground_21 : decode cX0_ground 21 = .ok (.aload_n 0, 1) := dk_42 (dk_at dksX0_ground_0 21 rfl rfl)
theorem dX0_ground_22 : decode cX0_ground 22 = .ok (.getfield 81, 3) := dk_180 0 81 (dk_at dksX0_ground_1 0 rfl rfl)
theorem dX0_ground_25 : decode cX0_ground 25 = .ok (.invokevirtual 233, 3) := dk_182 0 233 (dk_at dksX0_ground_1 3 rfl rfl)
theorem dX0_ground_28 : decode cX0_ground 28 = .ok (.astore_n 3, 1) := dk_78 (dk_at dksX0_ground_1 6 rfl rfl)
theorem dX0_ground_29 : decode cX0_ground 29 = .ok (.new 237, 3) := dk_187 0 237 (dk_at dksX0_ground_1 7 rfl rfl)
theorem dX0_ground_32 : decode cX0_ground 32 = .ok (.dup, 1) := dk_89 (dk_at dksX0_ground_1 10 rfl rfl)
theorem dX0_ground_33 : decode cX0_ground 33 = .ok (.aload_n 2, 1) := dk_44 (dk_at dksX0_ground_1 11 rfl rfl)
theorem dX0_ground_34 : decode cX0_ground 34 = .ok (.aload_n 3, 1) := dk_45 (dk_at dksX0_ground_1 12 rfl rfl)
theorem dX0_ground_35 : decode cX0_ground 35 = .ok (.invokespecial 239, 3) := dk_183 0 239 (dk_at dksX0_ground_1 13 rfl rfl)
theorem dX0_ground_38 : decode cX0_ground 38 = .ok (.invokevirtual 242, 3) := dk_182 0 242 (dk_at dksX0_ground_1 16 rfl rfl)
theorem dX0_ground_41 : decode cX0_ground 41 = .ok (.istore 4, 2) := dk_54 4 (dk_at dksX0_ground_1 19 rfl rfl)
theorem dX0_ground_43 : decode cX0_ground 43 = .ok (.aload_n 0, 1) := dk_42 (dk_at dksX0_ground_1 21 rfl rfl)
theorem dX0_ground_44 : decode cX0_ground 44 = .ok (.aload_n 3, 1) := dk_45 (dk_at dksX0_ground_1 22 rfl rfl)
theorem dX0_ground_45 : decode cX0_ground 45 = .ok (.putfield 81, 3) := dk_181 0 81 (dk_at dksX0_ground_2 0 rfl rfl)
theorem dX0_ground_48 : decode cX0_ground 48 = .ok (.iload 4, 2) := dk_21 4 (dk_at dksX0_ground_2 3 rfl rfl)
theorem dX0_ground_50 : decode cX0_ground 50 = .ok (.ireturn, 1) := dk_172 (dk_at dksX0_ground_2 5 rfl rfl)
theorem dX0_ground_51 : decode cX0_ground 51 = .ok (.astore 4, 2) := dk_58 4 (dk_at dksX0_ground_2 6 rfl rfl)
theorem dX0_ground_53 : decode cX0_ground 53 = .ok (.aload_n 0, 1) := dk_42 (dk_at dksX0_ground_2 8 rfl rfl)
theorem dX0_ground_54 : decode cX0_ground 54 = .ok (.aload 4, 2) := dk_25 4 (dk_at dksX0_ground_2 9 rfl rfl)
theorem dX0_ground_56 : decode cX0_ground 56 = .ok (.getfield 247, 3) := dk_180 0 247 (dk_at dksX0_ground_2 11 rfl rfl)
theorem dX0_ground_59 : decode cX0_ground 59 = .ok (.putfield 84, 3) := dk_181 0 84 (dk_at dksX0_ground_2 14 rfl rfl)
theorem dX0_ground_62 : decode cX0_ground 62 = .ok (.new 21, 3) := dk_187 0 21 (dk_at dksX0_ground_2 17 rfl rfl)
theorem dX0_ground_65 : decode cX0_ground 65 = .ok (.dup, 1) := dk_89 (dk_at dksX0_ground_2 20 rfl rfl)
theorem dX0_ground_66 : decode cX0_ground 66 = .ok (.bipush (-6), 2) := dk_16 250 (dk_at dksX0_ground_2 21 rfl rfl)
theorem dX0_ground_68 : decode cX0_ground 68 = .ok (.invokespecial 23, 3) := dk_183 0 23 (dk_at dksX0_ground_3 0 rfl rfl)
theorem dX0_ground_71 : decode cX0_ground 71 = .ok (.athrow, 1) := dk_191 (dk_at dksX0_ground_3 3 rfl rfl)
theorem dX0_ground_72 : decode cX0_ground 72 = .ok (.astore_n 2, 1) := dk_77 (dk_at dksX0_ground_3 4 rfl rfl)
theorem dX0_ground_73 : decode cX0_ground 73 = .ok (.aload_n 0, 1) := dk_42 (dk_at dksX0_ground_3 5 rfl rfl)
theorem dX0_ground_74 : decode cX0_ground 74 = .ok (.aload_n 2, 1) := dk_44 (dk_at dksX0_ground_3 6 rfl rfl)
theorem dX0_ground_75 : decode cX0_ground 75 = .ok (.invokevirtual 150, 3) := dk_182 0 150 (dk_at dksX0_ground_3 7 rfl rfl)
theorem dX0_ground_78 : decode cX0_ground 78 = .ok (.ireturn, 1) := dk_172 (dk_at dksX0_ground_3 10 rfl rfl)
abbrev cX0_fault : ByteArray := prog_1_method_28_code
def yX0_fault : MethodName := ⟨RX0, "fault", "()I"⟩
theorem dX0_fault_0 : decode cX0_fault 0 = .ok (.aload_n 0, 1) := by decide +kernel
theorem dX0_fault_1 : decode cX0_fault 1 = .ok (.getfield 84, 3) := by decide +kernel
theorem dX0_fault_4 : decode cX0_fault 4 = .ok (.ireturn, 1) := by decide +kernel
abbrev cX0_sees : ByteArray := prog_1_method_29_code
def yX0_sees : MethodName := ⟨RX0, "sees", "(III)I"⟩
def dkwX0_sees_5 : List UInt8 := [21, 4, 153, 0, 7, 4, 167, 0, 4, 3, 172, 58, 4, 42, 25, 4, 182, 0, 150, 172]
abbrev dktX0_sees_5 : List UInt8 := dkwX0_sees_5 ++ []
def dkwX0_sees_4 : List UInt8 := [42, 180, 0, 81, 27, 28, 182, 0, 250, 167, 0, 12, 42, 180, 0, 81, 27, 28, 182, 0, 253, 54, 4]
abbrev dktX0_sees_4 : List UInt8 := dkwX0_sees_4 ++ dktX0_sees_5
def dkwX0_sees_3 : List UInt8 := [16, 251, 184, 0, 98, 27, 28, 159, 0, 7, 4, 167, 0, 4, 3, 16, 250, 184, 0, 98, 29, 154, 0, 15]
abbrev dktX0_sees_3 : List UInt8 := dkwX0_sees_3 ++ dktX0_sees_4
def dkwX0_sees_2 : List UInt8 := [182, 0, 105, 153, 0, 7, 4, 167, 0, 4, 3, 16, 254, 184, 0, 98, 29, 133, 9, 10, 184, 0, 142]
abbrev dktX0_sees_2 : List UInt8 := dkwX0_sees_2 ++ dktX0_sees_3
def dkwX0_sees_1 : List UInt8 := [167, 0, 4, 3, 2, 184, 0, 98, 42, 180, 0, 81, 27, 182, 0, 105, 153, 0, 18, 42, 180, 0, 81, 28]
abbrev dktX0_sees_1 : List UInt8 := dkwX0_sees_1 ++ dktX0_sees_2
def dkwX0_sees_0 : List UInt8 := [42, 180, 0, 81, 27, 182, 0, 94, 153, 0, 18, 42, 180, 0, 81, 28, 182, 0, 94, 153, 0, 7, 4]
abbrev dktX0_sees_0 : List UInt8 := dkwX0_sees_0 ++ dktX0_sees_1
theorem dksX0_sees_0 : cX0_sees.data.toList.drop 0 = dktX0_sees_0 := by decide +kernel
theorem dksX0_sees_1 : cX0_sees.data.toList.drop 23 = dktX0_sees_1 := dk_seg dksX0_sees_0 23 rfl rfl
theorem dksX0_sees_2 : cX0_sees.data.toList.drop 47 = dktX0_sees_2 := dk_seg dksX0_sees_1 24 rfl rfl
theorem dksX0_sees_3 : cX0_sees.data.toList.drop 70 = dktX0_sees_3 := dk_seg dksX0_sees_2 23 rfl rfl
theorem dksX0_sees_4 : cX0_sees.data.toList.drop 94 = dktX0_sees_4 := dk_seg dksX0_sees_3 24 rfl rfl
theorem dksX0_sees_5 : cX0_sees.data.toList.drop 117 = dktX0_sees_5 := dk_seg dksX0_sees_4 23 rfl rfl
theorem dX0_sees_0 : decode cX0_sees 0 = .ok (.aload_n 0, 1) := dk_42 (dk_at dksX0_sees_0 0 rfl rfl)
theorem dX0_sees_1 : decode cX0_sees 1 = .ok (.getfield 81, 3) := dk_180 0 81 (dk_at dksX0_sees_0 1 rfl rfl)
theorem dX0_sees_4 : decode cX0_sees 4 = .ok (.iload_n 1, 1) := dk_27 (dk_at dksX0_sees_0 4 rfl rfl)
theorem dX0_sees_5 : decode cX0_sees 5 = .ok (.invokevirtual 94, 3) := dk_182 0 94 (dk_at dksX0_sees_0 5 rfl rfl)
theorem dX0_sees_8 : decode cX0_sees 8 = .ok (.ifCond .eq 18, 3) := dk_153 0 18 (dk_at dksX0_sees_0 8 rfl rfl)
theorem dX0_sees_11 : decode cX0_sees 11 = .ok (.aload_n 0, 1) := dk_42 (dk_at dksX0_sees_0 11 rfl rfl)
theorem dX0_sees_12 : decode cX0_sees 12 = .ok (.getfield 81, 3) := dk_180 0 81 (dk_at dksX0_sees_0 12 rfl rfl)
theorem dX0_sees_15 : decode cX0_sees 15 = .ok (.iload_n 2, 1) := dk_28 (dk_at dksX0_sees_0 15 rfl rfl)
theorem dX0_sees_16 : decode cX0_sees 16 = .ok (.invokevirtual 94, 3) := dk_182 0 94 (dk_at dksX0_sees_0 16 rfl rfl)
theorem dX0_sees_19 : decode cX0_sees 19 = .ok (.ifCond .eq 7, 3) := dk_153 0 7 (dk_at dksX0_sees_0 19 rfl rfl)
theorem dX0_sees_22 : decode cX0_sees 22 = .ok (.iconst 1, 1) := dk_4 (dk_at dksX0_sees_0 22 rfl rfl)
theorem dX0_sees_23 : decode cX0_sees 23 = .ok (.goto 4, 3) := dk_167 0 4 (dk_at dksX0_sees_1 0 rfl rfl)
theorem dX0_sees_26 : decode cX0_sees 26 = .ok (.iconst 0, 1) := dk_3 (dk_at dksX0_sees_1 3 rfl rfl)
theorem dX0_sees_27 : decode cX0_sees 27 = .ok (.iconst (-1), 1) := dk_2 (dk_at dksX0_sees_1 4 rfl rfl)
theorem dX0_sees_28 : decode cX0_sees 28 = .ok (.invokestatic 98, 3) := dk_184 0 98 (dk_at dksX0_sees_1 5 rfl rfl)
theorem dX0_sees_31 : decode cX0_sees 31 = .ok (.aload_n 0, 1) := dk_42 (dk_at dksX0_sees_1 8 rfl rfl)
theorem dX0_sees_32 : decode cX0_sees 32 = .ok (.getfield 81, 3) := dk_180 0 81 (dk_at dksX0_sees_1 9 rfl rfl)
theorem dX0_sees_35 : decode cX0_sees 35 = .ok (.iload_n 1, 1) := dk_27 (dk_at dksX0_sees_1 12 rfl rfl)
theorem dX0_sees_36 : decode cX0_sees 36 = .ok (.invokevirtual 105, 3) := dk_182 0 105 (dk_at dksX0_sees_1 13 rfl rfl)
theorem dX0_sees_39 : decode cX0_sees 39 = .ok (.ifCond .eq 18, 3) := dk_153 0 18 (dk_at dksX0_sees_1 16 rfl rfl)
theorem dX0_sees_42 : decode cX0_sees 42 = .ok (.aload_n 0, 1) := dk_42 (dk_at dksX0_sees_1 19 rfl rfl)
theorem dX0_sees_43 : decode cX0_sees 43 = .ok (.getfield 81, 3) := dk_180 0 81 (dk_at dksX0_sees_1 20 rfl rfl)
theorem dX0_sees_46 : decode cX0_sees 46 = .ok (.iload_n 2, 1) := dk_28 (dk_at dksX0_sees_1 23 rfl rfl)
theorem dX0_sees_47 : decode cX0_sees 47 = .ok (.invokevirtual 105, 3) := dk_182 0 105 (dk_at dksX0_sees_2 0 rfl rfl)
theorem dX0_sees_50 : decode cX0_sees 50 = .ok (.ifCond .eq 7, 3) := dk_153 0 7 (dk_at dksX0_sees_2 3 rfl rfl)
theorem dX0_sees_53 : decode cX0_sees 53 = .ok (.iconst 1, 1) := dk_4 (dk_at dksX0_sees_2 6 rfl rfl)
theorem dX0_sees_54 : decode cX0_sees 54 = .ok (.goto 4, 3) := dk_167 0 4 (dk_at dksX0_sees_2 7 rfl rfl)
theorem dX0_sees_57 : decode cX0_sees 57 = .ok (.iconst 0, 1) := dk_3 (dk_at dksX0_sees_2 10 rfl rfl)
theorem dX0_sees_58 : decode cX0_sees 58 = .ok (.bipush (-2), 2) := dk_16 254 (dk_at dksX0_sees_2 11 rfl rfl)
theorem dX0_sees_60 : decode cX0_sees 60 = .ok (.invokestatic 98, 3) := dk_184 0 98 (dk_at dksX0_sees_2 13 rfl rfl)
theorem dX0_sees_63 : decode cX0_sees 63 = .ok (.iload_n 3, 1) := dk_29 (dk_at dksX0_sees_2 16 rfl rfl)
theorem dX0_sees_64 : decode cX0_sees 64 = .ok (.i2l, 1) := dk_133 (dk_at dksX0_sees_2 17 rfl rfl)
theorem dX0_sees_65 : decode cX0_sees 65 = .ok (.lconst 0, 1) := dk_9 (dk_at dksX0_sees_2 18 rfl rfl)
theorem dX0_sees_66 : decode cX0_sees 66 = .ok (.lconst 1, 1) := dk_10 (dk_at dksX0_sees_2 19 rfl rfl)
theorem dX0_sees_67 : decode cX0_sees 67 = .ok (.invokestatic 142, 3) := dk_184 0 142 (dk_at dksX0_sees_2 20 rfl rfl)
theorem dX0_sees_70 : decode cX0_sees 70 = .ok (.bipush (-5), 2) := dk_16 251 (dk_at dksX0_sees_3 0 rfl rfl)
theorem dX0_sees_72 : decode cX0_sees 72 = .ok (.invokestatic 98, 3) := dk_184 0 98 (dk_at dksX0_sees_3 2 rfl rfl)
theorem dX0_sees_75 : decode cX0_sees 75 = .ok (.iload_n 1, 1) := dk_27 (dk_at dksX0_sees_3 5 rfl rfl)
theorem dX0_sees_76 : decode cX0_sees 76 = .ok (.iload_n 2, 1) := dk_28 (dk_at dksX0_sees_3 6 rfl rfl)
theorem dX0_sees_77 : decode cX0_sees 77 = .ok (.if_icmp .eq 7, 3) := dk_159 0 7 (dk_at dksX0_sees_3 7 rfl rfl)
theorem dX0_sees_80 : decode cX0_sees 80 = .ok (.iconst 1, 1) := dk_4 (dk_at dksX0_sees_3 10 rfl rfl)
theorem dX0_sees_81 : decode cX0_sees 81 = .ok (.goto 4, 3) := dk_167 0 4 (dk_at dksX0_sees_3 11 rfl rfl)
theorem dX0_sees_84 : decode cX0_sees 84 = .ok (.iconst 0, 1) := dk_3 (dk_at dksX0_sees_3 14 rfl rfl)
theorem dX0_sees_85 : decode cX0_sees 85 = .ok (.bipush (-6), 2) := dk_16 250 (dk_at dksX0_sees_3 15 rfl rfl)
theorem dX0_sees_87 : decode cX0_sees 87 = .ok (.invokestatic 98, 3) := dk_184 0 98 (dk_at dksX0_sees_3 17 rfl rfl)
theorem dX0_sees_90 : decode cX0_sees 90 = .ok (.iload_n 3, 1) := dk_29 (dk_at dksX0_sees_3 20 rfl rfl)
theorem dX0_sees_91 : decode cX0_sees 91 = .ok (.ifCond .ne 15, 3) := dk_154 0 15 (dk_at dksX0_sees_3 21 rfl rfl)
theorem dX0_sees_94 : decode cX0_sees 94 = .ok (.aload_n 0, 1) := dk_42 (dk_at dksX0_sees_4 0 rfl rfl)
theorem dX0_sees_95 : decode cX0_sees 95 = .ok (.getfield 81, 3) := dk_180 0 81 (dk_at dksX0_sees_4 1 rfl rfl)
theorem dX0_sees_98 : decode cX0_sees 98 = .ok (.iload_n 1, 1) := dk_27 (dk_at dksX0_sees_4 4 rfl rfl)
theorem dX0_sees_99 : decode cX0_sees 99 = .ok (.iload_n 2, 1) := dk_28 (dk_at dksX0_sees_4 5 rfl rfl)
theorem dX0_sees_100 : decode cX0_sees 100 = .ok (.invokevirtual 250, 3) := dk_182 0 250 (dk_at dksX0_sees_4 6 rfl rfl)
theorem dX0_sees_103 : decode cX0_sees 103 = .ok (.goto 12, 3) := dk_167 0 12 (dk_at dksX0_sees_4 9 rfl rfl)
theorem dX0_sees_106 : decode cX0_sees 106 = .ok (.aload_n 0, 1) := dk_42 (dk_at dksX0_sees_4 12 rfl rfl)
theorem dX0_sees_107 : decode cX0_sees 107 = .ok (.getfield 81, 3) := dk_180 0 81 (dk_at dksX0_sees_4 13 rfl rfl)
theorem dX0_sees_110 : decode cX0_sees 110 = .ok (.iload_n 1, 1) := dk_27 (dk_at dksX0_sees_4 16 rfl rfl)
theorem dX0_sees_111 : decode cX0_sees 111 = .ok (.iload_n 2, 1) := dk_28 (dk_at dksX0_sees_4 17 rfl rfl)
theorem dX0_sees_112 : decode cX0_sees 112 = .ok (.invokevirtual 253, 3) := dk_182 0 253 (dk_at dksX0_sees_4 18 rfl rfl)
theorem dX0_sees_115 : decode cX0_sees 115 = .ok (.istore 4, 2) := dk_54 4 (dk_at dksX0_sees_4 21 rfl rfl)
theorem dX0_sees_117 : decode cX0_sees 117 = .ok (.iload 4, 2) := dk_21 4 (dk_at dksX0_sees_5 0 rfl rfl)
theorem dX0_sees_119 : decode cX0_sees 119 = .ok (.ifCond .eq 7, 3) := dk_153 0 7 (dk_at dksX0_sees_5 2 rfl rfl)
theorem dX0_sees_122 : decode cX0_sees 122 = .ok (.iconst 1, 1) := dk_4 (dk_at dksX0_sees_5 5 rfl rfl)
theorem dX0_sees_123 : decode cX0_sees 123 = .ok (.goto 4, 3) := dk_167 0 4 (dk_at dksX0_sees_5 6 rfl rfl)
theorem dX0_sees_126 : decode cX0_sees 126 = .ok (.iconst 0, 1) := dk_3 (dk_at dksX0_sees_5 9 rfl rfl)
theorem dX0_sees_127 : decode cX0_sees 127 = .ok (.ireturn, 1) := dk_172 (dk_at dksX0_sees_5 10 rfl rfl)
theorem dX0_sees_128 : decode cX0_sees 128 = .ok (.astore 4, 2) := dk_58 4 (dk_at dksX0_sees_5 11 rfl rfl)
theorem dX0_sees_130 : decode cX0_sees 130 = .ok (.aload_n 0, 1) := dk_42 (dk_at dksX0_sees_5 13 rfl rfl)
theorem dX0_sees_131 : decode cX0_sees 131 = .ok (.aload 4, 2) := dk_25 4 (dk_at dksX0_sees_5 14 rfl rfl)
theorem dX0_sees_133 : decode cX0_sees 133 = .ok (.invokevirtual 150, 3) := dk_182 0 150 (dk_at dksX0_sees_5 16 rfl rfl)
theorem dX0_sees_136 : decode cX0_sees 136 = .ok (.ireturn, 1) := dk_172 (dk_at dksX0_sees_5 19 rfl rfl)
abbrev cX0_bars : ByteArray := prog_1_method_30_code
def yX0_bars : MethodName := ⟨RX0, "bars", "(II)I"⟩
def dkwX0_bars_1 : List UInt8 := [100, 172]
abbrev dktX0_bars_1 : List UInt8 := dkwX0_bars_1 ++ []
def dkwX0_bars_0 : List UInt8 := [42, 27, 28, 182, 0, 223, 42, 180, 0, 81, 27, 28, 182, 1, 0, 172, 78, 42, 45, 182, 0, 150, 16, 10]
abbrev dktX0_bars_0 : List UInt8 := dkwX0_bars_0 ++ dktX0_bars_1
theorem dksX0_bars_0 : cX0_bars.data.toList.drop 0 = dktX0_bars_0 := by decide +kernel
theorem dksX0_bars_1 : cX0_bars.data.toList.drop 24 = dktX0_bars_1 := dk_seg dksX0_bars_0 24 rfl rfl
theorem dX0_bars_0 : decode cX0_bars 0 = .ok (.aload_n 0, 1) := dk_42 (dk_at dksX0_bars_0 0 rfl rfl)
theorem dX0_bars_1 : decode cX0_bars 1 = .ok (.iload_n 1, 1) := dk_27 (dk_at dksX0_bars_0 1 rfl rfl)
theorem dX0_bars_2 : decode cX0_bars 2 = .ok (.iload_n 2, 1) := dk_28 (dk_at dksX0_bars_0 2 rfl rfl)
theorem dX0_bars_3 : decode cX0_bars 3 = .ok (.invokevirtual 223, 3) := dk_182 0 223 (dk_at dksX0_bars_0 3 rfl rfl)
theorem dX0_bars_6 : decode cX0_bars 6 = .ok (.aload_n 0, 1) := dk_42 (dk_at dksX0_bars_0 6 rfl rfl)
theorem dX0_bars_7 : decode cX0_bars 7 = .ok (.getfield 81, 3) := dk_180 0 81 (dk_at dksX0_bars_0 7 rfl rfl)
theorem dX0_bars_10 : decode cX0_bars 10 = .ok (.iload_n 1, 1) := dk_27 (dk_at dksX0_bars_0 10 rfl rfl)
theorem dX0_bars_11 : decode cX0_bars 11 = .ok (.iload_n 2, 1) := dk_28 (dk_at dksX0_bars_0 11 rfl rfl)
theorem dX0_bars_12 : decode cX0_bars 12 = .ok (.invokevirtual 256, 3) := dk_182 1 0 (dk_at dksX0_bars_0 12 rfl rfl)
theorem dX0_bars_15 : decode cX0_bars 15 = .ok (.ireturn, 1) := dk_172 (dk_at dksX0_bars_0 15 rfl rfl)
theorem dX0_bars_16 : decode cX0_bars 16 = .ok (.astore_n 3, 1) := dk_78 (dk_at dksX0_bars_0 16 rfl rfl)
theorem dX0_bars_17 : decode cX0_bars 17 = .ok (.aload_n 0, 1) := dk_42 (dk_at dksX0_bars_0 17 rfl rfl)
theorem dX0_bars_18 : decode cX0_bars 18 = .ok (.aload_n 3, 1) := dk_45 (dk_at dksX0_bars_0 18 rfl rfl)
theorem dX0_bars_19 : decode cX0_bars 19 = .ok (.invokevirtual 150, 3) := dk_182 0 150 (dk_at dksX0_bars_0 19 rfl rfl)
theorem dX0_bars_22 : decode cX0_bars 22 = .ok (.bipush 10, 2) := dk_16 10 (dk_at dksX0_bars_0 22 rfl rfl)
theorem dX0_bars_24 : decode cX0_bars 24 = .ok (.isub, 1) := dk_100 (dk_at dksX0_bars_1 0 rfl rfl)
theorem dX0_bars_25 : decode cX0_bars 25 = .ok (.ireturn, 1) := dk_172 (dk_at dksX0_bars_1 1 rfl rfl)
abbrev cX0_seers : ByteArray := prog_1_method_31_code
def yX0_seers : MethodName := ⟨RX0, "seers", "(I)I"⟩
def dkwX0_seers_0 : List UInt8 := [42, 27, 182, 0, 230, 42, 180, 0, 81, 27, 182, 1, 4, 172, 77, 42, 44, 182, 0, 150, 172]
abbrev dktX0_seers_0 : List UInt8 := dkwX0_seers_0 ++ []
theorem dksX0_seers_0 : cX0_seers.data.toList.drop 0 = dktX0_seers_0 := by decide +kernel
theorem dX0_seers_0 : decode cX0_seers 0 = .ok (.aload_n 0, 1) := dk_42 (dk_at dksX0_seers_0 0 rfl rfl)
theorem dX0_seers_1 : decode cX0_seers 1 = .ok (.iload_n 1, 1) := dk_27 (dk_at dksX0_seers_0 1 rfl rfl)
theorem dX0_seers_2 : decode cX0_seers 2 = .ok (.invokevirtual 230, 3) := dk_182 0 230 (dk_at dksX0_seers_0 2 rfl rfl)
theorem dX0_seers_5 : decode cX0_seers 5 = .ok (.aload_n 0, 1) := dk_42 (dk_at dksX0_seers_0 5 rfl rfl)
theorem dX0_seers_6 : decode cX0_seers 6 = .ok (.getfield 81, 3) := dk_180 0 81 (dk_at dksX0_seers_0 6 rfl rfl)
theorem dX0_seers_9 : decode cX0_seers 9 = .ok (.iload_n 1, 1) := dk_27 (dk_at dksX0_seers_0 9 rfl rfl)
theorem dX0_seers_10 : decode cX0_seers 10 = .ok (.invokevirtual 260, 3) := dk_182 1 4 (dk_at dksX0_seers_0 10 rfl rfl)
theorem dX0_seers_13 : decode cX0_seers 13 = .ok (.ireturn, 1) := dk_172 (dk_at dksX0_seers_0 13 rfl rfl)
theorem dX0_seers_14 : decode cX0_seers 14 = .ok (.astore_n 2, 1) := dk_77 (dk_at dksX0_seers_0 14 rfl rfl)
theorem dX0_seers_15 : decode cX0_seers 15 = .ok (.aload_n 0, 1) := dk_42 (dk_at dksX0_seers_0 15 rfl rfl)
theorem dX0_seers_16 : decode cX0_seers 16 = .ok (.aload_n 2, 1) := dk_44 (dk_at dksX0_seers_0 16 rfl rfl)
theorem dX0_seers_17 : decode cX0_seers 17 = .ok (.invokevirtual 150, 3) := dk_182 0 150 (dk_at dksX0_seers_0 17 rfl rfl)
theorem dX0_seers_20 : decode cX0_seers 20 = .ok (.ireturn, 1) := dk_172 (dk_at dksX0_seers_0 20 rfl rfl)
abbrev cX0_right : ByteArray := prog_1_method_32_code
def yX0_right : MethodName := ⟨RX0, "right", "()I"⟩
def dkwX0_right_0 : List UInt8 := [42, 180, 0, 81, 182, 1, 7, 172]
abbrev dktX0_right_0 : List UInt8 := dkwX0_right_0 ++ []
theorem dksX0_right_0 : cX0_right.data.toList.drop 0 = dktX0_right_0 := by decide +kernel
theorem dX0_right_0 : decode cX0_right 0 = .ok (.aload_n 0, 1) := dk_42 (dk_at dksX0_right_0 0 rfl rfl)
theorem dX0_right_1 : decode cX0_right 1 = .ok (.getfield 81, 3) := dk_180 0 81 (dk_at dksX0_right_0 1 rfl rfl)
theorem dX0_right_4 : decode cX0_right 4 = .ok (.invokevirtual 263, 3) := dk_182 1 7 (dk_at dksX0_right_0 4 rfl rfl)
theorem dX0_right_7 : decode cX0_right 7 = .ok (.ireturn, 1) := dk_172 (dk_at dksX0_right_0 7 rfl rfl)
abbrev cX0_first : ByteArray := prog_1_method_33_code
def yX0_first : MethodName := ⟨RX0, "first", "()I"⟩
def dkwX0_first_1 : List UInt8 := [167, 0, 7, 27, 184, 1, 13, 172]
abbrev dktX0_first_1 : List UInt8 := dkwX0_first_1 ++ []
def dkwX0_first_0 : List UInt8 := [42, 180, 0, 81, 182, 1, 10, 42, 180, 0, 81, 182, 1, 7, 2, 130, 126, 60, 27, 154, 0, 7, 2]
abbrev dktX0_first_0 : List UInt8 := dkwX0_first_0 ++ dktX0_first_1
theorem dksX0_first_0 : cX0_first.data.toList.drop 0 = dktX0_first_0 := by decide +kernel
theorem dksX0_first_1 : cX0_first.data.toList.drop 23 = dktX0_first_1 := dk_seg dksX0_first_0 23 rfl rfl
theorem dX0_first_0 : decode cX0_first 0 = .ok (.aload_n 0, 1) := dk_42 (dk_at dksX0_first_0 0 rfl rfl)
theorem dX0_first_1 : decode cX0_first 1 = .ok (.getfield 81, 3) := dk_180 0 81 (dk_at dksX0_first_0 1 rfl rfl)
theorem dX0_first_4 : decode cX0_first 4 = .ok (.invokevirtual 266, 3) := dk_182 1 10 (dk_at dksX0_first_0 4 rfl rfl)
theorem dX0_first_7 : decode cX0_first 7 = .ok (.aload_n 0, 1) := dk_42 (dk_at dksX0_first_0 7 rfl rfl)
theorem dX0_first_8 : decode cX0_first 8 = .ok (.getfield 81, 3) := dk_180 0 81 (dk_at dksX0_first_0 8 rfl rfl)
theorem dX0_first_11 : decode cX0_first 11 = .ok (.invokevirtual 263, 3) := dk_182 1 7 (dk_at dksX0_first_0 11 rfl rfl)
theorem dX0_first_14 : decode cX0_first 14 = .ok (.iconst (-1), 1) := dk_2 (dk_at dksX0_first_0 14 rfl rfl)
theorem dX0_first_15 : decode cX0_first 15 = .ok (.ixor, 1) := dk_130 (dk_at dksX0_first_0 15 rfl rfl)
theorem dX0_first_16 : decode cX0_first 16 = .ok (.iand, 1) := dk_126 (dk_at dksX0_first_0 16 rfl rfl)
theorem dX0_first_17 : decode cX0_first 17 = .ok (.istore_n 1, 1) := dk_60 (dk_at dksX0_first_0 17 rfl rfl)
theorem dX0_first_18 : decode cX0_first 18 = .ok (.iload_n 1, 1) := dk_27 (dk_at dksX0_first_0 18 rfl rfl)
theorem dX0_first_19 : decode cX0_first 19 = .ok (.ifCond .ne 7, 3) := dk_154 0 7 (dk_at dksX0_first_0 19 rfl rfl)
theorem dX0_first_22 : decode cX0_first 22 = .ok (.iconst (-1), 1) := dk_2 (dk_at dksX0_first_0 22 rfl rfl)
theorem dX0_first_23 : decode cX0_first 23 = .ok (.goto 7, 3) := dk_167 0 7 (dk_at dksX0_first_1 0 rfl rfl)
theorem dX0_first_26 : decode cX0_first 26 = .ok (.iload_n 1, 1) := dk_27 (dk_at dksX0_first_1 3 rfl rfl)
theorem dX0_first_27 : decode cX0_first 27 = .ok (.invokestatic 269, 3) := dk_184 1 13 (dk_at dksX0_first_1 4 rfl rfl)
theorem dX0_first_30 : decode cX0_first 30 = .ok (.ireturn, 1) := dk_172 (dk_at dksX0_first_1 7 rfl rfl)
abbrev cX0_cost : ByteArray := prog_1_method_34_code
def yX0_cost : MethodName := ⟨RX0, "cost", "(II)I"⟩
def dkwX0_cost_0 : List UInt8 := [42, 27, 28, 182, 0, 223, 42, 180, 0, 81, 27, 28, 182, 1, 18, 172, 78, 42, 45, 182, 0, 150, 172]
abbrev dktX0_cost_0 : List UInt8 := dkwX0_cost_0 ++ []
theorem dksX0_cost_0 : cX0_cost.data.toList.drop 0 = dktX0_cost_0 := by decide +kernel
theorem dX0_cost_0 : decode cX0_cost 0 = .ok (.aload_n 0, 1) := dk_42 (dk_at dksX0_cost_0 0 rfl rfl)
theorem dX0_cost_1 : decode cX0_cost 1 = .ok (.iload_n 1, 1) := dk_27 (dk_at dksX0_cost_0 1 rfl rfl)
theorem dX0_cost_2 : decode cX0_cost 2 = .ok (.iload_n 2, 1) := dk_28 (dk_at dksX0_cost_0 2 rfl rfl)
theorem dX0_cost_3 : decode cX0_cost 3 = .ok (.invokevirtual 223, 3) := dk_182 0 223 (dk_at dksX0_cost_0 3 rfl rfl)
theorem dX0_cost_6 : decode cX0_cost 6 = .ok (.aload_n 0, 1) := dk_42 (dk_at dksX0_cost_0 6 rfl rfl)
theorem dX0_cost_7 : decode cX0_cost 7 = .ok (.getfield 81, 3) := dk_180 0 81 (dk_at dksX0_cost_0 7 rfl rfl)
theorem dX0_cost_10 : decode cX0_cost 10 = .ok (.iload_n 1, 1) := dk_27 (dk_at dksX0_cost_0 10 rfl rfl)
theorem dX0_cost_11 : decode cX0_cost 11 = .ok (.iload_n 2, 1) := dk_28 (dk_at dksX0_cost_0 11 rfl rfl)
theorem dX0_cost_12 : decode cX0_cost 12 = .ok (.invokevirtual 274, 3) := dk_182 1 18 (dk_at dksX0_cost_0 12 rfl rfl)
theorem dX0_cost_15 : decode cX0_cost 15 = .ok (.ireturn, 1) := dk_172 (dk_at dksX0_cost_0 15 rfl rfl)
theorem dX0_cost_16 : decode cX0_cost 16 = .ok (.astore_n 3, 1) := dk_78 (dk_at dksX0_cost_0 16 rfl rfl)
theorem dX0_cost_17 : decode cX0_cost 17 = .ok (.aload_n 0, 1) := dk_42 (dk_at dksX0_cost_0 17 rfl rfl)
theorem dX0_cost_18 : decode cX0_cost 18 = .ok (.aload_n 3, 1) := dk_45 (dk_at dksX0_cost_0 18 rfl rfl)
theorem dX0_cost_19 : decode cX0_cost 19 = .ok (.invokevirtual 150, 3) := dk_182 0 150 (dk_at dksX0_cost_0 19 rfl rfl)
theorem dX0_cost_22 : decode cX0_cost 22 = .ok (.ireturn, 1) := dk_172 (dk_at dksX0_cost_0 22 rfl rfl)
abbrev cX0_cheapest : ByteArray := prog_1_method_35_code
def yX0_cheapest : MethodName := ⟨RX0, "cheapest", "(I)I"⟩
def dkwX0_cheapest_7 : List UInt8 := [21, 4, 172, 77, 42, 44, 182, 0, 150, 172]
abbrev dktX0_cheapest_7 : List UInt8 := dkwX0_cheapest_7 ++ []
def dkwX0_cheapest_6 : List UInt8 := [132, 5, 1, 167, 255, 136, 27, 154, 0, 7, 28, 167, 0, 14, 27, 4, 160, 0, 7, 29, 167, 0, 5]
abbrev dktX0_cheapest_6 : List UInt8 := dkwX0_cheapest_6 ++ dktX0_cheapest_7
def dkwX0_cheapest_5 : List UInt8 := [180, 0, 81, 21, 7, 21, 5, 182, 1, 18, 167, 0, 4, 3, 96, 61, 132, 7, 1, 167, 255, 213]
abbrev dktX0_cheapest_5 : List UInt8 := dkwX0_cheapest_5 ++ dktX0_cheapest_6
def dkwX0_cheapest_4 : List UInt8 := [21, 7, 42, 180, 0, 81, 180, 0, 184, 162, 0, 37, 28, 21, 6, 21, 7, 122, 4, 126, 153, 0, 17, 42]
abbrev dktX0_cheapest_4 : List UInt8 := dkwX0_cheapest_4 ++ dktX0_cheapest_5
def dkwX0_cheapest_3 : List UInt8 := [180, 0, 81, 21, 5, 182, 1, 26, 54, 6, 21, 4, 21, 6, 184, 1, 29, 96, 54, 4, 3, 54, 7]
abbrev dktX0_cheapest_3 : List UInt8 := dkwX0_cheapest_3 ++ dktX0_cheapest_4
def dkwX0_cheapest_2 : List UInt8 := [29, 42, 180, 0, 81, 21, 5, 182, 1, 23, 153, 0, 7, 3, 167, 0, 7, 4, 21, 5, 120, 128, 62, 42]
abbrev dktX0_cheapest_2 : List UInt8 := dkwX0_cheapest_2 ++ dktX0_cheapest_3
def dkwX0_cheapest_1 : List UInt8 := [21, 5, 42, 180, 0, 81, 180, 0, 184, 162, 0, 114, 42, 180, 0, 81, 21, 5, 182, 0, 105, 153, 0, 96]
abbrev dktX0_cheapest_1 : List UInt8 := dkwX0_cheapest_1 ++ dktX0_cheapest_2
def dkwX0_cheapest_0 : List UInt8 := [27, 133, 9, 20, 1, 21, 184, 0, 142, 16, 251, 184, 0, 98, 3, 61, 3, 62, 3, 54, 4, 3, 54, 5]
abbrev dktX0_cheapest_0 : List UInt8 := dkwX0_cheapest_0 ++ dktX0_cheapest_1
theorem dksX0_cheapest_0 : cX0_cheapest.data.toList.drop 0 = dktX0_cheapest_0 := by decide +kernel
theorem dksX0_cheapest_1 : cX0_cheapest.data.toList.drop 24 = dktX0_cheapest_1 := dk_seg dksX0_cheapest_0 24 rfl rfl
theorem dksX0_cheapest_2 : cX0_cheapest.data.toList.drop 48 = dktX0_cheapest_2 := dk_seg dksX0_cheapest_1 24 rfl rfl
theorem dksX0_cheapest_3 : cX0_cheapest.data.toList.drop 72 = dktX0_cheapest_3 := dk_seg dksX0_cheapest_2 24 rfl rfl
theorem dksX0_cheapest_4 : cX0_cheapest.data.toList.drop 95 = dktX0_cheapest_4 := dk_seg dksX0_cheapest_3 23 rfl rfl
theorem dksX0_cheapest_5 : cX0_cheapest.data.toList.drop 119 = dktX0_cheapest_5 := dk_seg dksX0_cheapest_4 24 rfl rfl
theorem dksX0_cheapest_6 : cX0_cheapest.data.toList.drop 141 = dktX0_cheapest_6 := dk_seg dksX0_cheapest_5 22 rfl rfl
theorem dksX0_cheapest_7 : cX0_cheapest.data.toList.drop 164 = dktX0_cheapest_7 := dk_seg dksX0_cheapest_6 23 rfl rfl
theorem dX0_cheapest_0 : decode cX0_cheapest 0 = .ok (.iload_n 1, 1) := dk_27 (dk_at dksX0_cheapest_0 0 rfl rfl)
theorem dX0_cheapest_1 : decode cX0_cheapest 1 = .ok (.i2l, 1) := dk_133 (dk_at dksX0_cheapest_0 1 rfl rfl)
theorem dX0_cheapest_2 : decode cX0_cheapest 2 = .ok (.lconst 0, 1) := dk_9 (dk_at dksX0_cheapest_0 2 rfl rfl)
theorem dX0_cheapest_3 : decode cX0_cheapest 3 = .ok (.ldc2_w 277, 3) := dk_20 1 21 (dk_at dksX0_cheapest_0 3 rfl rfl)
theorem dX0_cheapest_6 : decode cX0_cheapest 6 = .ok (.invokestatic 142, 3) := dk_184 0 142 (dk_at dksX0_cheapest_0 6 rfl rfl)
theorem dX0_cheapest_9 : decode cX0_cheapest 9 = .ok (.bipush (-5), 2) := dk_16 251 (dk_at dksX0_cheapest_0 9 rfl rfl)
theorem dX0_cheapest_11 : decode cX0_cheapest 11 = .ok (.invokestatic 98, 3) := dk_184 0 98 (dk_at dksX0_cheapest_0 11 rfl rfl)
theorem dX0_cheapest_14 : decode cX0_cheapest 14 = .ok (.iconst 0, 1) := dk_3 (dk_at dksX0_cheapest_0 14 rfl rfl)
theorem dX0_cheapest_15 : decode cX0_cheapest 15 = .ok (.istore_n 2, 1) := dk_61 (dk_at dksX0_cheapest_0 15 rfl rfl)
theorem dX0_cheapest_16 : decode cX0_cheapest 16 = .ok (.iconst 0, 1) := dk_3 (dk_at dksX0_cheapest_0 16 rfl rfl)
theorem dX0_cheapest_17 : decode cX0_cheapest 17 = .ok (.istore_n 3, 1) := dk_62 (dk_at dksX0_cheapest_0 17 rfl rfl)
theorem dX0_cheapest_18 : decode cX0_cheapest 18 = .ok (.iconst 0, 1) := dk_3 (dk_at dksX0_cheapest_0 18 rfl rfl)
theorem dX0_cheapest_19 : decode cX0_cheapest 19 = .ok (.istore 4, 2) := dk_54 4 (dk_at dksX0_cheapest_0 19 rfl rfl)
theorem dX0_cheapest_21 : decode cX0_cheapest 21 = .ok (.iconst 0, 1) := dk_3 (dk_at dksX0_cheapest_0 21 rfl rfl)
theorem dX0_cheapest_22 : decode cX0_cheapest 22 = .ok (.istore 5, 2) := dk_54 5 (dk_at dksX0_cheapest_0 22 rfl rfl)
theorem dX0_cheapest_24 : decode cX0_cheapest 24 = .ok (.iload 5, 2) := dk_21 5 (dk_at dksX0_cheapest_1 0 rfl rfl)
theorem dX0_cheapest_26 : decode cX0_cheapest 26 = .ok (.aload_n 0, 1) := dk_42 (dk_at dksX0_cheapest_1 2 rfl rfl)
theorem dX0_cheapest_27 : decode cX0_cheapest 27 = .ok (.getfield 81, 3) := dk_180 0 81 (dk_at dksX0_cheapest_1 3 rfl rfl)
theorem dX0_cheapest_30 : decode cX0_cheapest 30 = .ok (.getfield 184, 3) := dk_180 0 184 (dk_at dksX0_cheapest_1 6 rfl rfl)
theorem dX0_cheapest_33 : decode cX0_cheapest 33 = .ok (.if_icmp .ge 114, 3) := dk_162 0 114 (dk_at dksX0_cheapest_1 9 rfl rfl)
theorem dX0_cheapest_36 : decode cX0_cheapest 36 = .ok (.aload_n 0, 1) := dk_42 (dk_at dksX0_cheapest_1 12 rfl rfl)
theorem dX0_cheapest_37 : decode cX0_cheapest 37 = .ok (.getfield 81, 3) := dk_180 0 81 (dk_at dksX0_cheapest_1 13 rfl rfl)
theorem dX0_cheapest_40 : decode cX0_cheapest 40 = .ok (.iload 5, 2) := dk_21 5 (dk_at dksX0_cheapest_1 16 rfl rfl)
theorem dX0_cheapest_42 : decode cX0_cheapest 42 = .ok (.invokevirtual 105, 3) := dk_182 0 105 (dk_at dksX0_cheapest_1 18 rfl rfl)
theorem dX0_cheapest_45 : decode cX0_cheapest 45 = .ok (.ifCond .eq 96, 3) := dk_153 0 96 (dk_at dksX0_cheapest_1 21 rfl rfl)
theorem dX0_cheapest_48 : decode cX0_cheapest 48 = .ok (.iload_n 3, 1) := dk_29 (dk_at dksX0_cheapest_2 0 rfl rfl)
theorem dX0_cheapest_49 : decode cX0_cheapest 49 = .ok (.aload_n 0, 1) := dk_42 (dk_at dksX0_cheapest_2 1 rfl rfl)
theorem dX0_cheapest_50 : decode cX0_cheapest 50 = .ok (.getfield 81, 3) := dk_180 0 81 (dk_at dksX0_cheapest_2 2 rfl rfl)
theorem dX0_cheapest_53 : decode cX0_cheapest 53 = .ok (.iload 5, 2) := dk_21 5 (dk_at dksX0_cheapest_2 5 rfl rfl)
theorem dX0_cheapest_55 : decode cX0_cheapest 55 = .ok (.invokevirtual 279, 3) := dk_182 1 23 (dk_at dksX0_cheapest_2 7 rfl rfl)
theorem dX0_cheapest_58 : decode cX0_cheapest 58 = .ok (.ifCond .eq 7, 3) := dk_153 0 7 (dk_at dksX0_cheapest_2 10 rfl rfl)
theorem dX0_cheapest_61 : decode cX0_cheapest 61 = .ok (.iconst 0, 1) := dk_3 (dk_at dksX0_cheapest_2 13 rfl rfl)
theorem dX0_cheapest_62 : decode cX0_cheapest 62 = .ok (.goto 7, 3) := dk_167 0 7 (dk_at dksX0_cheapest_2 14 rfl rfl)
theorem dX0_cheapest_65 : decode cX0_cheapest 65 = .ok (.iconst 1, 1) := dk_4 (dk_at dksX0_cheapest_2 17 rfl rfl)
theorem dX0_cheapest_66 : decode cX0_cheapest 66 = .ok (.iload 5, 2) := dk_21 5 (dk_at dksX0_cheapest_2 18 rfl rfl)
theorem dX0_cheapest_68 : decode cX0_cheapest 68 = .ok (.ishl, 1) := dk_120 (dk_at dksX0_cheapest_2 20 rfl rfl)
theorem dX0_cheapest_69 : decode cX0_cheapest 69 = .ok (.ior, 1) := dk_128 (dk_at dksX0_cheapest_2 21 rfl rfl)
theorem dX0_cheapest_70 : decode cX0_cheapest 70 = .ok (.istore_n 3, 1) := dk_62 (dk_at dksX0_cheapest_2 22 rfl rfl)
theorem dX0_cheapest_71 : decode cX0_cheapest 71 = .ok (.aload_n 0, 1) := dk_42 (dk_at dksX0_cheapest_2 23 rfl rfl)
theorem dX0_cheapest_72 : decode cX0_cheapest 72 = .ok (.getfield 81, 3) := dk_180 0 81 (dk_at dksX0_cheapest_3 0 rfl rfl)
theorem dX0_cheapest_75 : decode cX0_cheapest 75 = .ok (.iload 5, 2) := dk_21 5 (dk_at dksX0_cheapest_3 3 rfl rfl)
theorem dX0_cheapest_77 : decode cX0_cheapest 77 = .ok (.invokevirtual 282, 3) := dk_182 1 26 (dk_at dksX0_cheapest_3 5 rfl rfl)
theorem dX0_cheapest_80 : decode cX0_cheapest 80 = .ok (.istore 6, 2) := dk_54 6 (dk_at dksX0_cheapest_3 8 rfl rfl)
theorem dX0_cheapest_82 : decode cX0_cheapest 82 = .ok (.iload 4, 2) := dk_21 4 (dk_at dksX0_cheapest_3 10 rfl rfl)
theorem dX0_cheapest_84 : decode cX0_cheapest 84 = .ok (.iload 6, 2) := dk_21 6 (dk_at dksX0_cheapest_3 12 rfl rfl)
theorem dX0_cheapest_86 : decode cX0_cheapest 86 = .ok (.invokestatic 285, 3) := dk_184 1 29 (dk_at dksX0_cheapest_3 14 rfl rfl)
theorem dX0_cheapest_89 : decode cX0_cheapest 89 = .ok (.iadd, 1) := dk_96 (dk_at dksX0_cheapest_3 17 rfl rfl)
theorem dX0_cheapest_90 : decode cX0_cheapest 90 = .ok (.istore 4, 2) := dk_54 4 (dk_at dksX0_cheapest_3 18 rfl rfl)
theorem dX0_cheapest_92 : decode cX0_cheapest 92 = .ok (.iconst 0, 1) := dk_3 (dk_at dksX0_cheapest_3 20 rfl rfl)
theorem dX0_cheapest_93 : decode cX0_cheapest 93 = .ok (.istore 7, 2) := dk_54 7 (dk_at dksX0_cheapest_3 21 rfl rfl)
theorem dX0_cheapest_95 : decode cX0_cheapest 95 = .ok (.iload 7, 2) := dk_21 7 (dk_at dksX0_cheapest_4 0 rfl rfl)
theorem dX0_cheapest_97 : decode cX0_cheapest 97 = .ok (.aload_n 0, 1) := dk_42 (dk_at dksX0_cheapest_4 2 rfl rfl)
theorem dX0_cheapest_98 : decode cX0_cheapest 98 = .ok (.getfield 81, 3) := dk_180 0 81 (dk_at dksX0_cheapest_4 3 rfl rfl)
theorem dX0_cheapest_101 : decode cX0_cheapest 101 = .ok (.getfield 184, 3) := dk_180 0 184 (dk_at dksX0_cheapest_4 6 rfl rfl)
theorem dX0_cheapest_104 : decode cX0_cheapest 104 = .ok (.if_icmp .ge 37, 3) := dk_162 0 37 (dk_at dksX0_cheapest_4 9 rfl rfl)
theorem dX0_cheapest_107 : decode cX0_cheapest 107 = .ok (.iload_n 2, 1) := dk_28 (dk_at dksX0_cheapest_4 12 rfl rfl)
theorem dX0_cheapest_108 : decode cX0_cheapest 108 = .ok (.iload 6, 2) := dk_21 6 (dk_at dksX0_cheapest_4 13 rfl rfl)
theorem dX0_cheapest_110 : decode cX0_cheapest 110 = .ok (.iload 7, 2) := dk_21 7 (dk_at dksX0_cheapest_4 15 rfl rfl)
theorem dX0_cheapest_112 : decode cX0_cheapest 112 = .ok (.ishr, 1) := dk_122 (dk_at dksX0_cheapest_4 17 rfl rfl)
theorem dX0_cheapest_113 : decode cX0_cheapest 113 = .ok (.iconst 1, 1) := dk_4 (dk_at dksX0_cheapest_4 18 rfl rfl)
theorem dX0_cheapest_114 : decode cX0_cheapest 114 = .ok (.iand, 1) := dk_126 (dk_at dksX0_cheapest_4 19 rfl rfl)
theorem dX0_cheapest_115 : decode cX0_cheapest 115 = .ok (.ifCond .eq 17, 3) := dk_153 0 17 (dk_at dksX0_cheapest_4 20 rfl rfl)
theorem dX0_cheapest_118 : decode cX0_cheapest 118 = .ok (.aload_n 0, 1) := dk_42 (dk_at dksX0_cheapest_4 23 rfl rfl)
theorem dX0_cheapest_119 : decode cX0_cheapest 119 = .ok (.getfield 81, 3) := dk_180 0 81 (dk_at dksX0_cheapest_5 0 rfl rfl)
theorem dX0_cheapest_122 : decode cX0_cheapest 122 = .ok (.iload 7, 2) := dk_21 7 (dk_at dksX0_cheapest_5 3 rfl rfl)
theorem dX0_cheapest_124 : decode cX0_cheapest 124 = .ok (.iload 5, 2) := dk_21 5 (dk_at dksX0_cheapest_5 5 rfl rfl)
theorem dX0_cheapest_126 : decode cX0_cheapest 126 = .ok (.invokevirtual 274, 3) := dk_182 1 18 (dk_at dksX0_cheapest_5 7 rfl rfl)
theorem dX0_cheapest_129 : decode cX0_cheapest 129 = .ok (.goto 4, 3) := dk_167 0 4 (dk_at dksX0_cheapest_5 10 rfl rfl)
theorem dX0_cheapest_132 : decode cX0_cheapest 132 = .ok (.iconst 0, 1) := dk_3 (dk_at dksX0_cheapest_5 13 rfl rfl)
theorem dX0_cheapest_133 : decode cX0_cheapest 133 = .ok (.iadd, 1) := dk_96 (dk_at dksX0_cheapest_5 14 rfl rfl)
theorem dX0_cheapest_134 : decode cX0_cheapest 134 = .ok (.istore_n 2, 1) := dk_61 (dk_at dksX0_cheapest_5 15 rfl rfl)
theorem dX0_cheapest_135 : decode cX0_cheapest 135 = .ok (.iinc 7 1, 3) := dk_132 7 1 (dk_at dksX0_cheapest_5 16 rfl rfl)
theorem dX0_cheapest_138 : decode cX0_cheapest 138 = .ok (.goto (-43), 3) := dk_167 255 213 (dk_at dksX0_cheapest_5 19 rfl rfl)
theorem dX0_cheapest_141 : decode cX0_cheapest 141 = .ok (.iinc 5 1, 3) := dk_132 5 1 (dk_at dksX0_cheapest_6 0 rfl rfl)
theorem dX0_cheapest_144 : decode cX0_cheapest 144 = .ok (.goto (-120), 3) := dk_167 255 136 (dk_at dksX0_cheapest_6 3 rfl rfl)
theorem dX0_cheapest_147 : decode cX0_cheapest 147 = .ok (.iload_n 1, 1) := dk_27 (dk_at dksX0_cheapest_6 6 rfl rfl)
theorem dX0_cheapest_148 : decode cX0_cheapest 148 = .ok (.ifCond .ne 7, 3) := dk_154 0 7 (dk_at dksX0_cheapest_6 7 rfl rfl)
theorem dX0_cheapest_151 : decode cX0_cheapest 151 = .ok (.iload_n 2, 1) := dk_28 (dk_at dksX0_cheapest_6 10 rfl rfl)
theorem dX0_cheapest_152 : decode cX0_cheapest 152 = .ok (.goto 14, 3) := dk_167 0 14 (dk_at dksX0_cheapest_6 11 rfl rfl)
theorem dX0_cheapest_155 : decode cX0_cheapest 155 = .ok (.iload_n 1, 1) := dk_27 (dk_at dksX0_cheapest_6 14 rfl rfl)
theorem dX0_cheapest_156 : decode cX0_cheapest 156 = .ok (.iconst 1, 1) := dk_4 (dk_at dksX0_cheapest_6 15 rfl rfl)
theorem dX0_cheapest_157 : decode cX0_cheapest 157 = .ok (.if_icmp .ne 7, 3) := dk_160 0 7 (dk_at dksX0_cheapest_6 16 rfl rfl)
theorem dX0_cheapest_160 : decode cX0_cheapest 160 = .ok (.iload_n 3, 1) := dk_29 (dk_at dksX0_cheapest_6 19 rfl rfl)
theorem dX0_cheapest_161 : decode cX0_cheapest 161 = .ok (.goto 5, 3) := dk_167 0 5 (dk_at dksX0_cheapest_6 20 rfl rfl)
theorem dX0_cheapest_164 : decode cX0_cheapest 164 = .ok (.iload 4, 2) := dk_21 4 (dk_at dksX0_cheapest_7 0 rfl rfl)
theorem dX0_cheapest_166 : decode cX0_cheapest 166 = .ok (.ireturn, 1) := dk_172 (dk_at dksX0_cheapest_7 2 rfl rfl)
theorem dX0_cheapest_167 : decode cX0_cheapest 167 = .ok (.astore_n 2, 1) := dk_77 (dk_at dksX0_cheapest_7 3 rfl rfl)
theorem dX0_cheapest_168 : decode cX0_cheapest 168 = .ok (.aload_n 0, 1) := dk_42 (dk_at dksX0_cheapest_7 4 rfl rfl)
theorem dX0_cheapest_169 : decode cX0_cheapest 169 = .ok (.aload_n 2, 1) := dk_44 (dk_at dksX0_cheapest_7 5 rfl rfl)
theorem dX0_cheapest_170 : decode cX0_cheapest 170 = .ok (.invokevirtual 150, 3) := dk_182 0 150 (dk_at dksX0_cheapest_7 6 rfl rfl)
theorem dX0_cheapest_173 : decode cX0_cheapest 173 = .ok (.ireturn, 1) := dk_172 (dk_at dksX0_cheapest_7 9 rfl rfl)
abbrev cX0_keeps : ByteArray := prog_1_method_36_code
def yX0_keeps : MethodName := ⟨RX0, "keeps", "(I)I"⟩
def dkwX0_keeps_0 : List UInt8 := [42, 27, 182, 0, 230, 42, 180, 0, 81, 27, 182, 1, 32, 172, 77, 42, 44, 182, 0, 150, 16, 10, 100, 172]
abbrev dktX0_keeps_0 : List UInt8 := dkwX0_keeps_0 ++ []
theorem dksX0_keeps_0 : cX0_keeps.data.toList.drop 0 = dktX0_keeps_0 := by decide +kernel
theorem dX0_keeps_0 : decode cX0_keeps 0 = .ok (.aload_n 0, 1) := dk_42 (dk_at dksX0_keeps_0 0 rfl rfl)
theorem dX0_keeps_1 : decode cX0_keeps 1 = .ok (.iload_n 1, 1) := dk_27 (dk_at dksX0_keeps_0 1 rfl rfl)
theorem dX0_keeps_2 : decode cX0_keeps 2 = .ok (.invokevirtual 230, 3) := dk_182 0 230 (dk_at dksX0_keeps_0 2 rfl rfl)
theorem dX0_keeps_5 : decode cX0_keeps 5 = .ok (.aload_n 0, 1) := dk_42 (dk_at dksX0_keeps_0 5 rfl rfl)
theorem dX0_keeps_6 : decode cX0_keeps 6 = .ok (.getfield 81, 3) := dk_180 0 81 (dk_at dksX0_keeps_0 6 rfl rfl)
theorem dX0_keeps_9 : decode cX0_keeps 9 = .ok (.iload_n 1, 1) := dk_27 (dk_at dksX0_keeps_0 9 rfl rfl)
theorem dX0_keeps_10 : decode cX0_keeps 10 = .ok (.invokevirtual 288, 3) := dk_182 1 32 (dk_at dksX0_keeps_0 10 rfl rfl)
theorem dX0_keeps_13 : decode cX0_keeps 13 = .ok (.ireturn, 1) := dk_172 (dk_at dksX0_keeps_0 13 rfl rfl)
theorem dX0_keeps_14 : decode cX0_keeps 14 = .ok (.astore_n 2, 1) := dk_77 (dk_at dksX0_keeps_0 14 rfl rfl)
theorem dX0_keeps_15 : decode cX0_keeps 15 = .ok (.aload_n 0, 1) := dk_42 (dk_at dksX0_keeps_0 15 rfl rfl)
theorem dX0_keeps_16 : decode cX0_keeps 16 = .ok (.aload_n 2, 1) := dk_44 (dk_at dksX0_keeps_0 16 rfl rfl)
theorem dX0_keeps_17 : decode cX0_keeps 17 = .ok (.invokevirtual 150, 3) := dk_182 0 150 (dk_at dksX0_keeps_0 17 rfl rfl)
theorem dX0_keeps_20 : decode cX0_keeps 20 = .ok (.bipush 10, 2) := dk_16 10 (dk_at dksX0_keeps_0 20 rfl rfl)
theorem dX0_keeps_22 : decode cX0_keeps 22 = .ok (.isub, 1) := dk_100 (dk_at dksX0_keeps_0 22 rfl rfl)
theorem dX0_keeps_23 : decode cX0_keeps 23 = .ok (.ireturn, 1) := dk_172 (dk_at dksX0_keeps_0 23 rfl rfl)
abbrev cX0_shuts : ByteArray := prog_1_method_37_code
def yX0_shuts : MethodName := ⟨RX0, "shuts", "()I"⟩
def dkwX0_shuts_4 : List UInt8 := [132, 3, 1, 167, 255, 227, 28, 172, 76, 42, 43, 182, 0, 150, 172]
abbrev dktX0_shuts_4 : List UInt8 := dkwX0_shuts_4 ++ []
def dkwX0_shuts_3 : List UInt8 := [180, 0, 81, 180, 0, 184, 162, 0, 24, 42, 180, 0, 81, 180, 0, 227, 29, 92, 46, 43, 29, 46, 128, 79]
abbrev dktX0_shuts_3 : List UInt8 := dkwX0_shuts_3 ++ dktX0_shuts_4
def dkwX0_shuts_2 : List UInt8 := [180, 0, 81, 28, 182, 1, 26, 79, 132, 2, 1, 167, 255, 207, 42, 3, 182, 1, 35, 61, 3, 62, 29, 42]
abbrev dktX0_shuts_2 : List UInt8 := dkwX0_shuts_2 ++ dktX0_shuts_3
def dkwX0_shuts_1 : List UInt8 := [182, 0, 105, 153, 0, 27, 42, 180, 0, 81, 28, 182, 1, 23, 16, 250, 184, 0, 98, 43, 28, 42]
abbrev dktX0_shuts_1 : List UInt8 := dkwX0_shuts_1 ++ dktX0_shuts_2
def dkwX0_shuts_0 : List UInt8 := [16, 8, 188, 10, 76, 3, 61, 28, 42, 180, 0, 81, 180, 0, 184, 162, 0, 44, 42, 180, 0, 81, 28]
abbrev dktX0_shuts_0 : List UInt8 := dkwX0_shuts_0 ++ dktX0_shuts_1
theorem dksX0_shuts_0 : cX0_shuts.data.toList.drop 0 = dktX0_shuts_0 := by decide +kernel
theorem dksX0_shuts_1 : cX0_shuts.data.toList.drop 23 = dktX0_shuts_1 := dk_seg dksX0_shuts_0 23 rfl rfl
theorem dksX0_shuts_2 : cX0_shuts.data.toList.drop 45 = dktX0_shuts_2 := dk_seg dksX0_shuts_1 22 rfl rfl
theorem dksX0_shuts_3 : cX0_shuts.data.toList.drop 69 = dktX0_shuts_3 := dk_seg dksX0_shuts_2 24 rfl rfl
theorem dksX0_shuts_4 : cX0_shuts.data.toList.drop 93 = dktX0_shuts_4 := dk_seg dksX0_shuts_3 24 rfl rfl
theorem dX0_shuts_0 : decode cX0_shuts 0 = .ok (.bipush 8, 2) := dk_16 8 (dk_at dksX0_shuts_0 0 rfl rfl)
theorem dX0_shuts_2 : decode cX0_shuts 2 = .ok (.newarray .int, 2) := dk_188_10 (dk_at dksX0_shuts_0 2 rfl rfl)
theorem dX0_shuts_4 : decode cX0_shuts 4 = .ok (.astore_n 1, 1) := dk_76 (dk_at dksX0_shuts_0 4 rfl rfl)
theorem dX0_shuts_5 : decode cX0_shuts 5 = .ok (.iconst 0, 1) := dk_3 (dk_at dksX0_shuts_0 5 rfl rfl)
theorem dX0_shuts_6 : decode cX0_shuts 6 = .ok (.istore_n 2, 1) := dk_61 (dk_at dksX0_shuts_0 6 rfl rfl)
theorem dX0_shuts_7 : decode cX0_shuts 7 = .ok (.iload_n 2, 1) := dk_28 (dk_at dksX0_shuts_0 7 rfl rfl)
theorem dX0_shuts_8 : decode cX0_shuts 8 = .ok (.aload_n 0, 1) := dk_42 (dk_at dksX0_shuts_0 8 rfl rfl)
theorem dX0_shuts_9 : decode cX0_shuts 9 = .ok (.getfield 81, 3) := dk_180 0 81 (dk_at dksX0_shuts_0 9 rfl rfl)
theorem dX0_shuts_12 : decode cX0_shuts 12 = .ok (.getfield 184, 3) := dk_180 0 184 (dk_at dksX0_shuts_0 12 rfl rfl)
theorem dX0_shuts_15 : decode cX0_shuts 15 = .ok (.if_icmp .ge 44, 3) := dk_162 0 44 (dk_at dksX0_shuts_0 15 rfl rfl)
theorem dX0_shuts_18 : decode cX0_shuts 18 = .ok (.aload_n 0, 1) := dk_42 (dk_at dksX0_shuts_0 18 rfl rfl)
theorem dX0_shuts_19 : decode cX0_shuts 19 = .ok (.getfield 81, 3) := dk_180 0 81 (dk_at dksX0_shuts_0 19 rfl rfl)
theorem dX0_shuts_22 : decode cX0_shuts 22 = .ok (.iload_n 2, 1) := dk_28 (dk_at dksX0_shuts_0 22 rfl rfl)
theorem dX0_shuts_23 : decode cX0_shuts 23 = .ok (.invokevirtual 105, 3) := dk_182 0 105 (dk_at dksX0_shuts_1 0 rfl rfl)
theorem dX0_shuts_26 : decode cX0_shuts 26 = .ok (.ifCond .eq 27, 3) := dk_153 0 27 (dk_at dksX0_shuts_1 3 rfl rfl)
theorem dX0_shuts_29 : decode cX0_shuts 29 = .ok (.aload_n 0, 1) := dk_42 (dk_at dksX0_shuts_1 6 rfl rfl)
theorem dX0_shuts_30 : decode cX0_shuts 30 = .ok (.getfield 81, 3) := dk_180 0 81 (dk_at dksX0_shuts_1 7 rfl rfl)
theorem dX0_shuts_33 : decode cX0_shuts 33 = .ok (.iload_n 2, 1) := dk_28 (dk_at dksX0_shuts_1 10 rfl rfl)
theorem dX0_shuts_34 : decode cX0_shuts 34 = .ok (.invokevirtual 279, 3) := dk_182 1 23 (dk_at dksX0_shuts_1 11 rfl rfl)
theorem dX0_shuts_37 : decode cX0_shuts 37 = .ok (.bipush (-6), 2) := dk_16 250 (dk_at dksX0_shuts_1 14 rfl rfl)
theorem dX0_shuts_39 : decode cX0_shuts 39 = .ok (.invokestatic 98, 3) := dk_184 0 98 (dk_at dksX0_shuts_1 16 rfl rfl)
theorem dX0_shuts_42 : decode cX0_shuts 42 = .ok (.aload_n 1, 1) := dk_43 (dk_at dksX0_shuts_1 19 rfl rfl)
theorem dX0_shuts_43 : decode cX0_shuts 43 = .ok (.iload_n 2, 1) := dk_28 (dk_at dksX0_shuts_1 20 rfl rfl)
theorem dX0_shuts_44 : decode cX0_shuts 44 = .ok (.aload_n 0, 1) := dk_42 (dk_at dksX0_shuts_1 21 rfl rfl)
theorem dX0_shuts_45 : decode cX0_shuts 45 = .ok (.getfield 81, 3) := dk_180 0 81 (dk_at dksX0_shuts_2 0 rfl rfl)
theorem dX0_shuts_48 : decode cX0_shuts 48 = .ok (.iload_n 2, 1) := dk_28 (dk_at dksX0_shuts_2 3 rfl rfl)
theorem dX0_shuts_49 : decode cX0_shuts 49 = .ok (.invokevirtual 282, 3) := dk_182 1 26 (dk_at dksX0_shuts_2 4 rfl rfl)
theorem dX0_shuts_52 : decode cX0_shuts 52 = .ok (.iastore, 1) := dk_79 (dk_at dksX0_shuts_2 7 rfl rfl)
theorem dX0_shuts_53 : decode cX0_shuts 53 = .ok (.iinc 2 1, 3) := dk_132 2 1 (dk_at dksX0_shuts_2 8 rfl rfl)
theorem dX0_shuts_56 : decode cX0_shuts 56 = .ok (.goto (-49), 3) := dk_167 255 207 (dk_at dksX0_shuts_2 11 rfl rfl)
theorem dX0_shuts_59 : decode cX0_shuts 59 = .ok (.aload_n 0, 1) := dk_42 (dk_at dksX0_shuts_2 14 rfl rfl)
theorem dX0_shuts_60 : decode cX0_shuts 60 = .ok (.iconst 0, 1) := dk_3 (dk_at dksX0_shuts_2 15 rfl rfl)
theorem dX0_shuts_61 : decode cX0_shuts 61 = .ok (.invokevirtual 291, 3) := dk_182 1 35 (dk_at dksX0_shuts_2 16 rfl rfl)
theorem dX0_shuts_64 : decode cX0_shuts 64 = .ok (.istore_n 2, 1) := dk_61 (dk_at dksX0_shuts_2 19 rfl rfl)
theorem dX0_shuts_65 : decode cX0_shuts 65 = .ok (.iconst 0, 1) := dk_3 (dk_at dksX0_shuts_2 20 rfl rfl)
theorem dX0_shuts_66 : decode cX0_shuts 66 = .ok (.istore_n 3, 1) := dk_62 (dk_at dksX0_shuts_2 21 rfl rfl)
theorem dX0_shuts_67 : decode cX0_shuts 67 = .ok (.iload_n 3, 1) := dk_29 (dk_at dksX0_shuts_2 22 rfl rfl)
theorem dX0_shuts_68 : decode cX0_shuts 68 = .ok (.aload_n 0, 1) := dk_42 (dk_at dksX0_shuts_2 23 rfl rfl)
theorem dX0_shuts_69 : decode cX0_shuts 69 = .ok (.getfield 81, 3) := dk_180 0 81 (dk_at dksX0_shuts_3 0 rfl rfl)
theorem dX0_shuts_72 : decode cX0_shuts 72 = .ok (.getfield 184, 3) := dk_180 0 184 (dk_at dksX0_shuts_3 3 rfl rfl)
theorem dX0_shuts_75 : decode cX0_shuts 75 = .ok (.if_icmp .ge 24, 3) := dk_162 0 24 (dk_at dksX0_shuts_3 6 rfl rfl)
theorem dX0_shuts_78 : decode cX0_shuts 78 = .ok (.aload_n 0, 1) := dk_42 (dk_at dksX0_shuts_3 9 rfl rfl)
theorem dX0_shuts_79 : decode cX0_shuts 79 = .ok (.getfield 81, 3) := dk_180 0 81 (dk_at dksX0_shuts_3 10 rfl rfl)
theorem dX0_shuts_82 : decode cX0_shuts 82 = .ok (.getfield 227, 3) := dk_180 0 227 (dk_at dksX0_shuts_3 13 rfl rfl)
theorem dX0_shuts_85 : decode cX0_shuts 85 = .ok (.iload_n 3, 1) := dk_29 (dk_at dksX0_shuts_3 16 rfl rfl)
theorem dX0_shuts_86 : decode cX0_shuts 86 = .ok (.dup2, 1) := dk_92 (dk_at dksX0_shuts_3 17 rfl rfl)
theorem dX0_shuts_87 : decode cX0_shuts 87 = .ok (.iaload, 1) := dk_46 (dk_at dksX0_shuts_3 18 rfl rfl)
theorem dX0_shuts_88 : decode cX0_shuts 88 = .ok (.aload_n 1, 1) := dk_43 (dk_at dksX0_shuts_3 19 rfl rfl)
theorem dX0_shuts_89 : decode cX0_shuts 89 = .ok (.iload_n 3, 1) := dk_29 (dk_at dksX0_shuts_3 20 rfl rfl)
theorem dX0_shuts_90 : decode cX0_shuts 90 = .ok (.iaload, 1) := dk_46 (dk_at dksX0_shuts_3 21 rfl rfl)
theorem dX0_shuts_91 : decode cX0_shuts 91 = .ok (.ior, 1) := dk_128 (dk_at dksX0_shuts_3 22 rfl rfl)
theorem dX0_shuts_92 : decode cX0_shuts 92 = .ok (.iastore, 1) := dk_79 (dk_at dksX0_shuts_3 23 rfl rfl)
theorem dX0_shuts_93 : decode cX0_shuts 93 = .ok (.iinc 3 1, 3) := dk_132 3 1 (dk_at dksX0_shuts_4 0 rfl rfl)
theorem dX0_shuts_96 : decode cX0_shuts 96 = .ok (.goto (-29), 3) := dk_167 255 227 (dk_at dksX0_shuts_4 3 rfl rfl)
theorem dX0_shuts_99 : decode cX0_shuts 99 = .ok (.iload_n 2, 1) := dk_28 (dk_at dksX0_shuts_4 6 rfl rfl)
theorem dX0_shuts_100 : decode cX0_shuts 100 = .ok (.ireturn, 1) := dk_172 (dk_at dksX0_shuts_4 7 rfl rfl)
theorem dX0_shuts_101 : decode cX0_shuts 101 = .ok (.astore_n 1, 1) := dk_76 (dk_at dksX0_shuts_4 8 rfl rfl)
theorem dX0_shuts_102 : decode cX0_shuts 102 = .ok (.aload_n 0, 1) := dk_42 (dk_at dksX0_shuts_4 9 rfl rfl)
theorem dX0_shuts_103 : decode cX0_shuts 103 = .ok (.aload_n 1, 1) := dk_43 (dk_at dksX0_shuts_4 10 rfl rfl)
theorem dX0_shuts_104 : decode cX0_shuts 104 = .ok (.invokevirtual 150, 3) := dk_182 0 150 (dk_at dksX0_shuts_4 11 rfl rfl)
theorem dX0_shuts_107 : decode cX0_shuts 107 = .ok (.ireturn, 1) := dk_172 (dk_at dksX0_shuts_4 14 rfl rfl)
abbrev cX0_opens : ByteArray := prog_1_method_38_code
def yX0_opens : MethodName := ⟨RX0, "opens", "()I"⟩
def dkwX0_opens_2 : List UInt8 := [167, 255, 232, 42, 180, 0, 81, 3, 181, 0, 213, 27, 172]
abbrev dktX0_opens_2 : List UInt8 := dkwX0_opens_2 ++ []
def dkwX0_opens_1 : List UInt8 := [180, 0, 81, 180, 0, 184, 162, 0, 19, 42, 180, 0, 81, 180, 0, 227, 28, 3, 79, 132, 2, 1]
abbrev dktX0_opens_1 : List UInt8 := dkwX0_opens_1 ++ dktX0_opens_2
def dkwX0_opens_0 : List UInt8 := [42, 180, 0, 81, 182, 1, 38, 42, 180, 0, 81, 180, 0, 213, 184, 1, 29, 96, 60, 3, 61, 28, 42]
abbrev dktX0_opens_0 : List UInt8 := dkwX0_opens_0 ++ dktX0_opens_1
theorem dksX0_opens_0 : cX0_opens.data.toList.drop 0 = dktX0_opens_0 := by decide +kernel
theorem dksX0_opens_1 : cX0_opens.data.toList.drop 23 = dktX0_opens_1 := dk_seg dksX0_opens_0 23 rfl rfl
theorem dksX0_opens_2 : cX0_opens.data.toList.drop 45 = dktX0_opens_2 := dk_seg dksX0_opens_1 22 rfl rfl
theorem dX0_opens_0 : decode cX0_opens 0 = .ok (.aload_n 0, 1) := dk_42 (dk_at dksX0_opens_0 0 rfl rfl)
theorem dX0_opens_1 : decode cX0_opens 1 = .ok (.getfield 81, 3) := dk_180 0 81 (dk_at dksX0_opens_0 1 rfl rfl)
theorem dX0_opens_4 : decode cX0_opens 4 = .ok (.invokevirtual 294, 3) := dk_182 1 38 (dk_at dksX0_opens_0 4 rfl rfl)
theorem dX0_opens_7 : decode cX0_opens 7 = .ok (.aload_n 0, 1) := dk_42 (dk_at dksX0_opens_0 7 rfl rfl)
theorem dX0_opens_8 : decode cX0_opens 8 = .ok (.getfield 81, 3) := dk_180 0 81 (dk_at dksX0_opens_0 8 rfl rfl)
theorem dX0_opens_11 : decode cX0_opens 11 = .ok (.getfield 213, 3) := dk_180 0 213 (dk_at dksX0_opens_0 11 rfl rfl)
theorem dX0_opens_14 : decode cX0_opens 14 = .ok (.invokestatic 285, 3) := dk_184 1 29 (dk_at dksX0_opens_0 14 rfl rfl)
theorem dX0_opens_17 : decode cX0_opens 17 = .ok (.iadd, 1) := dk_96 (dk_at dksX0_opens_0 17 rfl rfl)
theorem dX0_opens_18 : decode cX0_opens 18 = .ok (.istore_n 1, 1) := dk_60 (dk_at dksX0_opens_0 18 rfl rfl)
theorem dX0_opens_19 : decode cX0_opens 19 = .ok (.iconst 0, 1) := dk_3 (dk_at dksX0_opens_0 19 rfl rfl)
theorem dX0_opens_20 : decode cX0_opens 20 = .ok (.istore_n 2, 1) := dk_61 (dk_at dksX0_opens_0 20 rfl rfl)
theorem dX0_opens_21 : decode cX0_opens 21 = .ok (.iload_n 2, 1) := dk_28 (dk_at dksX0_opens_0 21 rfl rfl)
theorem dX0_opens_22 : decode cX0_opens 22 = .ok (.aload_n 0, 1) := dk_42 (dk_at dksX0_opens_0 22 rfl rfl)
theorem dX0_opens_23 : decode cX0_opens 23 = .ok (.getfield 81, 3) := dk_180 0 81 (dk_at dksX0_opens_1 0 rfl rfl)
theorem dX0_opens_26 : decode cX0_opens 26 = .ok (.getfield 184, 3) := dk_180 0 184 (dk_at dksX0_opens_1 3 rfl rfl)
theorem dX0_opens_29 : decode cX0_opens 29 = .ok (.if_icmp .ge 19, 3) := dk_162 0 19 (dk_at dksX0_opens_1 6 rfl rfl)
theorem dX0_opens_32 : decode cX0_opens 32 = .ok (.aload_n 0, 1) := dk_42 (dk_at dksX0_opens_1 9 rfl rfl)
theorem dX0_opens_33 : decode cX0_opens 33 = .ok (.getfield 81, 3) := dk_180 0 81 (dk_at dksX0_opens_1 10 rfl rfl)
theorem dX0_opens_36 : decode cX0_opens 36 = .ok (.getfield 227, 3) := dk_180 0 227 (dk_at dksX0_opens_1 13 rfl rfl)
theorem dX0_opens_39 : decode cX0_opens 39 = .ok (.iload_n 2, 1) := dk_28 (dk_at dksX0_opens_1 16 rfl rfl)
theorem dX0_opens_40 : decode cX0_opens 40 = .ok (.iconst 0, 1) := dk_3 (dk_at dksX0_opens_1 17 rfl rfl)
theorem dX0_opens_41 : decode cX0_opens 41 = .ok (.iastore, 1) := dk_79 (dk_at dksX0_opens_1 18 rfl rfl)
theorem dX0_opens_42 : decode cX0_opens 42 = .ok (.iinc 2 1, 3) := dk_132 2 1 (dk_at dksX0_opens_1 19 rfl rfl)
theorem dX0_opens_45 : decode cX0_opens 45 = .ok (.goto (-24), 3) := dk_167 255 232 (dk_at dksX0_opens_2 0 rfl rfl)
theorem dX0_opens_48 : decode cX0_opens 48 = .ok (.aload_n 0, 1) := dk_42 (dk_at dksX0_opens_2 3 rfl rfl)
theorem dX0_opens_49 : decode cX0_opens 49 = .ok (.getfield 81, 3) := dk_180 0 81 (dk_at dksX0_opens_2 4 rfl rfl)
theorem dX0_opens_52 : decode cX0_opens 52 = .ok (.iconst 0, 1) := dk_3 (dk_at dksX0_opens_2 7 rfl rfl)
theorem dX0_opens_53 : decode cX0_opens 53 = .ok (.putfield 213, 3) := dk_181 0 213 (dk_at dksX0_opens_2 8 rfl rfl)
theorem dX0_opens_56 : decode cX0_opens 56 = .ok (.iload_n 1, 1) := dk_27 (dk_at dksX0_opens_2 11 rfl rfl)
theorem dX0_opens_57 : decode cX0_opens 57 = .ok (.ireturn, 1) := dk_172 (dk_at dksX0_opens_2 12 rfl rfl)
abbrev cX0_curtains : ByteArray := prog_1_method_42_code
def yX0_curtains : MethodName := ⟨RX0, "curtains", "(I)I"⟩
def dkwX0_curtains_7 : List UInt8 := [167, 0, 5, 21, 5, 172, 77, 42, 44, 182, 0, 150, 172]
abbrev dktX0_curtains_7 : List UInt8 := dkwX0_curtains_7 ++ []
def dkwX0_curtains_6 : List UInt8 := [21, 7, 54, 4, 21, 8, 54, 5, 132, 7, 1, 167, 255, 172, 27, 5, 112, 154, 0, 8, 21, 4]
abbrev dktX0_curtains_6 : List UInt8 := dkwX0_curtains_6 ++ dktX0_curtains_7
def dkwX0_curtains_5 : List UInt8 := [163, 0, 23, 21, 8, 21, 5, 160, 0, 24, 21, 7, 184, 1, 29, 21, 4, 184, 1, 29, 162, 0, 11]
abbrev dktX0_curtains_5 : List UInt8 := dkwX0_curtains_5 ++ dktX0_curtains_6
def dkwX0_curtains_4 : List UInt8 := [5, 162, 0, 7, 3, 167, 0, 10, 42, 21, 7, 45, 182, 1, 52, 96, 54, 8, 21, 8, 21, 5]
abbrev dktX0_curtains_4 : List UInt8 := dkwX0_curtains_4 ++ dktX0_curtains_5
def dkwX0_curtains_3 : List UInt8 := [163, 0, 83, 21, 7, 21, 6, 2, 130, 126, 153, 0, 6, 167, 0, 64, 42, 21, 7, 44, 182, 1, 52, 27]
abbrev dktX0_curtains_3 : List UInt8 := dkwX0_curtains_3 ++ dktX0_curtains_4
def dkwX0_curtains_2 : List UInt8 := [3, 54, 4, 2, 54, 5, 42, 180, 0, 81, 182, 1, 10, 54, 6, 3, 54, 7, 21, 7, 21, 6]
abbrev dktX0_curtains_2 : List UInt8 := dkwX0_curtains_2 ++ dktX0_curtains_3
def dkwX0_curtains_1 : List UInt8 := [182, 1, 48, 77, 42, 42, 180, 0, 81, 180, 0, 216, 154, 0, 7, 4, 167, 0, 4, 3, 182, 1, 48, 78]
abbrev dktX0_curtains_1 : List UInt8 := dkwX0_curtains_1 ++ dktX0_curtains_2
def dkwX0_curtains_0 : List UInt8 := [27, 133, 9, 20, 0, 140, 184, 0, 142, 16, 251, 184, 0, 98, 42, 42, 180, 0, 81, 180, 0, 216]
abbrev dktX0_curtains_0 : List UInt8 := dkwX0_curtains_0 ++ dktX0_curtains_1
theorem dksX0_curtains_0 : cX0_curtains.data.toList.drop 0 = dktX0_curtains_0 := by decide +kernel
theorem dksX0_curtains_1 : cX0_curtains.data.toList.drop 22 = dktX0_curtains_1 := dk_seg dksX0_curtains_0 22 rfl rfl
theorem dksX0_curtains_2 : cX0_curtains.data.toList.drop 46 = dktX0_curtains_2 := dk_seg dksX0_curtains_1 24 rfl rfl
theorem dksX0_curtains_3 : cX0_curtains.data.toList.drop 68 = dktX0_curtains_3 := dk_seg dksX0_curtains_2 22 rfl rfl
theorem dksX0_curtains_4 : cX0_curtains.data.toList.drop 92 = dktX0_curtains_4 := dk_seg dksX0_curtains_3 24 rfl rfl
theorem dksX0_curtains_5 : cX0_curtains.data.toList.drop 114 = dktX0_curtains_5 := dk_seg dksX0_curtains_4 22 rfl rfl
theorem dksX0_curtains_6 : cX0_curtains.data.toList.drop 137 = dktX0_curtains_6 := dk_seg dksX0_curtains_5 23 rfl rfl
theorem dksX0_curtains_7 : cX0_curtains.data.toList.drop 159 = dktX0_curtains_7 := dk_seg dksX0_curtains_6 22 rfl rfl
theorem dX0_curtains_0 : decode cX0_curtains 0 = .ok (.iload_n 1, 1) := dk_27 (dk_at dksX0_curtains_0 0 rfl rfl)
theorem dX0_curtains_1 : decode cX0_curtains 1 = .ok (.i2l, 1) := dk_133 (dk_at dksX0_curtains_0 1 rfl rfl)
theorem dX0_curtains_2 : decode cX0_curtains 2 = .ok (.lconst 0, 1) := dk_9 (dk_at dksX0_curtains_0 2 rfl rfl)
theorem dX0_curtains_3 : decode cX0_curtains 3 = .ok (.ldc2_w 140, 3) := dk_20 0 140 (dk_at dksX0_curtains_0 3 rfl rfl)
theorem dX0_curtains_6 : decode cX0_curtains 6 = .ok (.invokestatic 142, 3) := dk_184 0 142 (dk_at dksX0_curtains_0 6 rfl rfl)
theorem dX0_curtains_9 : decode cX0_curtains 9 = .ok (.bipush (-5), 2) := dk_16 251 (dk_at dksX0_curtains_0 9 rfl rfl)
theorem dX0_curtains_11 : decode cX0_curtains 11 = .ok (.invokestatic 98, 3) := dk_184 0 98 (dk_at dksX0_curtains_0 11 rfl rfl)
theorem dX0_curtains_14 : decode cX0_curtains 14 = .ok (.aload_n 0, 1) := dk_42 (dk_at dksX0_curtains_0 14 rfl rfl)
theorem dX0_curtains_15 : decode cX0_curtains 15 = .ok (.aload_n 0, 1) := dk_42 (dk_at dksX0_curtains_0 15 rfl rfl)
theorem dX0_curtains_16 : decode cX0_curtains 16 = .ok (.getfield 81, 3) := dk_180 0 81 (dk_at dksX0_curtains_0 16 rfl rfl)
theorem dX0_curtains_19 : decode cX0_curtains 19 = .ok (.getfield 216, 3) := dk_180 0 216 (dk_at dksX0_curtains_0 19 rfl rfl)
theorem dX0_curtains_22 : decode cX0_curtains 22 = .ok (.invokevirtual 304, 3) := dk_182 1 48 (dk_at dksX0_curtains_1 0 rfl rfl)
theorem dX0_curtains_25 : decode cX0_curtains 25 = .ok (.astore_n 2, 1) := dk_77 (dk_at dksX0_curtains_1 3 rfl rfl)
theorem dX0_curtains_26 : decode cX0_curtains 26 = .ok (.aload_n 0, 1) := dk_42 (dk_at dksX0_curtains_1 4 rfl rfl)
theorem dX0_curtains_27 : decode cX0_curtains 27 = .ok (.aload_n 0, 1) := dk_42 (dk_at dksX0_curtains_1 5 rfl rfl)
theorem dX0_curtains_28 : decode cX0_curtains 28 = .ok (.getfield 81, 3) := dk_180 0 81 (dk_at dksX0_curtains_1 6 rfl rfl)
theorem dX0_curtains_31 : decode cX0_curtains 31 = .ok (.getfield 216, 3) := dk_180 0 216 (dk_at dksX0_curtains_1 9 rfl rfl)
theorem dX0_curtains_34 : decode cX0_curtains 34 = .ok (.ifCond .ne 7, 3) := dk_154 0 7 (dk_at dksX0_curtains_1 12 rfl rfl)
theorem dX0_curtains_37 : decode cX0_curtains 37 = .ok (.iconst 1, 1) := dk_4 (dk_at dksX0_curtains_1 15 rfl rfl)
theorem dX0_curtains_38 : decode cX0_curtains 38 = .ok (.goto 4, 3) := dk_167 0 4 (dk_at dksX0_curtains_1 16 rfl rfl)
theorem dX0_curtains_41 : decode cX0_curtains 41 = .ok (.iconst 0, 1) := dk_3 (dk_at dksX0_curtains_1 19 rfl rfl)
theorem dX0_curtains_42 : decode cX0_curtains 42 = .ok (.invokevirtual 304, 3) := dk_182 1 48 (dk_at dksX0_curtains_1 20 rfl rfl)
theorem dX0_curtains_45 : decode cX0_curtains 45 = .ok (.astore_n 3, 1) := dk_78 (dk_at dksX0_curtains_1 23 rfl rfl)
theorem dX0_curtains_46 : decode cX0_curtains 46 = .ok (.iconst 0, 1) := dk_3 (dk_at dksX0_curtains_2 0 rfl rfl)
theorem dX0_curtains_47 : decode cX0_curtains 47 = .ok (.istore 4, 2) := dk_54 4 (dk_at dksX0_curtains_2 1 rfl rfl)
theorem dX0_curtains_49 : decode cX0_curtains 49 = .ok (.iconst (-1), 1) := dk_2 (dk_at dksX0_curtains_2 3 rfl rfl)
theorem dX0_curtains_50 : decode cX0_curtains 50 = .ok (.istore 5, 2) := dk_54 5 (dk_at dksX0_curtains_2 4 rfl rfl)
theorem dX0_curtains_52 : decode cX0_curtains 52 = .ok (.aload_n 0, 1) := dk_42 (dk_at dksX0_curtains_2 6 rfl rfl)
theorem dX0_curtains_53 : decode cX0_curtains 53 = .ok (.getfield 81, 3) := dk_180 0 81 (dk_at dksX0_curtains_2 7 rfl rfl)
theorem dX0_curtains_56 : decode cX0_curtains 56 = .ok (.invokevirtual 266, 3) := dk_182 1 10 (dk_at dksX0_curtains_2 10 rfl rfl)
theorem dX0_curtains_59 : decode cX0_curtains 59 = .ok (.istore 6, 2) := dk_54 6 (dk_at dksX0_curtains_2 13 rfl rfl)
theorem dX0_curtains_61 : decode cX0_curtains 61 = .ok (.iconst 0, 1) := dk_3 (dk_at dksX0_curtains_2 15 rfl rfl)
theorem dX0_curtains_62 : decode cX0_curtains 62 = .ok (.istore 7, 2) := dk_54 7 (dk_at dksX0_curtains_2 16 rfl rfl)
theorem dX0_curtains_64 : decode cX0_curtains 64 = .ok (.iload 7, 2) := dk_21 7 (dk_at dksX0_curtains_2 18 rfl rfl)
theorem dX0_curtains_66 : decode cX0_curtains 66 = .ok (.iload 6, 2) := dk_21 6 (dk_at dksX0_curtains_2 20 rfl rfl)
theorem dX0_curtains_68 : decode cX0_curtains 68 = .ok (.if_icmp .gt 83, 3) := dk_163 0 83 (dk_at dksX0_curtains_3 0 rfl rfl)
theorem dX0_curtains_71 : decode cX0_curtains 71 = .ok (.iload 7, 2) := dk_21 7 (dk_at dksX0_curtains_3 3 rfl rfl)
theorem dX0_curtains_73 : decode cX0_curtains 73 = .ok (.iload 6, 2) := dk_21 6 (dk_at dksX0_curtains_3 5 rfl rfl)
theorem dX0_curtains_75 : decode cX0_curtains 75 = .ok (.iconst (-1), 1) := dk_2 (dk_at dksX0_curtains_3 7 rfl rfl)
theorem dX0_curtains_76 : decode cX0_curtains 76 = .ok (.ixor, 1) := dk_130 (dk_at dksX0_curtains_3 8 rfl rfl)
theorem dX0_curtains_77 : decode cX0_curtains 77 = .ok (.iand, 1) := dk_126 (dk_at dksX0_curtains_3 9 rfl rfl)
theorem dX0_curtains_78 : decode cX0_curtains 78 = .ok (.ifCond .eq 6, 3) := dk_153 0 6 (dk_at dksX0_curtains_3 10 rfl rfl)
theorem dX0_curtains_81 : decode cX0_curtains 81 = .ok (.goto 64, 3) := dk_167 0 64 (dk_at dksX0_curtains_3 13 rfl rfl)
theorem dX0_curtains_84 : decode cX0_curtains 84 = .ok (.aload_n 0, 1) := dk_42 (dk_at dksX0_curtains_3 16 rfl rfl)
theorem dX0_curtains_85 : decode cX0_curtains 85 = .ok (.iload 7, 2) := dk_21 7 (dk_at dksX0_curtains_3 17 rfl rfl)
theorem dX0_curtains_87 : decode cX0_curtains 87 = .ok (.aload_n 2, 1) := dk_44 (dk_at dksX0_curtains_3 19 rfl rfl)
theorem dX0_curtains_88 : decode cX0_curtains 88 = .ok (.invokevirtual 308, 3) := dk_182 1 52 (dk_at dksX0_curtains_3 20 rfl rfl)
theorem dX0_curtains_91 : decode cX0_curtains 91 = .ok (.iload_n 1, 1) := dk_27 (dk_at dksX0_curtains_3 23 rfl rfl)
theorem dX0_curtains_92 : decode cX0_curtains 92 = .ok (.iconst 2, 1) := dk_5 (dk_at dksX0_curtains_4 0 rfl rfl)
theorem dX0_curtains_93 : decode cX0_curtains 93 = .ok (.if_icmp .ge 7, 3) := dk_162 0 7 (dk_at dksX0_curtains_4 1 rfl rfl)
theorem dX0_curtains_96 : decode cX0_curtains 96 = .ok (.iconst 0, 1) := dk_3 (dk_at dksX0_curtains_4 4 rfl rfl)
theorem dX0_curtains_97 : decode cX0_curtains 97 = .ok (.goto 10, 3) := dk_167 0 10 (dk_at dksX0_curtains_4 5 rfl rfl)
theorem dX0_curtains_100 : decode cX0_curtains 100 = .ok (.aload_n 0, 1) := dk_42 (dk_at dksX0_curtains_4 8 rfl rfl)
theorem dX0_curtains_101 : decode cX0_curtains 101 = .ok (.iload 7, 2) := dk_21 7 (dk_at dksX0_curtains_4 9 rfl rfl)
theorem dX0_curtains_103 : decode cX0_curtains 103 = .ok (.aload_n 3, 1) := dk_45 (dk_at dksX0_curtains_4 11 rfl rfl)
theorem dX0_curtains_104 : decode cX0_curtains 104 = .ok (.invokevirtual 308, 3) := dk_182 1 52 (dk_at dksX0_curtains_4 12 rfl rfl)
theorem dX0_curtains_107 : decode cX0_curtains 107 = .ok (.iadd, 1) := dk_96 (dk_at dksX0_curtains_4 15 rfl rfl)
theorem dX0_curtains_108 : decode cX0_curtains 108 = .ok (.istore 8, 2) := dk_54 8 (dk_at dksX0_curtains_4 16 rfl rfl)
theorem dX0_curtains_110 : decode cX0_curtains 110 = .ok (.iload 8, 2) := dk_21 8 (dk_at dksX0_curtains_4 18 rfl rfl)
theorem dX0_curtains_112 : decode cX0_curtains 112 = .ok (.iload 5, 2) := dk_21 5 (dk_at dksX0_curtains_4 20 rfl rfl)
theorem dX0_curtains_114 : decode cX0_curtains 114 = .ok (.if_icmp .gt 23, 3) := dk_163 0 23 (dk_at dksX0_curtains_5 0 rfl rfl)
theorem dX0_curtains_117 : decode cX0_curtains 117 = .ok (.iload 8, 2) := dk_21 8 (dk_at dksX0_curtains_5 3 rfl rfl)
theorem dX0_curtains_119 : decode cX0_curtains 119 = .ok (.iload 5, 2) := dk_21 5 (dk_at dksX0_curtains_5 5 rfl rfl)
theorem dX0_curtains_121 : decode cX0_curtains 121 = .ok (.if_icmp .ne 24, 3) := dk_160 0 24 (dk_at dksX0_curtains_5 7 rfl rfl)
theorem dX0_curtains_124 : decode cX0_curtains 124 = .ok (.iload 7, 2) := dk_21 7 (dk_at dksX0_curtains_5 10 rfl rfl)
theorem dX0_curtains_126 : decode cX0_curtains 126 = .ok (.invokestatic 285, 3) := dk_184 1 29 (dk_at dksX0_curtains_5 12 rfl rfl)
theorem dX0_curtains_129 : decode cX0_curtains 129 = .ok (.iload 4, 2) := dk_21 4 (dk_at dksX0_curtains_5 15 rfl rfl)
theorem dX0_curtains_131 : decode cX0_curtains 131 = .ok (.invokestatic 285, 3) := dk_184 1 29 (dk_at dksX0_curtains_5 17 rfl rfl)
theorem dX0_curtains_134 : decode cX0_curtains 134 = .ok (.if_icmp .ge 11, 3) := dk_162 0 11 (dk_at dksX0_curtains_5 20 rfl rfl)
theorem dX0_curtains_137 : decode cX0_curtains 137 = .ok (.iload 7, 2) := dk_21 7 (dk_at dksX0_curtains_6 0 rfl rfl)
theorem dX0_curtains_139 : decode cX0_curtains 139 = .ok (.istore 4, 2) := dk_54 4 (dk_at dksX0_curtains_6 2 rfl rfl)
theorem dX0_curtains_141 : decode cX0_curtains 141 = .ok (.iload 8, 2) := dk_21 8 (dk_at dksX0_curtains_6 4 rfl rfl)
theorem dX0_curtains_143 : decode cX0_curtains 143 = .ok (.istore 5, 2) := dk_54 5 (dk_at dksX0_curtains_6 6 rfl rfl)
theorem dX0_curtains_145 : decode cX0_curtains 145 = .ok (.iinc 7 1, 3) := dk_132 7 1 (dk_at dksX0_curtains_6 8 rfl rfl)
theorem dX0_curtains_148 : decode cX0_curtains 148 = .ok (.goto (-84), 3) := dk_167 255 172 (dk_at dksX0_curtains_6 11 rfl rfl)
theorem dX0_curtains_151 : decode cX0_curtains 151 = .ok (.iload_n 1, 1) := dk_27 (dk_at dksX0_curtains_6 14 rfl rfl)
theorem dX0_curtains_152 : decode cX0_curtains 152 = .ok (.iconst 2, 1) := dk_5 (dk_at dksX0_curtains_6 15 rfl rfl)
theorem dX0_curtains_153 : decode cX0_curtains 153 = .ok (.irem, 1) := dk_112 (dk_at dksX0_curtains_6 16 rfl rfl)
theorem dX0_curtains_154 : decode cX0_curtains 154 = .ok (.ifCond .ne 8, 3) := dk_154 0 8 (dk_at dksX0_curtains_6 17 rfl rfl)
theorem dX0_curtains_157 : decode cX0_curtains 157 = .ok (.iload 4, 2) := dk_21 4 (dk_at dksX0_curtains_6 20 rfl rfl)
theorem dX0_curtains_159 : decode cX0_curtains 159 = .ok (.goto 5, 3) := dk_167 0 5 (dk_at dksX0_curtains_7 0 rfl rfl)
theorem dX0_curtains_162 : decode cX0_curtains 162 = .ok (.iload 5, 2) := dk_21 5 (dk_at dksX0_curtains_7 3 rfl rfl)
theorem dX0_curtains_164 : decode cX0_curtains 164 = .ok (.ireturn, 1) := dk_172 (dk_at dksX0_curtains_7 5 rfl rfl)
theorem dX0_curtains_165 : decode cX0_curtains 165 = .ok (.astore_n 2, 1) := dk_77 (dk_at dksX0_curtains_7 6 rfl rfl)
theorem dX0_curtains_166 : decode cX0_curtains 166 = .ok (.aload_n 0, 1) := dk_42 (dk_at dksX0_curtains_7 7 rfl rfl)
theorem dX0_curtains_167 : decode cX0_curtains 167 = .ok (.aload_n 2, 1) := dk_44 (dk_at dksX0_curtains_7 8 rfl rfl)
theorem dX0_curtains_168 : decode cX0_curtains 168 = .ok (.invokevirtual 150, 3) := dk_182 0 150 (dk_at dksX0_curtains_7 9 rfl rfl)
theorem dX0_curtains_171 : decode cX0_curtains 171 = .ok (.ireturn, 1) := dk_172 (dk_at dksX0_curtains_7 12 rfl rfl)
abbrev cX0_allInto : ByteArray := prog_1_method_41_code
def yX0_allInto : MethodName := ⟨RX0, "allInto", "(Z)[I"⟩
def dkwX0_allInto_2 : List UInt8 := [44, 176]
abbrev dktX0_allInto_2 : List UInt8 := dkwX0_allInto_2 ++ []
def dkwX0_allInto_1 : List UInt8 := [29, 182, 0, 105, 153, 0, 12, 42, 29, 27, 182, 1, 44, 167, 0, 4, 3, 79, 132, 3, 1, 167, 255, 218]
abbrev dktX0_allInto_1 : List UInt8 := dkwX0_allInto_1 ++ dktX0_allInto_2
def dkwX0_allInto_0 : List UInt8 := [16, 8, 188, 10, 77, 3, 62, 29, 42, 180, 0, 81, 180, 0, 184, 162, 0, 33, 44, 29, 42, 180, 0, 81]
abbrev dktX0_allInto_0 : List UInt8 := dkwX0_allInto_0 ++ dktX0_allInto_1
theorem dksX0_allInto_0 : cX0_allInto.data.toList.drop 0 = dktX0_allInto_0 := by decide +kernel
theorem dksX0_allInto_1 : cX0_allInto.data.toList.drop 24 = dktX0_allInto_1 := dk_seg dksX0_allInto_0 24 rfl rfl
theorem dksX0_allInto_2 : cX0_allInto.data.toList.drop 48 = dktX0_allInto_2 := dk_seg dksX0_allInto_1 24 rfl rfl
theorem dX0_allInto_0 : decode cX0_allInto 0 = .ok (.bipush 8, 2) := dk_16 8 (dk_at dksX0_allInto_0 0 rfl rfl)
theorem dX0_allInto_2 : decode cX0_allInto 2 = .ok (.newarray .int, 2) := dk_188_10 (dk_at dksX0_allInto_0 2 rfl rfl)
theorem dX0_allInto_4 : decode cX0_allInto 4 = .ok (.astore_n 2, 1) := dk_77 (dk_at dksX0_allInto_0 4 rfl rfl)
theorem dX0_allInto_5 : decode cX0_allInto 5 = .ok (.iconst 0, 1) := dk_3 (dk_at dksX0_allInto_0 5 rfl rfl)
theorem dX0_allInto_6 : decode cX0_allInto 6 = .ok (.istore_n 3, 1) := dk_62 (dk_at dksX0_allInto_0 6 rfl rfl)
theorem dX0_allInto_7 : decode cX0_allInto 7 = .ok (.iload_n 3, 1) := dk_29 (dk_at dksX0_allInto_0 7 rfl rfl)
theorem dX0_allInto_8 : decode cX0_allInto 8 = .ok (.aload_n 0, 1) := dk_42 (dk_at dksX0_allInto_0 8 rfl rfl)
theorem dX0_allInto_9 : decode cX0_allInto 9 = .ok (.getfield 81, 3) := dk_180 0 81 (dk_at dksX0_allInto_0 9 rfl rfl)
theorem dX0_allInto_12 : decode cX0_allInto 12 = .ok (.getfield 184, 3) := dk_180 0 184 (dk_at dksX0_allInto_0 12 rfl rfl)
theorem dX0_allInto_15 : decode cX0_allInto 15 = .ok (.if_icmp .ge 33, 3) := dk_162 0 33 (dk_at dksX0_allInto_0 15 rfl rfl)
theorem dX0_allInto_18 : decode cX0_allInto 18 = .ok (.aload_n 2, 1) := dk_44 (dk_at dksX0_allInto_0 18 rfl rfl)
theorem dX0_allInto_19 : decode cX0_allInto 19 = .ok (.iload_n 3, 1) := dk_29 (dk_at dksX0_allInto_0 19 rfl rfl)
theorem dX0_allInto_20 : decode cX0_allInto 20 = .ok (.aload_n 0, 1) := dk_42 (dk_at dksX0_allInto_0 20 rfl rfl)
theorem dX0_allInto_21 : decode cX0_allInto 21 = .ok (.getfield 81, 3) := dk_180 0 81 (dk_at dksX0_allInto_0 21 rfl rfl)
theorem dX0_allInto_24 : decode cX0_allInto 24 = .ok (.iload_n 3, 1) := dk_29 (dk_at dksX0_allInto_1 0 rfl rfl)
theorem dX0_allInto_25 : decode cX0_allInto 25 = .ok (.invokevirtual 105, 3) := dk_182 0 105 (dk_at dksX0_allInto_1 1 rfl rfl)
theorem dX0_allInto_28 : decode cX0_allInto 28 = .ok (.ifCond .eq 12, 3) := dk_153 0 12 (dk_at dksX0_allInto_1 4 rfl rfl)
theorem dX0_allInto_31 : decode cX0_allInto 31 = .ok (.aload_n 0, 1) := dk_42 (dk_at dksX0_allInto_1 7 rfl rfl)
theorem dX0_allInto_32 : decode cX0_allInto 32 = .ok (.iload_n 3, 1) := dk_29 (dk_at dksX0_allInto_1 8 rfl rfl)
theorem dX0_allInto_33 : decode cX0_allInto 33 = .ok (.iload_n 1, 1) := dk_27 (dk_at dksX0_allInto_1 9 rfl rfl)
theorem dX0_allInto_34 : decode cX0_allInto 34 = .ok (.invokevirtual 300, 3) := dk_182 1 44 (dk_at dksX0_allInto_1 10 rfl rfl)
theorem dX0_allInto_37 : decode cX0_allInto 37 = .ok (.goto 4, 3) := dk_167 0 4 (dk_at dksX0_allInto_1 13 rfl rfl)
theorem dX0_allInto_40 : decode cX0_allInto 40 = .ok (.iconst 0, 1) := dk_3 (dk_at dksX0_allInto_1 16 rfl rfl)
theorem dX0_allInto_41 : decode cX0_allInto 41 = .ok (.iastore, 1) := dk_79 (dk_at dksX0_allInto_1 17 rfl rfl)
theorem dX0_allInto_42 : decode cX0_allInto 42 = .ok (.iinc 3 1, 3) := dk_132 3 1 (dk_at dksX0_allInto_1 18 rfl rfl)
theorem dX0_allInto_45 : decode cX0_allInto 45 = .ok (.goto (-38), 3) := dk_167 255 218 (dk_at dksX0_allInto_1 21 rfl rfl)
theorem dX0_allInto_48 : decode cX0_allInto 48 = .ok (.aload_n 2, 1) := dk_44 (dk_at dksX0_allInto_2 0 rfl rfl)
theorem dX0_allInto_49 : decode cX0_allInto 49 = .ok (.areturn, 1) := dk_176 (dk_at dksX0_allInto_2 1 rfl rfl)
abbrev cX0_mayInto : ByteArray := prog_1_method_39_code
def yX0_mayInto : MethodName := ⟨RX0, "mayInto", "(IZ)I"⟩
def dkwX0_mayInto_1 : List UInt8 := [180, 0, 77, 27, 182, 1, 4, 172]
abbrev dktX0_mayInto_1 : List UInt8 := dkwX0_mayInto_1 ++ []
def dkwX0_mayInto_0 : List UInt8 := [42, 180, 0, 77, 42, 180, 0, 81, 182, 0, 233, 28, 181, 0, 216, 42, 180, 0, 77, 3, 181, 0, 213, 42]
abbrev dktX0_mayInto_0 : List UInt8 := dkwX0_mayInto_0 ++ dktX0_mayInto_1
theorem dksX0_mayInto_0 : cX0_mayInto.data.toList.drop 0 = dktX0_mayInto_0 := by decide +kernel
theorem dksX0_mayInto_1 : cX0_mayInto.data.toList.drop 24 = dktX0_mayInto_1 := dk_seg dksX0_mayInto_0 24 rfl rfl
theorem dX0_mayInto_0 : decode cX0_mayInto 0 = .ok (.aload_n 0, 1) := dk_42 (dk_at dksX0_mayInto_0 0 rfl rfl)
theorem dX0_mayInto_1 : decode cX0_mayInto 1 = .ok (.getfield 77, 3) := dk_180 0 77 (dk_at dksX0_mayInto_0 1 rfl rfl)
theorem dX0_mayInto_4 : decode cX0_mayInto 4 = .ok (.aload_n 0, 1) := dk_42 (dk_at dksX0_mayInto_0 4 rfl rfl)
theorem dX0_mayInto_5 : decode cX0_mayInto 5 = .ok (.getfield 81, 3) := dk_180 0 81 (dk_at dksX0_mayInto_0 5 rfl rfl)
theorem dX0_mayInto_8 : decode cX0_mayInto 8 = .ok (.invokevirtual 233, 3) := dk_182 0 233 (dk_at dksX0_mayInto_0 8 rfl rfl)
theorem dX0_mayInto_11 : decode cX0_mayInto 11 = .ok (.iload_n 2, 1) := dk_28 (dk_at dksX0_mayInto_0 11 rfl rfl)
theorem dX0_mayInto_12 : decode cX0_mayInto 12 = .ok (.putfield 216, 3) := dk_181 0 216 (dk_at dksX0_mayInto_0 12 rfl rfl)
theorem dX0_mayInto_15 : decode cX0_mayInto 15 = .ok (.aload_n 0, 1) := dk_42 (dk_at dksX0_mayInto_0 15 rfl rfl)
theorem dX0_mayInto_16 : decode cX0_mayInto 16 = .ok (.getfield 77, 3) := dk_180 0 77 (dk_at dksX0_mayInto_0 16 rfl rfl)
theorem dX0_mayInto_19 : decode cX0_mayInto 19 = .ok (.iconst 0, 1) := dk_3 (dk_at dksX0_mayInto_0 19 rfl rfl)
theorem dX0_mayInto_20 : decode cX0_mayInto 20 = .ok (.putfield 213, 3) := dk_181 0 213 (dk_at dksX0_mayInto_0 20 rfl rfl)
theorem dX0_mayInto_23 : decode cX0_mayInto 23 = .ok (.aload_n 0, 1) := dk_42 (dk_at dksX0_mayInto_0 23 rfl rfl)
theorem dX0_mayInto_24 : decode cX0_mayInto 24 = .ok (.getfield 77, 3) := dk_180 0 77 (dk_at dksX0_mayInto_1 0 rfl rfl)
theorem dX0_mayInto_27 : decode cX0_mayInto 27 = .ok (.iload_n 1, 1) := dk_27 (dk_at dksX0_mayInto_1 3 rfl rfl)
theorem dX0_mayInto_28 : decode cX0_mayInto 28 = .ok (.invokevirtual 260, 3) := dk_182 1 4 (dk_at dksX0_mayInto_1 4 rfl rfl)
theorem dX0_mayInto_31 : decode cX0_mayInto 31 = .ok (.ireturn, 1) := dk_172 (dk_at dksX0_mayInto_1 7 rfl rfl)
abbrev cX0_rightsBy : ByteArray := prog_1_method_40_code
def yX0_rightsBy : MethodName := ⟨RX0, "rightsBy", "(I[I)I"⟩
def dkwX0_rightsBy_2 : List UInt8 := [21, 4, 50, 182, 1, 41, 160, 0, 7, 4, 167, 0, 4, 3, 96, 62, 132, 4, 1, 167, 255, 194, 29, 172]
abbrev dktX0_rightsBy_2 : List UInt8 := dkwX0_rightsBy_2 ++ []
def dkwX0_rightsBy_1 : List UInt8 := [182, 0, 105, 153, 0, 34, 44, 21, 4, 46, 27, 2, 130, 126, 184, 1, 29, 42, 180, 0, 81, 180, 0, 118]
abbrev dktX0_rightsBy_1 : List UInt8 := dkwX0_rightsBy_1 ++ dktX0_rightsBy_2
def dkwX0_rightsBy_0 : List UInt8 := [3, 62, 3, 54, 4, 21, 4, 42, 180, 0, 81, 180, 0, 184, 162, 0, 56, 29, 42, 180, 0, 81, 21, 4]
abbrev dktX0_rightsBy_0 : List UInt8 := dkwX0_rightsBy_0 ++ dktX0_rightsBy_1
theorem dksX0_rightsBy_0 : cX0_rightsBy.data.toList.drop 0 = dktX0_rightsBy_0 := by decide +kernel
theorem dksX0_rightsBy_1 : cX0_rightsBy.data.toList.drop 24 = dktX0_rightsBy_1 := dk_seg dksX0_rightsBy_0 24 rfl rfl
theorem dksX0_rightsBy_2 : cX0_rightsBy.data.toList.drop 48 = dktX0_rightsBy_2 := dk_seg dksX0_rightsBy_1 24 rfl rfl
theorem dX0_rightsBy_0 : decode cX0_rightsBy 0 = .ok (.iconst 0, 1) := dk_3 (dk_at dksX0_rightsBy_0 0 rfl rfl)
theorem dX0_rightsBy_1 : decode cX0_rightsBy 1 = .ok (.istore_n 3, 1) := dk_62 (dk_at dksX0_rightsBy_0 1 rfl rfl)
theorem dX0_rightsBy_2 : decode cX0_rightsBy 2 = .ok (.iconst 0, 1) := dk_3 (dk_at dksX0_rightsBy_0 2 rfl rfl)
theorem dX0_rightsBy_3 : decode cX0_rightsBy 3 = .ok (.istore 4, 2) := dk_54 4 (dk_at dksX0_rightsBy_0 3 rfl rfl)
theorem dX0_rightsBy_5 : decode cX0_rightsBy 5 = .ok (.iload 4, 2) := dk_21 4 (dk_at dksX0_rightsBy_0 5 rfl rfl)
theorem dX0_rightsBy_7 : decode cX0_rightsBy 7 = .ok (.aload_n 0, 1) := dk_42 (dk_at dksX0_rightsBy_0 7 rfl rfl)
theorem dX0_rightsBy_8 : decode cX0_rightsBy 8 = .ok (.getfield 81, 3) := dk_180 0 81 (dk_at dksX0_rightsBy_0 8 rfl rfl)
theorem dX0_rightsBy_11 : decode cX0_rightsBy 11 = .ok (.getfield 184, 3) := dk_180 0 184 (dk_at dksX0_rightsBy_0 11 rfl rfl)
theorem dX0_rightsBy_14 : decode cX0_rightsBy 14 = .ok (.if_icmp .ge 56, 3) := dk_162 0 56 (dk_at dksX0_rightsBy_0 14 rfl rfl)
theorem dX0_rightsBy_17 : decode cX0_rightsBy 17 = .ok (.iload_n 3, 1) := dk_29 (dk_at dksX0_rightsBy_0 17 rfl rfl)
theorem dX0_rightsBy_18 : decode cX0_rightsBy 18 = .ok (.aload_n 0, 1) := dk_42 (dk_at dksX0_rightsBy_0 18 rfl rfl)
theorem dX0_rightsBy_19 : decode cX0_rightsBy 19 = .ok (.getfield 81, 3) := dk_180 0 81 (dk_at dksX0_rightsBy_0 19 rfl rfl)
theorem dX0_rightsBy_22 : decode cX0_rightsBy 22 = .ok (.iload 4, 2) := dk_21 4 (dk_at dksX0_rightsBy_0 22 rfl rfl)
theorem dX0_rightsBy_24 : decode cX0_rightsBy 24 = .ok (.invokevirtual 105, 3) := dk_182 0 105 (dk_at dksX0_rightsBy_1 0 rfl rfl)
theorem dX0_rightsBy_27 : decode cX0_rightsBy 27 = .ok (.ifCond .eq 34, 3) := dk_153 0 34 (dk_at dksX0_rightsBy_1 3 rfl rfl)
theorem dX0_rightsBy_30 : decode cX0_rightsBy 30 = .ok (.aload_n 2, 1) := dk_44 (dk_at dksX0_rightsBy_1 6 rfl rfl)
theorem dX0_rightsBy_31 : decode cX0_rightsBy 31 = .ok (.iload 4, 2) := dk_21 4 (dk_at dksX0_rightsBy_1 7 rfl rfl)
theorem dX0_rightsBy_33 : decode cX0_rightsBy 33 = .ok (.iaload, 1) := dk_46 (dk_at dksX0_rightsBy_1 9 rfl rfl)
theorem dX0_rightsBy_34 : decode cX0_rightsBy 34 = .ok (.iload_n 1, 1) := dk_27 (dk_at dksX0_rightsBy_1 10 rfl rfl)
theorem dX0_rightsBy_35 : decode cX0_rightsBy 35 = .ok (.iconst (-1), 1) := dk_2 (dk_at dksX0_rightsBy_1 11 rfl rfl)
theorem dX0_rightsBy_36 : decode cX0_rightsBy 36 = .ok (.ixor, 1) := dk_130 (dk_at dksX0_rightsBy_1 12 rfl rfl)
theorem dX0_rightsBy_37 : decode cX0_rightsBy 37 = .ok (.iand, 1) := dk_126 (dk_at dksX0_rightsBy_1 13 rfl rfl)
theorem dX0_rightsBy_38 : decode cX0_rightsBy 38 = .ok (.invokestatic 285, 3) := dk_184 1 29 (dk_at dksX0_rightsBy_1 14 rfl rfl)
theorem dX0_rightsBy_41 : decode cX0_rightsBy 41 = .ok (.aload_n 0, 1) := dk_42 (dk_at dksX0_rightsBy_1 17 rfl rfl)
theorem dX0_rightsBy_42 : decode cX0_rightsBy 42 = .ok (.getfield 81, 3) := dk_180 0 81 (dk_at dksX0_rightsBy_1 18 rfl rfl)
theorem dX0_rightsBy_45 : decode cX0_rightsBy 45 = .ok (.getfield 118, 3) := dk_180 0 118 (dk_at dksX0_rightsBy_1 21 rfl rfl)
theorem dX0_rightsBy_48 : decode cX0_rightsBy 48 = .ok (.iload 4, 2) := dk_21 4 (dk_at dksX0_rightsBy_2 0 rfl rfl)
theorem dX0_rightsBy_50 : decode cX0_rightsBy 50 = .ok (.aaload, 1) := dk_50 (dk_at dksX0_rightsBy_2 2 rfl rfl)
theorem dX0_rightsBy_51 : decode cX0_rightsBy 51 = .ok (.invokevirtual 297, 3) := dk_182 1 41 (dk_at dksX0_rightsBy_2 3 rfl rfl)
theorem dX0_rightsBy_54 : decode cX0_rightsBy 54 = .ok (.if_icmp .ne 7, 3) := dk_160 0 7 (dk_at dksX0_rightsBy_2 6 rfl rfl)
theorem dX0_rightsBy_57 : decode cX0_rightsBy 57 = .ok (.iconst 1, 1) := dk_4 (dk_at dksX0_rightsBy_2 9 rfl rfl)
theorem dX0_rightsBy_58 : decode cX0_rightsBy 58 = .ok (.goto 4, 3) := dk_167 0 4 (dk_at dksX0_rightsBy_2 10 rfl rfl)
theorem dX0_rightsBy_61 : decode cX0_rightsBy 61 = .ok (.iconst 0, 1) := dk_3 (dk_at dksX0_rightsBy_2 13 rfl rfl)
theorem dX0_rightsBy_62 : decode cX0_rightsBy 62 = .ok (.iadd, 1) := dk_96 (dk_at dksX0_rightsBy_2 14 rfl rfl)
theorem dX0_rightsBy_63 : decode cX0_rightsBy 63 = .ok (.istore_n 3, 1) := dk_62 (dk_at dksX0_rightsBy_2 15 rfl rfl)
theorem dX0_rightsBy_64 : decode cX0_rightsBy 64 = .ok (.iinc 4 1, 3) := dk_132 4 1 (dk_at dksX0_rightsBy_2 16 rfl rfl)
theorem dX0_rightsBy_67 : decode cX0_rightsBy 67 = .ok (.goto (-62), 3) := dk_167 255 194 (dk_at dksX0_rightsBy_2 19 rfl rfl)
theorem dX0_rightsBy_70 : decode cX0_rightsBy 70 = .ok (.iload_n 3, 1) := dk_29 (dk_at dksX0_rightsBy_2 22 rfl rfl)
theorem dX0_rightsBy_71 : decode cX0_rightsBy 71 = .ok (.ireturn, 1) := dk_172 (dk_at dksX0_rightsBy_2 23 rfl rfl)
abbrev cX0_newly : ByteArray := prog_1_method_43_code
def yX0_newly : MethodName := ⟨RX0, "newly", "(I)I"⟩
def dkwX0_newly_5 : List UInt8 := [21, 7, 62, 132, 4, 1, 167, 255, 175, 28, 172, 77, 42, 44, 182, 0, 150, 172]
abbrev dktX0_newly_5 : List UInt8 := dkwX0_newly_5 ++ []
def dkwX0_newly_4 : List UInt8 := [27, 3, 182, 0, 187, 87, 42, 180, 0, 77, 182, 1, 56, 54, 7, 21, 7, 29, 164, 0, 9, 21, 4, 61]
abbrev dktX0_newly_4 : List UInt8 := dkwX0_newly_4 ++ dktX0_newly_5
def dkwX0_newly_3 : List UInt8 := [21, 6, 182, 0, 180, 153, 0, 46, 42, 180, 0, 77, 42, 180, 0, 81, 182, 0, 233, 4, 21, 5, 21, 6]
abbrev dktX0_newly_3 : List UInt8 := dkwX0_newly_3 ++ dktX0_newly_4
def dkwX0_newly_2 : List UInt8 := [162, 0, 80, 21, 4, 16, 10, 112, 54, 5, 21, 4, 16, 10, 108, 54, 6, 42, 180, 0, 81, 21, 5]
abbrev dktX0_newly_2 : List UInt8 := dkwX0_newly_2 ++ dktX0_newly_3
def dkwX0_newly_1 : List UInt8 := [162, 0, 7, 4, 167, 0, 4, 3, 16, 249, 184, 0, 98, 2, 61, 2, 62, 3, 54, 4, 21, 4, 16, 100]
abbrev dktX0_newly_1 : List UInt8 := dkwX0_newly_1 ++ dktX0_newly_2
def dkwX0_newly_0 : List UInt8 := [27, 133, 9, 20, 0, 178, 184, 0, 142, 16, 250, 184, 0, 98, 42, 180, 0, 81, 180, 0, 184, 16, 8]
abbrev dktX0_newly_0 : List UInt8 := dkwX0_newly_0 ++ dktX0_newly_1
theorem dksX0_newly_0 : cX0_newly.data.toList.drop 0 = dktX0_newly_0 := by decide +kernel
theorem dksX0_newly_1 : cX0_newly.data.toList.drop 23 = dktX0_newly_1 := dk_seg dksX0_newly_0 23 rfl rfl
theorem dksX0_newly_2 : cX0_newly.data.toList.drop 47 = dktX0_newly_2 := dk_seg dksX0_newly_1 24 rfl rfl
theorem dksX0_newly_3 : cX0_newly.data.toList.drop 70 = dktX0_newly_3 := dk_seg dksX0_newly_2 23 rfl rfl
theorem dksX0_newly_4 : cX0_newly.data.toList.drop 94 = dktX0_newly_4 := dk_seg dksX0_newly_3 24 rfl rfl
theorem dksX0_newly_5 : cX0_newly.data.toList.drop 118 = dktX0_newly_5 := dk_seg dksX0_newly_4 24 rfl rfl
theorem dX0_newly_0 : decode cX0_newly 0 = .ok (.iload_n 1, 1) := dk_27 (dk_at dksX0_newly_0 0 rfl rfl)
theorem dX0_newly_1 : decode cX0_newly 1 = .ok (.i2l, 1) := dk_133 (dk_at dksX0_newly_0 1 rfl rfl)
theorem dX0_newly_2 : decode cX0_newly 2 = .ok (.lconst 0, 1) := dk_9 (dk_at dksX0_newly_0 2 rfl rfl)
theorem dX0_newly_3 : decode cX0_newly 3 = .ok (.ldc2_w 178, 3) := dk_20 0 178 (dk_at dksX0_newly_0 3 rfl rfl)
theorem dX0_newly_6 : decode cX0_newly 6 = .ok (.invokestatic 142, 3) := dk_184 0 142 (dk_at dksX0_newly_0 6 rfl rfl)
theorem dX0_newly_9 : decode cX0_newly 9 = .ok (.bipush (-6), 2) := dk_16 250 (dk_at dksX0_newly_0 9 rfl rfl)
theorem dX0_newly_11 : decode cX0_newly 11 = .ok (.invokestatic 98, 3) := dk_184 0 98 (dk_at dksX0_newly_0 11 rfl rfl)
theorem dX0_newly_14 : decode cX0_newly 14 = .ok (.aload_n 0, 1) := dk_42 (dk_at dksX0_newly_0 14 rfl rfl)
theorem dX0_newly_15 : decode cX0_newly 15 = .ok (.getfield 81, 3) := dk_180 0 81 (dk_at dksX0_newly_0 15 rfl rfl)
theorem dX0_newly_18 : decode cX0_newly 18 = .ok (.getfield 184, 3) := dk_180 0 184 (dk_at dksX0_newly_0 18 rfl rfl)
theorem dX0_newly_21 : decode cX0_newly 21 = .ok (.bipush 8, 2) := dk_16 8 (dk_at dksX0_newly_0 21 rfl rfl)
theorem dX0_newly_23 : decode cX0_newly 23 = .ok (.if_icmp .ge 7, 3) := dk_162 0 7 (dk_at dksX0_newly_1 0 rfl rfl)
theorem dX0_newly_26 : decode cX0_newly 26 = .ok (.iconst 1, 1) := dk_4 (dk_at dksX0_newly_1 3 rfl rfl)
theorem dX0_newly_27 : decode cX0_newly 27 = .ok (.goto 4, 3) := dk_167 0 4 (dk_at dksX0_newly_1 4 rfl rfl)
theorem dX0_newly_30 : decode cX0_newly 30 = .ok (.iconst 0, 1) := dk_3 (dk_at dksX0_newly_1 7 rfl rfl)
theorem dX0_newly_31 : decode cX0_newly 31 = .ok (.bipush (-7), 2) := dk_16 249 (dk_at dksX0_newly_1 8 rfl rfl)
theorem dX0_newly_33 : decode cX0_newly 33 = .ok (.invokestatic 98, 3) := dk_184 0 98 (dk_at dksX0_newly_1 10 rfl rfl)
theorem dX0_newly_36 : decode cX0_newly 36 = .ok (.iconst (-1), 1) := dk_2 (dk_at dksX0_newly_1 13 rfl rfl)
theorem dX0_newly_37 : decode cX0_newly 37 = .ok (.istore_n 2, 1) := dk_61 (dk_at dksX0_newly_1 14 rfl rfl)
theorem dX0_newly_38 : decode cX0_newly 38 = .ok (.iconst (-1), 1) := dk_2 (dk_at dksX0_newly_1 15 rfl rfl)
theorem dX0_newly_39 : decode cX0_newly 39 = .ok (.istore_n 3, 1) := dk_62 (dk_at dksX0_newly_1 16 rfl rfl)
theorem dX0_newly_40 : decode cX0_newly 40 = .ok (.iconst 0, 1) := dk_3 (dk_at dksX0_newly_1 17 rfl rfl)
theorem dX0_newly_41 : decode cX0_newly 41 = .ok (.istore 4, 2) := dk_54 4 (dk_at dksX0_newly_1 18 rfl rfl)
theorem dX0_newly_43 : decode cX0_newly 43 = .ok (.iload 4, 2) := dk_21 4 (dk_at dksX0_newly_1 20 rfl rfl)
theorem dX0_newly_45 : decode cX0_newly 45 = .ok (.bipush 100, 2) := dk_16 100 (dk_at dksX0_newly_1 22 rfl rfl)
theorem dX0_newly_47 : decode cX0_newly 47 = .ok (.if_icmp .ge 80, 3) := dk_162 0 80 (dk_at dksX0_newly_2 0 rfl rfl)
theorem dX0_newly_50 : decode cX0_newly 50 = .ok (.iload 4, 2) := dk_21 4 (dk_at dksX0_newly_2 3 rfl rfl)
theorem dX0_newly_52 : decode cX0_newly 52 = .ok (.bipush 10, 2) := dk_16 10 (dk_at dksX0_newly_2 5 rfl rfl)
theorem dX0_newly_54 : decode cX0_newly 54 = .ok (.irem, 1) := dk_112 (dk_at dksX0_newly_2 7 rfl rfl)
theorem dX0_newly_55 : decode cX0_newly 55 = .ok (.istore 5, 2) := dk_54 5 (dk_at dksX0_newly_2 8 rfl rfl)
theorem dX0_newly_57 : decode cX0_newly 57 = .ok (.iload 4, 2) := dk_21 4 (dk_at dksX0_newly_2 10 rfl rfl)
theorem dX0_newly_59 : decode cX0_newly 59 = .ok (.bipush 10, 2) := dk_16 10 (dk_at dksX0_newly_2 12 rfl rfl)
theorem dX0_newly_61 : decode cX0_newly 61 = .ok (.idiv, 1) := dk_108 (dk_at dksX0_newly_2 14 rfl rfl)
theorem dX0_newly_62 : decode cX0_newly 62 = .ok (.istore 6, 2) := dk_54 6 (dk_at dksX0_newly_2 15 rfl rfl)
theorem dX0_newly_64 : decode cX0_newly 64 = .ok (.aload_n 0, 1) := dk_42 (dk_at dksX0_newly_2 17 rfl rfl)
theorem dX0_newly_65 : decode cX0_newly 65 = .ok (.getfield 81, 3) := dk_180 0 81 (dk_at dksX0_newly_2 18 rfl rfl)
theorem dX0_newly_68 : decode cX0_newly 68 = .ok (.iload 5, 2) := dk_21 5 (dk_at dksX0_newly_2 21 rfl rfl)
theorem dX0_newly_70 : decode cX0_newly 70 = .ok (.iload 6, 2) := dk_21 6 (dk_at dksX0_newly_3 0 rfl rfl)
theorem dX0_newly_72 : decode cX0_newly 72 = .ok (.invokevirtual 180, 3) := dk_182 0 180 (dk_at dksX0_newly_3 2 rfl rfl)
theorem dX0_newly_75 : decode cX0_newly 75 = .ok (.ifCond .eq 46, 3) := dk_153 0 46 (dk_at dksX0_newly_3 5 rfl rfl)
theorem dX0_newly_78 : decode cX0_newly 78 = .ok (.aload_n 0, 1) := dk_42 (dk_at dksX0_newly_3 8 rfl rfl)
theorem dX0_newly_79 : decode cX0_newly 79 = .ok (.getfield 77, 3) := dk_180 0 77 (dk_at dksX0_newly_3 9 rfl rfl)
theorem dX0_newly_82 : decode cX0_newly 82 = .ok (.aload_n 0, 1) := dk_42 (dk_at dksX0_newly_3 12 rfl rfl)
theorem dX0_newly_83 : decode cX0_newly 83 = .ok (.getfield 81, 3) := dk_180 0 81 (dk_at dksX0_newly_3 13 rfl rfl)
theorem dX0_newly_86 : decode cX0_newly 86 = .ok (.invokevirtual 233, 3) := dk_182 0 233 (dk_at dksX0_newly_3 16 rfl rfl)
theorem dX0_newly_89 : decode cX0_newly 89 = .ok (.iconst 1, 1) := dk_4 (dk_at dksX0_newly_3 19 rfl rfl)
theorem dX0_newly_90 : decode cX0_newly 90 = .ok (.iload 5, 2) := dk_21 5 (dk_at dksX0_newly_3 20 rfl rfl)
theorem dX0_newly_92 : decode cX0_newly 92 = .ok (.iload 6, 2) := dk_21 6 (dk_at dksX0_newly_3 22 rfl rfl)
theorem dX0_newly_94 : decode cX0_newly 94 = .ok (.iload_n 1, 1) := dk_27 (dk_at dksX0_newly_4 0 rfl rfl)
theorem dX0_newly_95 : decode cX0_newly 95 = .ok (.iconst 0, 1) := dk_3 (dk_at dksX0_newly_4 1 rfl rfl)
theorem dX0_newly_96 : decode cX0_newly 96 = .ok (.invokevirtual 187, 3) := dk_182 0 187 (dk_at dksX0_newly_4 2 rfl rfl)
theorem dX0_newly_99 : decode cX0_newly 99 = .ok (.pop, 1) := dk_87 (dk_at dksX0_newly_4 5 rfl rfl)
theorem dX0_newly_100 : decode cX0_newly 100 = .ok (.aload_n 0, 1) := dk_42 (dk_at dksX0_newly_4 6 rfl rfl)
theorem dX0_newly_101 : decode cX0_newly 101 = .ok (.getfield 77, 3) := dk_180 0 77 (dk_at dksX0_newly_4 7 rfl rfl)
theorem dX0_newly_104 : decode cX0_newly 104 = .ok (.invokevirtual 312, 3) := dk_182 1 56 (dk_at dksX0_newly_4 10 rfl rfl)
theorem dX0_newly_107 : decode cX0_newly 107 = .ok (.istore 7, 2) := dk_54 7 (dk_at dksX0_newly_4 13 rfl rfl)
theorem dX0_newly_109 : decode cX0_newly 109 = .ok (.iload 7, 2) := dk_21 7 (dk_at dksX0_newly_4 15 rfl rfl)
theorem dX0_newly_111 : decode cX0_newly 111 = .ok (.iload_n 3, 1) := dk_29 (dk_at dksX0_newly_4 17 rfl rfl)
theorem dX0_newly_112 : decode cX0_newly 112 = .ok (.if_icmp .le 9, 3) := dk_164 0 9 (dk_at dksX0_newly_4 18 rfl rfl)
theorem dX0_newly_115 : decode cX0_newly 115 = .ok (.iload 4, 2) := dk_21 4 (dk_at dksX0_newly_4 21 rfl rfl)
theorem dX0_newly_117 : decode cX0_newly 117 = .ok (.istore_n 2, 1) := dk_61 (dk_at dksX0_newly_4 23 rfl rfl)
theorem dX0_newly_118 : decode cX0_newly 118 = .ok (.iload 7, 2) := dk_21 7 (dk_at dksX0_newly_5 0 rfl rfl)
theorem dX0_newly_120 : decode cX0_newly 120 = .ok (.istore_n 3, 1) := dk_62 (dk_at dksX0_newly_5 2 rfl rfl)
theorem dX0_newly_121 : decode cX0_newly 121 = .ok (.iinc 4 1, 3) := dk_132 4 1 (dk_at dksX0_newly_5 3 rfl rfl)
theorem dX0_newly_124 : decode cX0_newly 124 = .ok (.goto (-81), 3) := dk_167 255 175 (dk_at dksX0_newly_5 6 rfl rfl)
theorem dX0_newly_127 : decode cX0_newly 127 = .ok (.iload_n 2, 1) := dk_28 (dk_at dksX0_newly_5 9 rfl rfl)
theorem dX0_newly_128 : decode cX0_newly 128 = .ok (.ireturn, 1) := dk_172 (dk_at dksX0_newly_5 10 rfl rfl)
theorem dX0_newly_129 : decode cX0_newly 129 = .ok (.astore_n 2, 1) := dk_77 (dk_at dksX0_newly_5 11 rfl rfl)
theorem dX0_newly_130 : decode cX0_newly 130 = .ok (.aload_n 0, 1) := dk_42 (dk_at dksX0_newly_5 12 rfl rfl)
theorem dX0_newly_131 : decode cX0_newly 131 = .ok (.aload_n 2, 1) := dk_44 (dk_at dksX0_newly_5 13 rfl rfl)
theorem dX0_newly_132 : decode cX0_newly 132 = .ok (.invokevirtual 150, 3) := dk_182 0 150 (dk_at dksX0_newly_5 14 rfl rfl)
theorem dX0_newly_135 : decode cX0_newly 135 = .ok (.ireturn, 1) := dk_172 (dk_at dksX0_newly_5 17 rfl rfl)
abbrev cX0_storey : ByteArray := prog_1_method_45_code
def yX0_storey : MethodName := ⟨RX0, "storey", "(I)I"⟩
def dkwX0_storey_1 : List UInt8 := [17, 252, 24, 42, 44, 182, 0, 150, 96, 172]
abbrev dktX0_storey_1 : List UInt8 := dkwX0_storey_1 ++ []
def dkwX0_storey_0 : List UInt8 := [42, 27, 182, 1, 59, 42, 180, 0, 77, 182, 1, 56, 42, 180, 0, 81, 182, 1, 56, 100, 172, 77]
abbrev dktX0_storey_0 : List UInt8 := dkwX0_storey_0 ++ dktX0_storey_1
theorem dksX0_storey_0 : cX0_storey.data.toList.drop 0 = dktX0_storey_0 := by decide +kernel
theorem dksX0_storey_1 : cX0_storey.data.toList.drop 22 = dktX0_storey_1 := dk_seg dksX0_storey_0 22 rfl rfl
theorem dX0_storey_0 : decode cX0_storey 0 = .ok (.aload_n 0, 1) := dk_42 (dk_at dksX0_storey_0 0 rfl rfl)
theorem dX0_storey_1 : decode cX0_storey 1 = .ok (.iload_n 1, 1) := dk_27 (dk_at dksX0_storey_0 1 rfl rfl)
theorem dX0_storey_2 : decode cX0_storey 2 = .ok (.invokevirtual 315, 3) := dk_182 1 59 (dk_at dksX0_storey_0 2 rfl rfl)
theorem dX0_storey_5 : decode cX0_storey 5 = .ok (.aload_n 0, 1) := dk_42 (dk_at dksX0_storey_0 5 rfl rfl)
theorem dX0_storey_6 : decode cX0_storey 6 = .ok (.getfield 77, 3) := dk_180 0 77 (dk_at dksX0_storey_0 6 rfl rfl)
theorem dX0_storey_9 : decode cX0_storey 9 = .ok (.invokevirtual 312, 3) := dk_182 1 56 (dk_at dksX0_storey_0 9 rfl rfl)
theorem dX0_storey_12 : decode cX0_storey 12 = .ok (.aload_n 0, 1) := dk_42 (dk_at dksX0_storey_0 12 rfl rfl)
theorem dX0_storey_13 : decode cX0_storey 13 = .ok (.getfield 81, 3) := dk_180 0 81 (dk_at dksX0_storey_0 13 rfl rfl)
theorem dX0_storey_16 : decode cX0_storey 16 = .ok (.invokevirtual 312, 3) := dk_182 1 56 (dk_at dksX0_storey_0 16 rfl rfl)
theorem dX0_storey_19 : decode cX0_storey 19 = .ok (.isub, 1) := dk_100 (dk_at dksX0_storey_0 19 rfl rfl)
theorem dX0_storey_20 : decode cX0_storey 20 = .ok (.ireturn, 1) := dk_172 (dk_at dksX0_storey_0 20 rfl rfl)
theorem dX0_storey_21 : decode cX0_storey 21 = .ok (.astore_n 2, 1) := dk_77 (dk_at dksX0_storey_0 21 rfl rfl)
theorem dX0_storey_22 : decode cX0_storey 22 = .ok (.sipush (-1000), 3) := dk_17 252 24 (dk_at dksX0_storey_1 0 rfl rfl)
theorem dX0_storey_25 : decode cX0_storey 25 = .ok (.aload_n 0, 1) := dk_42 (dk_at dksX0_storey_1 3 rfl rfl)
theorem dX0_storey_26 : decode cX0_storey 26 = .ok (.aload_n 2, 1) := dk_44 (dk_at dksX0_storey_1 4 rfl rfl)
theorem dX0_storey_27 : decode cX0_storey 27 = .ok (.invokevirtual 150, 3) := dk_182 0 150 (dk_at dksX0_storey_1 5 rfl rfl)
theorem dX0_storey_30 : decode cX0_storey 30 = .ok (.iadd, 1) := dk_96 (dk_at dksX0_storey_1 8 rfl rfl)
theorem dX0_storey_31 : decode cX0_storey 31 = .ok (.ireturn, 1) := dk_172 (dk_at dksX0_storey_1 9 rfl rfl)
abbrev cX0_raises : ByteArray := prog_1_method_44_code
def yX0_raises : MethodName := ⟨RX0, "raises", "(I)V"⟩
def dkwX0_raises_2 : List UInt8 := [79, 177]
abbrev dktX0_raises_2 : List UInt8 := dkwX0_raises_2 ++ []
def dkwX0_raises_1 : List UInt8 := [16, 250, 184, 0, 98, 42, 180, 0, 77, 42, 180, 0, 81, 182, 0, 233, 180, 0, 203, 27, 92, 46, 4, 96]
abbrev dktX0_raises_1 : List UInt8 := dkwX0_raises_1 ++ dktX0_raises_2
def dkwX0_raises_0 : List UInt8 := [42, 27, 182, 0, 230, 42, 180, 0, 81, 180, 0, 203, 27, 46, 16, 20, 162, 0, 7, 4, 167, 0, 4, 3]
abbrev dktX0_raises_0 : List UInt8 := dkwX0_raises_0 ++ dktX0_raises_1
theorem dksX0_raises_0 : cX0_raises.data.toList.drop 0 = dktX0_raises_0 := by decide +kernel
theorem dksX0_raises_1 : cX0_raises.data.toList.drop 24 = dktX0_raises_1 := dk_seg dksX0_raises_0 24 rfl rfl
theorem dksX0_raises_2 : cX0_raises.data.toList.drop 48 = dktX0_raises_2 := dk_seg dksX0_raises_1 24 rfl rfl
theorem dX0_raises_0 : decode cX0_raises 0 = .ok (.aload_n 0, 1) := dk_42 (dk_at dksX0_raises_0 0 rfl rfl)
theorem dX0_raises_1 : decode cX0_raises 1 = .ok (.iload_n 1, 1) := dk_27 (dk_at dksX0_raises_0 1 rfl rfl)
theorem dX0_raises_2 : decode cX0_raises 2 = .ok (.invokevirtual 230, 3) := dk_182 0 230 (dk_at dksX0_raises_0 2 rfl rfl)
theorem dX0_raises_5 : decode cX0_raises 5 = .ok (.aload_n 0, 1) := dk_42 (dk_at dksX0_raises_0 5 rfl rfl)
theorem dX0_raises_6 : decode cX0_raises 6 = .ok (.getfield 81, 3) := dk_180 0 81 (dk_at dksX0_raises_0 6 rfl rfl)
theorem dX0_raises_9 : decode cX0_raises 9 = .ok (.getfield 203, 3) := dk_180 0 203 (dk_at dksX0_raises_0 9 rfl rfl)
theorem dX0_raises_12 : decode cX0_raises 12 = .ok (.iload_n 1, 1) := dk_27 (dk_at dksX0_raises_0 12 rfl rfl)
theorem dX0_raises_13 : decode cX0_raises 13 = .ok (.iaload, 1) := dk_46 (dk_at dksX0_raises_0 13 rfl rfl)
theorem dX0_raises_14 : decode cX0_raises 14 = .ok (.bipush 20, 2) := dk_16 20 (dk_at dksX0_raises_0 14 rfl rfl)
theorem dX0_raises_16 : decode cX0_raises 16 = .ok (.if_icmp .ge 7, 3) := dk_162 0 7 (dk_at dksX0_raises_0 16 rfl rfl)
theorem dX0_raises_19 : decode cX0_raises 19 = .ok (.iconst 1, 1) := dk_4 (dk_at dksX0_raises_0 19 rfl rfl)
theorem dX0_raises_20 : decode cX0_raises 20 = .ok (.goto 4, 3) := dk_167 0 4 (dk_at dksX0_raises_0 20 rfl rfl)
theorem dX0_raises_23 : decode cX0_raises 23 = .ok (.iconst 0, 1) := dk_3 (dk_at dksX0_raises_0 23 rfl rfl)
theorem dX0_raises_24 : decode cX0_raises 24 = .ok (.bipush (-6), 2) := dk_16 250 (dk_at dksX0_raises_1 0 rfl rfl)
theorem dX0_raises_26 : decode cX0_raises 26 = .ok (.invokestatic 98, 3) := dk_184 0 98 (dk_at dksX0_raises_1 2 rfl rfl)
theorem dX0_raises_29 : decode cX0_raises 29 = .ok (.aload_n 0, 1) := dk_42 (dk_at dksX0_raises_1 5 rfl rfl)
theorem dX0_raises_30 : decode cX0_raises 30 = .ok (.getfield 77, 3) := dk_180 0 77 (dk_at dksX0_raises_1 6 rfl rfl)
theorem dX0_raises_33 : decode cX0_raises 33 = .ok (.aload_n 0, 1) := dk_42 (dk_at dksX0_raises_1 9 rfl rfl)
theorem dX0_raises_34 : decode cX0_raises 34 = .ok (.getfield 81, 3) := dk_180 0 81 (dk_at dksX0_raises_1 10 rfl rfl)
theorem dX0_raises_37 : decode cX0_raises 37 = .ok (.invokevirtual 233, 3) := dk_182 0 233 (dk_at dksX0_raises_1 13 rfl rfl)
theorem dX0_raises_40 : decode cX0_raises 40 = .ok (.getfield 203, 3) := dk_180 0 203 (dk_at dksX0_raises_1 16 rfl rfl)
theorem dX0_raises_43 : decode cX0_raises 43 = .ok (.iload_n 1, 1) := dk_27 (dk_at dksX0_raises_1 19 rfl rfl)
theorem dX0_raises_44 : decode cX0_raises 44 = .ok (.dup2, 1) := dk_92 (dk_at dksX0_raises_1 20 rfl rfl)
theorem dX0_raises_45 : decode cX0_raises 45 = .ok (.iaload, 1) := dk_46 (dk_at dksX0_raises_1 21 rfl rfl)
theorem dX0_raises_46 : decode cX0_raises 46 = .ok (.iconst 1, 1) := dk_4 (dk_at dksX0_raises_1 22 rfl rfl)
theorem dX0_raises_47 : decode cX0_raises 47 = .ok (.iadd, 1) := dk_96 (dk_at dksX0_raises_1 23 rfl rfl)
theorem dX0_raises_48 : decode cX0_raises 48 = .ok (.iastore, 1) := dk_79 (dk_at dksX0_raises_2 0 rfl rfl)
theorem dX0_raises_49 : decode cX0_raises 49 = .ok (.return_, 1) := dk_177 (dk_at dksX0_raises_2 1 rfl rfl)
abbrev cX0_blinded : ByteArray := prog_1_method_46_code
def yX0_blinded : MethodName := ⟨RX0, "blinded", "(I)I"⟩
def dkwX0_blinded_2 : List UInt8 := [132, 3, 1, 167, 255, 217, 28, 172, 77, 42, 44, 182, 0, 150, 172]
abbrev dktX0_blinded_2 : List UInt8 := dkwX0_blinded_2 ++ []
def dkwX0_blinded_1 : List UInt8 := [180, 0, 81, 29, 182, 1, 62, 42, 180, 0, 77, 29, 182, 1, 62, 2, 130, 126, 184, 1, 29, 96, 61]
abbrev dktX0_blinded_1 : List UInt8 := dkwX0_blinded_1 ++ dktX0_blinded_2
def dkwX0_blinded_0 : List UInt8 := [42, 27, 182, 1, 59, 3, 61, 3, 62, 29, 42, 180, 0, 81, 180, 0, 184, 162, 0, 34, 28, 42]
abbrev dktX0_blinded_0 : List UInt8 := dkwX0_blinded_0 ++ dktX0_blinded_1
theorem dksX0_blinded_0 : cX0_blinded.data.toList.drop 0 = dktX0_blinded_0 := by decide +kernel
theorem dksX0_blinded_1 : cX0_blinded.data.toList.drop 22 = dktX0_blinded_1 := dk_seg dksX0_blinded_0 22 rfl rfl
theorem dksX0_blinded_2 : cX0_blinded.data.toList.drop 45 = dktX0_blinded_2 := dk_seg dksX0_blinded_1 23 rfl rfl
theorem dX0_blinded_0 : decode cX0_blinded 0 = .ok (.aload_n 0, 1) := dk_42 (dk_at dksX0_blinded_0 0 rfl rfl)
theorem dX0_blinded_1 : decode cX0_blinded 1 = .ok (.iload_n 1, 1) := dk_27 (dk_at dksX0_blinded_0 1 rfl rfl)
theorem dX0_blinded_2 : decode cX0_blinded 2 = .ok (.invokevirtual 315, 3) := dk_182 1 59 (dk_at dksX0_blinded_0 2 rfl rfl)
theorem dX0_blinded_5 : decode cX0_blinded 5 = .ok (.iconst 0, 1) := dk_3 (dk_at dksX0_blinded_0 5 rfl rfl)
theorem dX0_blinded_6 : decode cX0_blinded 6 = .ok (.istore_n 2, 1) := dk_61 (dk_at dksX0_blinded_0 6 rfl rfl)
theorem dX0_blinded_7 : decode cX0_blinded 7 = .ok (.iconst 0, 1) := dk_3 (dk_at dksX0_blinded_0 7 rfl rfl)
theorem dX0_blinded_8 : decode cX0_blinded 8 = .ok (.istore_n 3, 1) := dk_62 (dk_at dksX0_blinded_0 8 rfl rfl)
theorem dX0_blinded_9 : decode cX0_blinded 9 = .ok (.iload_n 3, 1) := dk_29 (dk_at dksX0_blinded_0 9 rfl rfl)
theorem dX0_blinded_10 : decode cX0_blinded 10 = .ok (.aload_n 0, 1) := dk_42 (dk_at dksX0_blinded_0 10 rfl rfl)
theorem dX0_blinded_11 : decode cX0_blinded 11 = .ok (.getfield 81, 3) := dk_180 0 81 (dk_at dksX0_blinded_0 11 rfl rfl)
theorem dX0_blinded_14 : decode cX0_blinded 14 = .ok (.getfield 184, 3) := dk_180 0 184 (dk_at dksX0_blinded_0 14 rfl rfl)
theorem dX0_blinded_17 : decode cX0_blinded 17 = .ok (.if_icmp .ge 34, 3) := dk_162 0 34 (dk_at dksX0_blinded_0 17 rfl rfl)
theorem dX0_blinded_20 : decode cX0_blinded 20 = .ok (.iload_n 2, 1) := dk_28 (dk_at dksX0_blinded_0 20 rfl rfl)
theorem dX0_blinded_21 : decode cX0_blinded 21 = .ok (.aload_n 0, 1) := dk_42 (dk_at dksX0_blinded_0 21 rfl rfl)
theorem dX0_blinded_22 : decode cX0_blinded 22 = .ok (.getfield 81, 3) := dk_180 0 81 (dk_at dksX0_blinded_1 0 rfl rfl)
theorem dX0_blinded_25 : decode cX0_blinded 25 = .ok (.iload_n 3, 1) := dk_29 (dk_at dksX0_blinded_1 3 rfl rfl)
theorem dX0_blinded_26 : decode cX0_blinded 26 = .ok (.invokevirtual 318, 3) := dk_182 1 62 (dk_at dksX0_blinded_1 4 rfl rfl)
theorem dX0_blinded_29 : decode cX0_blinded 29 = .ok (.aload_n 0, 1) := dk_42 (dk_at dksX0_blinded_1 7 rfl rfl)
theorem dX0_blinded_30 : decode cX0_blinded 30 = .ok (.getfield 77, 3) := dk_180 0 77 (dk_at dksX0_blinded_1 8 rfl rfl)
theorem dX0_blinded_33 : decode cX0_blinded 33 = .ok (.iload_n 3, 1) := dk_29 (dk_at dksX0_blinded_1 11 rfl rfl)
theorem dX0_blinded_34 : decode cX0_blinded 34 = .ok (.invokevirtual 318, 3) := dk_182 1 62 (dk_at dksX0_blinded_1 12 rfl rfl)
theorem dX0_blinded_37 : decode cX0_blinded 37 = .ok (.iconst (-1), 1) := dk_2 (dk_at dksX0_blinded_1 15 rfl rfl)
theorem dX0_blinded_38 : decode cX0_blinded 38 = .ok (.ixor, 1) := dk_130 (dk_at dksX0_blinded_1 16 rfl rfl)
theorem dX0_blinded_39 : decode cX0_blinded 39 = .ok (.iand, 1) := dk_126 (dk_at dksX0_blinded_1 17 rfl rfl)
theorem dX0_blinded_40 : decode cX0_blinded 40 = .ok (.invokestatic 285, 3) := dk_184 1 29 (dk_at dksX0_blinded_1 18 rfl rfl)
theorem dX0_blinded_43 : decode cX0_blinded 43 = .ok (.iadd, 1) := dk_96 (dk_at dksX0_blinded_1 21 rfl rfl)
theorem dX0_blinded_44 : decode cX0_blinded 44 = .ok (.istore_n 2, 1) := dk_61 (dk_at dksX0_blinded_1 22 rfl rfl)
theorem dX0_blinded_45 : decode cX0_blinded 45 = .ok (.iinc 3 1, 3) := dk_132 3 1 (dk_at dksX0_blinded_2 0 rfl rfl)
theorem dX0_blinded_48 : decode cX0_blinded 48 = .ok (.goto (-39), 3) := dk_167 255 217 (dk_at dksX0_blinded_2 3 rfl rfl)
theorem dX0_blinded_51 : decode cX0_blinded 51 = .ok (.iload_n 2, 1) := dk_28 (dk_at dksX0_blinded_2 6 rfl rfl)
theorem dX0_blinded_52 : decode cX0_blinded 52 = .ok (.ireturn, 1) := dk_172 (dk_at dksX0_blinded_2 7 rfl rfl)
theorem dX0_blinded_53 : decode cX0_blinded 53 = .ok (.astore_n 2, 1) := dk_77 (dk_at dksX0_blinded_2 8 rfl rfl)
theorem dX0_blinded_54 : decode cX0_blinded 54 = .ok (.aload_n 0, 1) := dk_42 (dk_at dksX0_blinded_2 9 rfl rfl)
theorem dX0_blinded_55 : decode cX0_blinded 55 = .ok (.aload_n 2, 1) := dk_44 (dk_at dksX0_blinded_2 10 rfl rfl)
theorem dX0_blinded_56 : decode cX0_blinded 56 = .ok (.invokevirtual 150, 3) := dk_182 0 150 (dk_at dksX0_blinded_2 11 rfl rfl)
theorem dX0_blinded_59 : decode cX0_blinded 59 = .ok (.ireturn, 1) := dk_172 (dk_at dksX0_blinded_2 14 rfl rfl)
abbrev cX0_felled : ByteArray := prog_1_method_47_code
def yX0_felled : MethodName := ⟨RX0, "felled", "(I)I"⟩
def dkwX0_felled_4 : List UInt8 := [180, 0, 81, 182, 1, 56, 100, 172, 77, 17, 252, 24, 42, 44, 182, 0, 150, 96, 172]
abbrev dktX0_felled_4 : List UInt8 := dkwX0_felled_4 ++ []
def dkwX0_felled_3 : List UInt8 := [183, 0, 49, 83, 42, 180, 0, 77, 180, 0, 203, 27, 3, 79, 42, 180, 0, 77, 182, 1, 56, 42]
abbrev dktX0_felled_3 : List UInt8 := dkwX0_felled_3 ++ dktX0_felled_4
def dkwX0_felled_2 : List UInt8 := [180, 0, 81, 180, 0, 118, 27, 50, 180, 0, 197, 42, 180, 0, 81, 180, 0, 118, 27, 50, 180, 0, 200, 3]
abbrev dktX0_felled_2 : List UInt8 := dkwX0_felled_2 ++ dktX0_felled_3
def dkwX0_felled_1 : List UInt8 := [184, 0, 98, 42, 180, 0, 77, 42, 180, 0, 81, 182, 0, 233, 180, 0, 118, 27, 187, 0, 47, 89, 27, 42]
abbrev dktX0_felled_1 : List UInt8 := dkwX0_felled_1 ++ dktX0_felled_2
def dkwX0_felled_0 : List UInt8 := [42, 27, 182, 0, 102, 42, 180, 0, 81, 27, 182, 0, 105, 154, 0, 7, 4, 167, 0, 4, 3, 16, 254]
abbrev dktX0_felled_0 : List UInt8 := dkwX0_felled_0 ++ dktX0_felled_1
theorem dksX0_felled_0 : cX0_felled.data.toList.drop 0 = dktX0_felled_0 := by decide +kernel
theorem dksX0_felled_1 : cX0_felled.data.toList.drop 23 = dktX0_felled_1 := dk_seg dksX0_felled_0 23 rfl rfl
theorem dksX0_felled_2 : cX0_felled.data.toList.drop 47 = dktX0_felled_2 := dk_seg dksX0_felled_1 24 rfl rfl
theorem dksX0_felled_3 : cX0_felled.data.toList.drop 71 = dktX0_felled_3 := dk_seg dksX0_felled_2 24 rfl rfl
theorem dksX0_felled_4 : cX0_felled.data.toList.drop 93 = dktX0_felled_4 := dk_seg dksX0_felled_3 22 rfl rfl
theorem dX0_felled_0 : decode cX0_felled 0 = .ok (.aload_n 0, 1) := dk_42 (dk_at dksX0_felled_0 0 rfl rfl)
theorem dX0_felled_1 : decode cX0_felled 1 = .ok (.iload_n 1, 1) := dk_27 (dk_at dksX0_felled_0 1 rfl rfl)
theorem dX0_felled_2 : decode cX0_felled 2 = .ok (.invokevirtual 102, 3) := dk_182 0 102 (dk_at dksX0_felled_0 2 rfl rfl)
theorem dX0_felled_5 : decode cX0_felled 5 = .ok (.aload_n 0, 1) := dk_42 (dk_at dksX0_felled_0 5 rfl rfl)
theorem dX0_felled_6 : decode cX0_felled 6 = .ok (.getfield 81, 3) := dk_180 0 81 (dk_at dksX0_felled_0 6 rfl rfl)
theorem dX0_felled_9 : decode cX0_felled 9 = .ok (.iload_n 1, 1) := dk_27 (dk_at dksX0_felled_0 9 rfl rfl)
theorem dX0_felled_10 : decode cX0_felled 10 = .ok (.invokevirtual 105, 3) := dk_182 0 105 (dk_at dksX0_felled_0 10 rfl rfl)
theorem dX0_felled_13 : decode cX0_felled 13 = .ok (.ifCond .ne 7, 3) := dk_154 0 7 (dk_at dksX0_felled_0 13 rfl rfl)
theorem dX0_felled_16 : decode cX0_felled 16 = .ok (.iconst 1, 1) := dk_4 (dk_at dksX0_felled_0 16 rfl rfl)
theorem dX0_felled_17 : decode cX0_felled 17 = .ok (.goto 4, 3) := dk_167 0 4 (dk_at dksX0_felled_0 17 rfl rfl)
theorem dX0_felled_20 : decode cX0_felled 20 = .ok (.iconst 0, 1) := dk_3 (dk_at dksX0_felled_0 20 rfl rfl)
theorem dX0_felled_21 : decode cX0_felled 21 = .ok (.bipush (-2), 2) := dk_16 254 (dk_at dksX0_felled_0 21 rfl rfl)
theorem dX0_felled_23 : decode cX0_felled 23 = .ok (.invokestatic 98, 3) := dk_184 0 98 (dk_at dksX0_felled_1 0 rfl rfl)
theorem dX0_felled_26 : decode cX0_felled 26 = .ok (.aload_n 0, 1) := dk_42 (dk_at dksX0_felled_1 3 rfl rfl)
theorem dX0_felled_27 : decode cX0_felled 27 = .ok (.getfield 77, 3) := dk_180 0 77 (dk_at dksX0_felled_1 4 rfl rfl)
theorem dX0_felled_30 : decode cX0_felled 30 = .ok (.aload_n 0, 1) := dk_42 (dk_at dksX0_felled_1 7 rfl rfl)
theorem dX0_felled_31 : decode cX0_felled 31 = .ok (.getfield 81, 3) := dk_180 0 81 (dk_at dksX0_felled_1 8 rfl rfl)
theorem dX0_felled_34 : decode cX0_felled 34 = .ok (.invokevirtual 233, 3) := dk_182 0 233 (dk_at dksX0_felled_1 11 rfl rfl)
theorem dX0_felled_37 : decode cX0_felled 37 = .ok (.getfield 118, 3) := dk_180 0 118 (dk_at dksX0_felled_1 14 rfl rfl)
theorem dX0_felled_40 : decode cX0_felled 40 = .ok (.iload_n 1, 1) := dk_27 (dk_at dksX0_felled_1 17 rfl rfl)
theorem dX0_felled_41 : decode cX0_felled 41 = .ok (.new 47, 3) := dk_187 0 47 (dk_at dksX0_felled_1 18 rfl rfl)
theorem dX0_felled_44 : decode cX0_felled 44 = .ok (.dup, 1) := dk_89 (dk_at dksX0_felled_1 21 rfl rfl)
theorem dX0_felled_45 : decode cX0_felled 45 = .ok (.iload_n 1, 1) := dk_27 (dk_at dksX0_felled_1 22 rfl rfl)
theorem dX0_felled_46 : decode cX0_felled 46 = .ok (.aload_n 0, 1) := dk_42 (dk_at dksX0_felled_1 23 rfl rfl)
theorem dX0_felled_47 : decode cX0_felled 47 = .ok (.getfield 81, 3) := dk_180 0 81 (dk_at dksX0_felled_2 0 rfl rfl)
theorem dX0_felled_50 : decode cX0_felled 50 = .ok (.getfield 118, 3) := dk_180 0 118 (dk_at dksX0_felled_2 3 rfl rfl)
theorem dX0_felled_53 : decode cX0_felled 53 = .ok (.iload_n 1, 1) := dk_27 (dk_at dksX0_felled_2 6 rfl rfl)
theorem dX0_felled_54 : decode cX0_felled 54 = .ok (.aaload, 1) := dk_50 (dk_at dksX0_felled_2 7 rfl rfl)
theorem dX0_felled_55 : decode cX0_felled 55 = .ok (.getfield 197, 3) := dk_180 0 197 (dk_at dksX0_felled_2 8 rfl rfl)
theorem dX0_felled_58 : decode cX0_felled 58 = .ok (.aload_n 0, 1) := dk_42 (dk_at dksX0_felled_2 11 rfl rfl)
theorem dX0_felled_59 : decode cX0_felled 59 = .ok (.getfield 81, 3) := dk_180 0 81 (dk_at dksX0_felled_2 12 rfl rfl)
theorem dX0_felled_62 : decode cX0_felled 62 = .ok (.getfield 118, 3) := dk_180 0 118 (dk_at dksX0_felled_2 15 rfl rfl)
theorem dX0_felled_65 : decode cX0_felled 65 = .ok (.iload_n 1, 1) := dk_27 (dk_at dksX0_felled_2 18 rfl rfl)
theorem dX0_felled_66 : decode cX0_felled 66 = .ok (.aaload, 1) := dk_50 (dk_at dksX0_felled_2 19 rfl rfl)
theorem dX0_felled_67 : decode cX0_felled 67 = .ok (.getfield 200, 3) := dk_180 0 200 (dk_at dksX0_felled_2 20 rfl rfl)
theorem dX0_felled_70 : decode cX0_felled 70 = .ok (.iconst 0, 1) := dk_3 (dk_at dksX0_felled_2 23 rfl rfl)
theorem dX0_felled_71 : decode cX0_felled 71 = .ok (.invokespecial 49, 3) := dk_183 0 49 (dk_at dksX0_felled_3 0 rfl rfl)
theorem dX0_felled_74 : decode cX0_felled 74 = .ok (.aastore, 1) := dk_83 (dk_at dksX0_felled_3 3 rfl rfl)
theorem dX0_felled_75 : decode cX0_felled 75 = .ok (.aload_n 0, 1) := dk_42 (dk_at dksX0_felled_3 4 rfl rfl)
theorem dX0_felled_76 : decode cX0_felled 76 = .ok (.getfield 77, 3) := dk_180 0 77 (dk_at dksX0_felled_3 5 rfl rfl)
theorem dX0_felled_79 : decode cX0_felled 79 = .ok (.getfield 203, 3) := dk_180 0 203 (dk_at dksX0_felled_3 8 rfl rfl)
theorem dX0_felled_82 : decode cX0_felled 82 = .ok (.iload_n 1, 1) := dk_27 (dk_at dksX0_felled_3 11 rfl rfl)
theorem dX0_felled_83 : decode cX0_felled 83 = .ok (.iconst 0, 1) := dk_3 (dk_at dksX0_felled_3 12 rfl rfl)
theorem dX0_felled_84 : decode cX0_felled 84 = .ok (.iastore, 1) := dk_79 (dk_at dksX0_felled_3 13 rfl rfl)
theorem dX0_felled_85 : decode cX0_felled 85 = .ok (.aload_n 0, 1) := dk_42 (dk_at dksX0_felled_3 14 rfl rfl)
theorem dX0_felled_86 : decode cX0_felled 86 = .ok (.getfield 77, 3) := dk_180 0 77 (dk_at dksX0_felled_3 15 rfl rfl)
theorem dX0_felled_89 : decode cX0_felled 89 = .ok (.invokevirtual 312, 3) := dk_182 1 56 (dk_at dksX0_felled_3 18 rfl rfl)
theorem dX0_felled_92 : decode cX0_felled 92 = .ok (.aload_n 0, 1) := dk_42 (dk_at dksX0_felled_3 21 rfl rfl)
theorem dX0_felled_93 : decode cX0_felled 93 = .ok (.getfield 81, 3) := dk_180 0 81 (dk_at dksX0_felled_4 0 rfl rfl)
theorem dX0_felled_96 : decode cX0_felled 96 = .ok (.invokevirtual 312, 3) := dk_182 1 56 (dk_at dksX0_felled_4 3 rfl rfl)
theorem dX0_felled_99 : decode cX0_felled 99 = .ok (.isub, 1) := dk_100 (dk_at dksX0_felled_4 6 rfl rfl)
theorem dX0_felled_100 : decode cX0_felled 100 = .ok (.ireturn, 1) := dk_172 (dk_at dksX0_felled_4 7 rfl rfl)
theorem dX0_felled_101 : decode cX0_felled 101 = .ok (.astore_n 2, 1) := dk_77 (dk_at dksX0_felled_4 8 rfl rfl)
theorem dX0_felled_102 : decode cX0_felled 102 = .ok (.sipush (-1000), 3) := dk_17 252 24 (dk_at dksX0_felled_4 9 rfl rfl)
theorem dX0_felled_105 : decode cX0_felled 105 = .ok (.aload_n 0, 1) := dk_42 (dk_at dksX0_felled_4 12 rfl rfl)
theorem dX0_felled_106 : decode cX0_felled 106 = .ok (.aload_n 2, 1) := dk_44 (dk_at dksX0_felled_4 13 rfl rfl)
theorem dX0_felled_107 : decode cX0_felled 107 = .ok (.invokevirtual 150, 3) := dk_182 0 150 (dk_at dksX0_felled_4 14 rfl rfl)
theorem dX0_felled_110 : decode cX0_felled 110 = .ok (.iadd, 1) := dk_96 (dk_at dksX0_felled_4 17 rfl rfl)
theorem dX0_felled_111 : decode cX0_felled 111 = .ok (.ireturn, 1) := dk_172 (dk_at dksX0_felled_4 18 rfl rfl)
abbrev cX0_pairs : ByteArray := prog_1_method_48_code
def yX0_pairs : MethodName := ⟨RX0, "pairs", "()I"⟩
def dkwX0_pairs_3 : List UInt8 := [167, 255, 214, 132, 2, 1, 167, 255, 185, 27, 172]
abbrev dktX0_pairs_3 : List UInt8 := dkwX0_pairs_3 ++ []
def dkwX0_pairs_2 : List UInt8 := [21, 4, 182, 1, 62, 28, 122, 4, 126, 153, 0, 7, 4, 167, 0, 4, 3, 96, 60, 132, 4, 1]
abbrev dktX0_pairs_2 : List UInt8 := dkwX0_pairs_2 ++ dktX0_pairs_3
def dkwX0_pairs_1 : List UInt8 := [3, 54, 4, 21, 4, 28, 162, 0, 42, 27, 29, 21, 4, 122, 4, 126, 153, 0, 23, 42, 180, 0, 81]
abbrev dktX0_pairs_1 : List UInt8 := dkwX0_pairs_1 ++ dktX0_pairs_2
def dkwX0_pairs_0 : List UInt8 := [3, 60, 3, 61, 28, 42, 180, 0, 81, 180, 0, 184, 162, 0, 66, 42, 180, 0, 81, 28, 182, 1, 62, 62]
abbrev dktX0_pairs_0 : List UInt8 := dkwX0_pairs_0 ++ dktX0_pairs_1
theorem dksX0_pairs_0 : cX0_pairs.data.toList.drop 0 = dktX0_pairs_0 := by decide +kernel
theorem dksX0_pairs_1 : cX0_pairs.data.toList.drop 24 = dktX0_pairs_1 := dk_seg dksX0_pairs_0 24 rfl rfl
theorem dksX0_pairs_2 : cX0_pairs.data.toList.drop 47 = dktX0_pairs_2 := dk_seg dksX0_pairs_1 23 rfl rfl
theorem dksX0_pairs_3 : cX0_pairs.data.toList.drop 69 = dktX0_pairs_3 := dk_seg dksX0_pairs_2 22 rfl rfl
theorem dX0_pairs_0 : decode cX0_pairs 0 = .ok (.iconst 0, 1) := dk_3 (dk_at dksX0_pairs_0 0 rfl rfl)
theorem dX0_pairs_1 : decode cX0_pairs 1 = .ok (.istore_n 1, 1) := dk_60 (dk_at dksX0_pairs_0 1 rfl rfl)
theorem dX0_pairs_2 : decode cX0_pairs 2 = .ok (.iconst 0, 1) := dk_3 (dk_at dksX0_pairs_0 2 rfl rfl)
theorem dX0_pairs_3 : decode cX0_pairs 3 = .ok (.istore_n 2, 1) := dk_61 (dk_at dksX0_pairs_0 3 rfl rfl)
theorem dX0_pairs_4 : decode cX0_pairs 4 = .ok (.iload_n 2, 1) := dk_28 (dk_at dksX0_pairs_0 4 rfl rfl)
theorem dX0_pairs_5 : decode cX0_pairs 5 = .ok (.aload_n 0, 1) := dk_42 (dk_at dksX0_pairs_0 5 rfl rfl)
theorem dX0_pairs_6 : decode cX0_pairs 6 = .ok (.getfield 81, 3) := dk_180 0 81 (dk_at dksX0_pairs_0 6 rfl rfl)
theorem dX0_pairs_9 : decode cX0_pairs 9 = .ok (.getfield 184, 3) := dk_180 0 184 (dk_at dksX0_pairs_0 9 rfl rfl)
theorem dX0_pairs_12 : decode cX0_pairs 12 = .ok (.if_icmp .ge 66, 3) := dk_162 0 66 (dk_at dksX0_pairs_0 12 rfl rfl)
theorem dX0_pairs_15 : decode cX0_pairs 15 = .ok (.aload_n 0, 1) := dk_42 (dk_at dksX0_pairs_0 15 rfl rfl)
theorem dX0_pairs_16 : decode cX0_pairs 16 = .ok (.getfield 81, 3) := dk_180 0 81 (dk_at dksX0_pairs_0 16 rfl rfl)
theorem dX0_pairs_19 : decode cX0_pairs 19 = .ok (.iload_n 2, 1) := dk_28 (dk_at dksX0_pairs_0 19 rfl rfl)
theorem dX0_pairs_20 : decode cX0_pairs 20 = .ok (.invokevirtual 318, 3) := dk_182 1 62 (dk_at dksX0_pairs_0 20 rfl rfl)
theorem dX0_pairs_23 : decode cX0_pairs 23 = .ok (.istore_n 3, 1) := dk_62 (dk_at dksX0_pairs_0 23 rfl rfl)
theorem dX0_pairs_24 : decode cX0_pairs 24 = .ok (.iconst 0, 1) := dk_3 (dk_at dksX0_pairs_1 0 rfl rfl)
theorem dX0_pairs_25 : decode cX0_pairs 25 = .ok (.istore 4, 2) := dk_54 4 (dk_at dksX0_pairs_1 1 rfl rfl)
theorem dX0_pairs_27 : decode cX0_pairs 27 = .ok (.iload 4, 2) := dk_21 4 (dk_at dksX0_pairs_1 3 rfl rfl)
theorem dX0_pairs_29 : decode cX0_pairs 29 = .ok (.iload_n 2, 1) := dk_28 (dk_at dksX0_pairs_1 5 rfl rfl)
theorem dX0_pairs_30 : decode cX0_pairs 30 = .ok (.if_icmp .ge 42, 3) := dk_162 0 42 (dk_at dksX0_pairs_1 6 rfl rfl)
theorem dX0_pairs_33 : decode cX0_pairs 33 = .ok (.iload_n 1, 1) := dk_27 (dk_at dksX0_pairs_1 9 rfl rfl)
theorem dX0_pairs_34 : decode cX0_pairs 34 = .ok (.iload_n 3, 1) := dk_29 (dk_at dksX0_pairs_1 10 rfl rfl)
theorem dX0_pairs_35 : decode cX0_pairs 35 = .ok (.iload 4, 2) := dk_21 4 (dk_at dksX0_pairs_1 11 rfl rfl)
theorem dX0_pairs_37 : decode cX0_pairs 37 = .ok (.ishr, 1) := dk_122 (dk_at dksX0_pairs_1 13 rfl rfl)
theorem dX0_pairs_38 : decode cX0_pairs 38 = .ok (.iconst 1, 1) := dk_4 (dk_at dksX0_pairs_1 14 rfl rfl)
theorem dX0_pairs_39 : decode cX0_pairs 39 = .ok (.iand, 1) := dk_126 (dk_at dksX0_pairs_1 15 rfl rfl)
theorem dX0_pairs_40 : decode cX0_pairs 40 = .ok (.ifCond .eq 23, 3) := dk_153 0 23 (dk_at dksX0_pairs_1 16 rfl rfl)
theorem dX0_pairs_43 : decode cX0_pairs 43 = .ok (.aload_n 0, 1) := dk_42 (dk_at dksX0_pairs_1 19 rfl rfl)
theorem dX0_pairs_44 : decode cX0_pairs 44 = .ok (.getfield 81, 3) := dk_180 0 81 (dk_at dksX0_pairs_1 20 rfl rfl)
theorem dX0_pairs_47 : decode cX0_pairs 47 = .ok (.iload 4, 2) := dk_21 4 (dk_at dksX0_pairs_2 0 rfl rfl)
theorem dX0_pairs_49 : decode cX0_pairs 49 = .ok (.invokevirtual 318, 3) := dk_182 1 62 (dk_at dksX0_pairs_2 2 rfl rfl)
theorem dX0_pairs_52 : decode cX0_pairs 52 = .ok (.iload_n 2, 1) := dk_28 (dk_at dksX0_pairs_2 5 rfl rfl)
theorem dX0_pairs_53 : decode cX0_pairs 53 = .ok (.ishr, 1) := dk_122 (dk_at dksX0_pairs_2 6 rfl rfl)
theorem dX0_pairs_54 : decode cX0_pairs 54 = .ok (.iconst 1, 1) := dk_4 (dk_at dksX0_pairs_2 7 rfl rfl)
theorem dX0_pairs_55 : decode cX0_pairs 55 = .ok (.iand, 1) := dk_126 (dk_at dksX0_pairs_2 8 rfl rfl)
theorem dX0_pairs_56 : decode cX0_pairs 56 = .ok (.ifCond .eq 7, 3) := dk_153 0 7 (dk_at dksX0_pairs_2 9 rfl rfl)
theorem dX0_pairs_59 : decode cX0_pairs 59 = .ok (.iconst 1, 1) := dk_4 (dk_at dksX0_pairs_2 12 rfl rfl)
theorem dX0_pairs_60 : decode cX0_pairs 60 = .ok (.goto 4, 3) := dk_167 0 4 (dk_at dksX0_pairs_2 13 rfl rfl)
theorem dX0_pairs_63 : decode cX0_pairs 63 = .ok (.iconst 0, 1) := dk_3 (dk_at dksX0_pairs_2 16 rfl rfl)
theorem dX0_pairs_64 : decode cX0_pairs 64 = .ok (.iadd, 1) := dk_96 (dk_at dksX0_pairs_2 17 rfl rfl)
theorem dX0_pairs_65 : decode cX0_pairs 65 = .ok (.istore_n 1, 1) := dk_60 (dk_at dksX0_pairs_2 18 rfl rfl)
theorem dX0_pairs_66 : decode cX0_pairs 66 = .ok (.iinc 4 1, 3) := dk_132 4 1 (dk_at dksX0_pairs_2 19 rfl rfl)
theorem dX0_pairs_69 : decode cX0_pairs 69 = .ok (.goto (-42), 3) := dk_167 255 214 (dk_at dksX0_pairs_3 0 rfl rfl)
theorem dX0_pairs_72 : decode cX0_pairs 72 = .ok (.iinc 2 1, 3) := dk_132 2 1 (dk_at dksX0_pairs_3 3 rfl rfl)
theorem dX0_pairs_75 : decode cX0_pairs 75 = .ok (.goto (-71), 3) := dk_167 255 185 (dk_at dksX0_pairs_3 6 rfl rfl)
theorem dX0_pairs_78 : decode cX0_pairs 78 = .ok (.iload_n 1, 1) := dk_27 (dk_at dksX0_pairs_3 9 rfl rfl)
theorem dX0_pairs_79 : decode cX0_pairs 79 = .ok (.ireturn, 1) := dk_172 (dk_at dksX0_pairs_3 10 rfl rfl)
abbrev cX0_back : ByteArray := prog_1_method_49_code
def yX0_back : MethodName := ⟨RX0, "back", "(I)I"⟩
def dkwX0_back_2 : List UInt8 := [132, 3, 1, 167, 255, 217, 2, 172, 77, 42, 44, 182, 0, 150, 16, 10, 100, 172]
abbrev dktX0_back_2 : List UInt8 := dkwX0_back_2 ++ []
def dkwX0_back_1 : List UInt8 := [54, 4, 21, 4, 154, 0, 5, 2, 172, 21, 4, 184, 1, 13, 61, 28, 27, 160, 0, 5, 29, 172]
abbrev dktX0_back_1 : List UInt8 := dkwX0_back_1 ++ dktX0_back_2
def dkwX0_back_0 : List UInt8 := [42, 27, 182, 0, 230, 27, 61, 4, 62, 29, 16, 8, 163, 0, 39, 42, 180, 0, 81, 28, 182, 1, 4]
abbrev dktX0_back_0 : List UInt8 := dkwX0_back_0 ++ dktX0_back_1
theorem dksX0_back_0 : cX0_back.data.toList.drop 0 = dktX0_back_0 := by decide +kernel
theorem dksX0_back_1 : cX0_back.data.toList.drop 23 = dktX0_back_1 := dk_seg dksX0_back_0 23 rfl rfl
theorem dksX0_back_2 : cX0_back.data.toList.drop 45 = dktX0_back_2 := dk_seg dksX0_back_1 22 rfl rfl
theorem dX0_back_0 : decode cX0_back 0 = .ok (.aload_n 0, 1) := dk_42 (dk_at dksX0_back_0 0 rfl rfl)
theorem dX0_back_1 : decode cX0_back 1 = .ok (.iload_n 1, 1) := dk_27 (dk_at dksX0_back_0 1 rfl rfl)
theorem dX0_back_2 : decode cX0_back 2 = .ok (.invokevirtual 230, 3) := dk_182 0 230 (dk_at dksX0_back_0 2 rfl rfl)
theorem dX0_back_5 : decode cX0_back 5 = .ok (.iload_n 1, 1) := dk_27 (dk_at dksX0_back_0 5 rfl rfl)
theorem dX0_back_6 : decode cX0_back 6 = .ok (.istore_n 2, 1) := dk_61 (dk_at dksX0_back_0 6 rfl rfl)
theorem dX0_back_7 : decode cX0_back 7 = .ok (.iconst 1, 1) := dk_4 (dk_at dksX0_back_0 7 rfl rfl)
theorem dX0_back_8 : decode cX0_back 8 = .ok (.istore_n 3, 1) := dk_62 (dk_at dksX0_back_0 8 rfl rfl)
theorem dX0_back_9 : decode cX0_back 9 = .ok (.iload_n 3, 1) := dk_29 (dk_at dksX0_back_0 9 rfl rfl)
theorem dX0_back_10 : decode cX0_back 10 = .ok (.bipush 8, 2) := dk_16 8 (dk_at dksX0_back_0 10 rfl rfl)
theorem dX0_back_12 : decode cX0_back 12 = .ok (.if_icmp .gt 39, 3) := dk_163 0 39 (dk_at dksX0_back_0 12 rfl rfl)
theorem dX0_back_15 : decode cX0_back 15 = .ok (.aload_n 0, 1) := dk_42 (dk_at dksX0_back_0 15 rfl rfl)
theorem dX0_back_16 : decode cX0_back 16 = .ok (.getfield 81, 3) := dk_180 0 81 (dk_at dksX0_back_0 16 rfl rfl)
theorem dX0_back_19 : decode cX0_back 19 = .ok (.iload_n 2, 1) := dk_28 (dk_at dksX0_back_0 19 rfl rfl)
theorem dX0_back_20 : decode cX0_back 20 = .ok (.invokevirtual 260, 3) := dk_182 1 4 (dk_at dksX0_back_0 20 rfl rfl)
theorem dX0_back_23 : decode cX0_back 23 = .ok (.istore 4, 2) := dk_54 4 (dk_at dksX0_back_1 0 rfl rfl)
theorem dX0_back_25 : decode cX0_back 25 = .ok (.iload 4, 2) := dk_21 4 (dk_at dksX0_back_1 2 rfl rfl)
theorem dX0_back_27 : decode cX0_back 27 = .ok (.ifCond .ne 5, 3) := dk_154 0 5 (dk_at dksX0_back_1 4 rfl rfl)
theorem dX0_back_30 : decode cX0_back 30 = .ok (.iconst (-1), 1) := dk_2 (dk_at dksX0_back_1 7 rfl rfl)
theorem dX0_back_31 : decode cX0_back 31 = .ok (.ireturn, 1) := dk_172 (dk_at dksX0_back_1 8 rfl rfl)
theorem dX0_back_32 : decode cX0_back 32 = .ok (.iload 4, 2) := dk_21 4 (dk_at dksX0_back_1 9 rfl rfl)
theorem dX0_back_34 : decode cX0_back 34 = .ok (.invokestatic 269, 3) := dk_184 1 13 (dk_at dksX0_back_1 11 rfl rfl)
theorem dX0_back_37 : decode cX0_back 37 = .ok (.istore_n 2, 1) := dk_61 (dk_at dksX0_back_1 14 rfl rfl)
theorem dX0_back_38 : decode cX0_back 38 = .ok (.iload_n 2, 1) := dk_28 (dk_at dksX0_back_1 15 rfl rfl)
theorem dX0_back_39 : decode cX0_back 39 = .ok (.iload_n 1, 1) := dk_27 (dk_at dksX0_back_1 16 rfl rfl)
theorem dX0_back_40 : decode cX0_back 40 = .ok (.if_icmp .ne 5, 3) := dk_160 0 5 (dk_at dksX0_back_1 17 rfl rfl)
theorem dX0_back_43 : decode cX0_back 43 = .ok (.iload_n 3, 1) := dk_29 (dk_at dksX0_back_1 20 rfl rfl)
theorem dX0_back_44 : decode cX0_back 44 = .ok (.ireturn, 1) := dk_172 (dk_at dksX0_back_1 21 rfl rfl)
theorem dX0_back_45 : decode cX0_back 45 = .ok (.iinc 3 1, 3) := dk_132 3 1 (dk_at dksX0_back_2 0 rfl rfl)
theorem dX0_back_48 : decode cX0_back 48 = .ok (.goto (-39), 3) := dk_167 255 217 (dk_at dksX0_back_2 3 rfl rfl)
theorem dX0_back_51 : decode cX0_back 51 = .ok (.iconst (-1), 1) := dk_2 (dk_at dksX0_back_2 6 rfl rfl)
theorem dX0_back_52 : decode cX0_back 52 = .ok (.ireturn, 1) := dk_172 (dk_at dksX0_back_2 7 rfl rfl)
theorem dX0_back_53 : decode cX0_back 53 = .ok (.astore_n 2, 1) := dk_77 (dk_at dksX0_back_2 8 rfl rfl)
theorem dX0_back_54 : decode cX0_back 54 = .ok (.aload_n 0, 1) := dk_42 (dk_at dksX0_back_2 9 rfl rfl)
theorem dX0_back_55 : decode cX0_back 55 = .ok (.aload_n 2, 1) := dk_44 (dk_at dksX0_back_2 10 rfl rfl)
theorem dX0_back_56 : decode cX0_back 56 = .ok (.invokevirtual 150, 3) := dk_182 0 150 (dk_at dksX0_back_2 11 rfl rfl)
theorem dX0_back_59 : decode cX0_back 59 = .ok (.bipush 10, 2) := dk_16 10 (dk_at dksX0_back_2 14 rfl rfl)
theorem dX0_back_61 : decode cX0_back 61 = .ok (.isub, 1) := dk_100 (dk_at dksX0_back_2 16 rfl rfl)
theorem dX0_back_62 : decode cX0_back 62 = .ok (.ireturn, 1) := dk_172 (dk_at dksX0_back_2 17 rfl rfl)
abbrev cX0_most : ByteArray := prog_1_method_50_code
def yX0_most : MethodName := ⟨RX0, "most", "()I"⟩
def dkwX0_most_4 : List UInt8 := [167, 0, 4, 3, 16, 251, 184, 0, 98, 27, 172, 76, 42, 43, 182, 0, 150, 172]
abbrev dktX0_most_4 : List UInt8 := dkwX0_most_4 ++ []
def dkwX0_most_3 : List UInt8 := [21, 4, 28, 164, 0, 8, 29, 60, 21, 4, 61, 132, 3, 1, 167, 255, 178, 27, 2, 159, 0, 7, 4]
abbrev dktX0_most_3 : List UInt8 := dkwX0_most_3 ++ dktX0_most_4
def dkwX0_most_2 : List UInt8 := [122, 4, 126, 96, 54, 4, 132, 5, 1, 167, 255, 223, 42, 180, 0, 81, 29, 182, 0, 105, 153, 0, 14]
abbrev dktX0_most_2 : List UInt8 := dkwX0_most_2 ++ dktX0_most_3
def dkwX0_most_1 : List UInt8 := [21, 5, 42, 180, 0, 81, 180, 0, 184, 162, 0, 27, 21, 4, 42, 180, 0, 81, 21, 5, 182, 1, 62, 29]
abbrev dktX0_most_1 : List UInt8 := dkwX0_most_1 ++ dktX0_most_2
def dkwX0_most_0 : List UInt8 := [2, 60, 2, 61, 3, 62, 29, 42, 180, 0, 81, 180, 0, 184, 162, 0, 73, 3, 54, 4, 3, 54, 5]
abbrev dktX0_most_0 : List UInt8 := dkwX0_most_0 ++ dktX0_most_1
theorem dksX0_most_0 : cX0_most.data.toList.drop 0 = dktX0_most_0 := by decide +kernel
theorem dksX0_most_1 : cX0_most.data.toList.drop 23 = dktX0_most_1 := dk_seg dksX0_most_0 23 rfl rfl
theorem dksX0_most_2 : cX0_most.data.toList.drop 47 = dktX0_most_2 := dk_seg dksX0_most_1 24 rfl rfl
theorem dksX0_most_3 : cX0_most.data.toList.drop 70 = dktX0_most_3 := dk_seg dksX0_most_2 23 rfl rfl
theorem dksX0_most_4 : cX0_most.data.toList.drop 93 = dktX0_most_4 := dk_seg dksX0_most_3 23 rfl rfl
theorem dX0_most_0 : decode cX0_most 0 = .ok (.iconst (-1), 1) := dk_2 (dk_at dksX0_most_0 0 rfl rfl)
theorem dX0_most_1 : decode cX0_most 1 = .ok (.istore_n 1, 1) := dk_60 (dk_at dksX0_most_0 1 rfl rfl)
theorem dX0_most_2 : decode cX0_most 2 = .ok (.iconst (-1), 1) := dk_2 (dk_at dksX0_most_0 2 rfl rfl)
theorem dX0_most_3 : decode cX0_most 3 = .ok (.istore_n 2, 1) := dk_61 (dk_at dksX0_most_0 3 rfl rfl)
theorem dX0_most_4 : decode cX0_most 4 = .ok (.iconst 0, 1) := dk_3 (dk_at dksX0_most_0 4 rfl rfl)
theorem dX0_most_5 : decode cX0_most 5 = .ok (.istore_n 3, 1) := dk_62 (dk_at dksX0_most_0 5 rfl rfl)
theorem dX0_most_6 : decode cX0_most 6 = .ok (.iload_n 3, 1) := dk_29 (dk_at dksX0_most_0 6 rfl rfl)
theorem dX0_most_7 : decode cX0_most 7 = .ok (.aload_n 0, 1) := dk_42 (dk_at dksX0_most_0 7 rfl rfl)
theorem dX0_most_8 : decode cX0_most 8 = .ok (.getfield 81, 3) := dk_180 0 81 (dk_at dksX0_most_0 8 rfl rfl)
theorem dX0_most_11 : decode cX0_most 11 = .ok (.getfield 184, 3) := dk_180 0 184 (dk_at dksX0_most_0 11 rfl rfl)
theorem dX0_most_14 : decode cX0_most 14 = .ok (.if_icmp .ge 73, 3) := dk_162 0 73 (dk_at dksX0_most_0 14 rfl rfl)
theorem dX0_most_17 : decode cX0_most 17 = .ok (.iconst 0, 1) := dk_3 (dk_at dksX0_most_0 17 rfl rfl)
theorem dX0_most_18 : decode cX0_most 18 = .ok (.istore 4, 2) := dk_54 4 (dk_at dksX0_most_0 18 rfl rfl)
theorem dX0_most_20 : decode cX0_most 20 = .ok (.iconst 0, 1) := dk_3 (dk_at dksX0_most_0 20 rfl rfl)
theorem dX0_most_21 : decode cX0_most 21 = .ok (.istore 5, 2) := dk_54 5 (dk_at dksX0_most_0 21 rfl rfl)
theorem dX0_most_23 : decode cX0_most 23 = .ok (.iload 5, 2) := dk_21 5 (dk_at dksX0_most_1 0 rfl rfl)
theorem dX0_most_25 : decode cX0_most 25 = .ok (.aload_n 0, 1) := dk_42 (dk_at dksX0_most_1 2 rfl rfl)
theorem dX0_most_26 : decode cX0_most 26 = .ok (.getfield 81, 3) := dk_180 0 81 (dk_at dksX0_most_1 3 rfl rfl)
theorem dX0_most_29 : decode cX0_most 29 = .ok (.getfield 184, 3) := dk_180 0 184 (dk_at dksX0_most_1 6 rfl rfl)
theorem dX0_most_32 : decode cX0_most 32 = .ok (.if_icmp .ge 27, 3) := dk_162 0 27 (dk_at dksX0_most_1 9 rfl rfl)
theorem dX0_most_35 : decode cX0_most 35 = .ok (.iload 4, 2) := dk_21 4 (dk_at dksX0_most_1 12 rfl rfl)
theorem dX0_most_37 : decode cX0_most 37 = .ok (.aload_n 0, 1) := dk_42 (dk_at dksX0_most_1 14 rfl rfl)
theorem dX0_most_38 : decode cX0_most 38 = .ok (.getfield 81, 3) := dk_180 0 81 (dk_at dksX0_most_1 15 rfl rfl)
theorem dX0_most_41 : decode cX0_most 41 = .ok (.iload 5, 2) := dk_21 5 (dk_at dksX0_most_1 18 rfl rfl)
theorem dX0_most_43 : decode cX0_most 43 = .ok (.invokevirtual 318, 3) := dk_182 1 62 (dk_at dksX0_most_1 20 rfl rfl)
theorem dX0_most_46 : decode cX0_most 46 = .ok (.iload_n 3, 1) := dk_29 (dk_at dksX0_most_1 23 rfl rfl)
theorem dX0_most_47 : decode cX0_most 47 = .ok (.ishr, 1) := dk_122 (dk_at dksX0_most_2 0 rfl rfl)
theorem dX0_most_48 : decode cX0_most 48 = .ok (.iconst 1, 1) := dk_4 (dk_at dksX0_most_2 1 rfl rfl)
theorem dX0_most_49 : decode cX0_most 49 = .ok (.iand, 1) := dk_126 (dk_at dksX0_most_2 2 rfl rfl)
theorem dX0_most_50 : decode cX0_most 50 = .ok (.iadd, 1) := dk_96 (dk_at dksX0_most_2 3 rfl rfl)
theorem dX0_most_51 : decode cX0_most 51 = .ok (.istore 4, 2) := dk_54 4 (dk_at dksX0_most_2 4 rfl rfl)
theorem dX0_most_53 : decode cX0_most 53 = .ok (.iinc 5 1, 3) := dk_132 5 1 (dk_at dksX0_most_2 6 rfl rfl)
theorem dX0_most_56 : decode cX0_most 56 = .ok (.goto (-33), 3) := dk_167 255 223 (dk_at dksX0_most_2 9 rfl rfl)
theorem dX0_most_59 : decode cX0_most 59 = .ok (.aload_n 0, 1) := dk_42 (dk_at dksX0_most_2 12 rfl rfl)
theorem dX0_most_60 : decode cX0_most 60 = .ok (.getfield 81, 3) := dk_180 0 81 (dk_at dksX0_most_2 13 rfl rfl)
theorem dX0_most_63 : decode cX0_most 63 = .ok (.iload_n 3, 1) := dk_29 (dk_at dksX0_most_2 16 rfl rfl)
theorem dX0_most_64 : decode cX0_most 64 = .ok (.invokevirtual 105, 3) := dk_182 0 105 (dk_at dksX0_most_2 17 rfl rfl)
theorem dX0_most_67 : decode cX0_most 67 = .ok (.ifCond .eq 14, 3) := dk_153 0 14 (dk_at dksX0_most_2 20 rfl rfl)
theorem dX0_most_70 : decode cX0_most 70 = .ok (.iload 4, 2) := dk_21 4 (dk_at dksX0_most_3 0 rfl rfl)
theorem dX0_most_72 : decode cX0_most 72 = .ok (.iload_n 2, 1) := dk_28 (dk_at dksX0_most_3 2 rfl rfl)
theorem dX0_most_73 : decode cX0_most 73 = .ok (.if_icmp .le 8, 3) := dk_164 0 8 (dk_at dksX0_most_3 3 rfl rfl)
theorem dX0_most_76 : decode cX0_most 76 = .ok (.iload_n 3, 1) := dk_29 (dk_at dksX0_most_3 6 rfl rfl)
theorem dX0_most_77 : decode cX0_most 77 = .ok (.istore_n 1, 1) := dk_60 (dk_at dksX0_most_3 7 rfl rfl)
theorem dX0_most_78 : decode cX0_most 78 = .ok (.iload 4, 2) := dk_21 4 (dk_at dksX0_most_3 8 rfl rfl)
theorem dX0_most_80 : decode cX0_most 80 = .ok (.istore_n 2, 1) := dk_61 (dk_at dksX0_most_3 10 rfl rfl)
theorem dX0_most_81 : decode cX0_most 81 = .ok (.iinc 3 1, 3) := dk_132 3 1 (dk_at dksX0_most_3 11 rfl rfl)
theorem dX0_most_84 : decode cX0_most 84 = .ok (.goto (-78), 3) := dk_167 255 178 (dk_at dksX0_most_3 14 rfl rfl)
theorem dX0_most_87 : decode cX0_most 87 = .ok (.iload_n 1, 1) := dk_27 (dk_at dksX0_most_3 17 rfl rfl)
theorem dX0_most_88 : decode cX0_most 88 = .ok (.iconst (-1), 1) := dk_2 (dk_at dksX0_most_3 18 rfl rfl)
theorem dX0_most_89 : decode cX0_most 89 = .ok (.if_icmp .eq 7, 3) := dk_159 0 7 (dk_at dksX0_most_3 19 rfl rfl)
theorem dX0_most_92 : decode cX0_most 92 = .ok (.iconst 1, 1) := dk_4 (dk_at dksX0_most_3 22 rfl rfl)
theorem dX0_most_93 : decode cX0_most 93 = .ok (.goto 4, 3) := dk_167 0 4 (dk_at dksX0_most_4 0 rfl rfl)
theorem dX0_most_96 : decode cX0_most 96 = .ok (.iconst 0, 1) := dk_3 (dk_at dksX0_most_4 3 rfl rfl)
theorem dX0_most_97 : decode cX0_most 97 = .ok (.bipush (-5), 2) := dk_16 251 (dk_at dksX0_most_4 4 rfl rfl)
theorem dX0_most_99 : decode cX0_most 99 = .ok (.invokestatic 98, 3) := dk_184 0 98 (dk_at dksX0_most_4 6 rfl rfl)
theorem dX0_most_102 : decode cX0_most 102 = .ok (.iload_n 1, 1) := dk_27 (dk_at dksX0_most_4 9 rfl rfl)
theorem dX0_most_103 : decode cX0_most 103 = .ok (.ireturn, 1) := dk_172 (dk_at dksX0_most_4 10 rfl rfl)
theorem dX0_most_104 : decode cX0_most 104 = .ok (.astore_n 1, 1) := dk_76 (dk_at dksX0_most_4 11 rfl rfl)
theorem dX0_most_105 : decode cX0_most 105 = .ok (.aload_n 0, 1) := dk_42 (dk_at dksX0_most_4 12 rfl rfl)
theorem dX0_most_106 : decode cX0_most 106 = .ok (.aload_n 1, 1) := dk_43 (dk_at dksX0_most_4 13 rfl rfl)
theorem dX0_most_107 : decode cX0_most 107 = .ok (.invokevirtual 150, 3) := dk_182 0 150 (dk_at dksX0_most_4 14 rfl rfl)
theorem dX0_most_110 : decode cX0_most 110 = .ok (.ireturn, 1) := dk_172 (dk_at dksX0_most_4 17 rfl rfl)
abbrev cX0_list : ByteArray := prog_1_method_53_code
def yX0_list : MethodName := ⟨RX0, "list", "(II)I"⟩
def dkwX0_list_8 : List UInt8 := [16, 10, 100, 172]
abbrev dktX0_list_8 : List UInt8 := dkwX0_list_8 ++ []
def dkwX0_list_7 : List UInt8 := [132, 6, 1, 167, 255, 181, 28, 154, 0, 8, 21, 4, 167, 0, 5, 21, 5, 172, 78, 42, 45, 182, 0, 150]
abbrev dktX0_list_7 : List UInt8 := dkwX0_list_7 ++ dktX0_list_8
def dkwX0_list_6 : List UInt8 := [153, 0, 8, 21, 6, 167, 0, 5, 21, 4, 54, 4, 21, 5, 21, 7, 184, 1, 29, 96, 54, 5]
abbrev dktX0_list_6 : List UInt8 := dkwX0_list_6 ++ dktX0_list_7
def dkwX0_list_5 : List UInt8 := [130, 4, 42, 180, 0, 81, 180, 0, 184, 120, 4, 100, 126, 54, 7, 21, 4, 2, 160, 0, 13, 21, 7]
abbrev dktX0_list_5 : List UInt8 := dkwX0_list_5 ++ dktX0_list_6
def dkwX0_list_4 : List UInt8 := [180, 0, 81, 180, 0, 184, 162, 0, 69, 45, 21, 6, 182, 1, 65, 42, 180, 0, 81, 21, 6, 182, 1, 62]
abbrev dktX0_list_4 : List UInt8 := dkwX0_list_4 ++ dktX0_list_5
def dkwX0_list_3 : List UInt8 := [153, 0, 7, 5, 167, 0, 4, 3, 96, 172, 2, 54, 4, 3, 54, 5, 3, 54, 6, 21, 6, 42]
abbrev dktX0_list_3 : List UInt8 := dkwX0_list_3 ++ dktX0_list_4
def dkwX0_list_2 : List UInt8 := [160, 0, 33, 42, 45, 4, 182, 1, 72, 153, 0, 7, 4, 167, 0, 4, 3, 42, 45, 3, 182, 1, 72]
abbrev dktX0_list_2 : List UInt8 := dkwX0_list_2 ++ dktX0_list_3
def dkwX0_list_1 : List UInt8 := [133, 9, 20, 1, 21, 184, 0, 142, 153, 0, 7, 4, 167, 0, 4, 3, 16, 251, 184, 0, 98, 28, 5]
abbrev dktX0_list_1 : List UInt8 := dkwX0_list_1 ++ dktX0_list_2
def dkwX0_list_0 : List UInt8 := [42, 27, 182, 0, 136, 182, 0, 154, 78, 45, 182, 0, 11, 42, 180, 0, 81, 180, 0, 184, 161, 0, 19, 28]
abbrev dktX0_list_0 : List UInt8 := dkwX0_list_0 ++ dktX0_list_1
theorem dksX0_list_0 : cX0_list.data.toList.drop 0 = dktX0_list_0 := by decide +kernel
theorem dksX0_list_1 : cX0_list.data.toList.drop 24 = dktX0_list_1 := dk_seg dksX0_list_0 24 rfl rfl
theorem dksX0_list_2 : cX0_list.data.toList.drop 47 = dktX0_list_2 := dk_seg dksX0_list_1 23 rfl rfl
theorem dksX0_list_3 : cX0_list.data.toList.drop 70 = dktX0_list_3 := dk_seg dksX0_list_2 23 rfl rfl
theorem dksX0_list_4 : cX0_list.data.toList.drop 92 = dktX0_list_4 := dk_seg dksX0_list_3 22 rfl rfl
theorem dksX0_list_5 : cX0_list.data.toList.drop 116 = dktX0_list_5 := dk_seg dksX0_list_4 24 rfl rfl
theorem dksX0_list_6 : cX0_list.data.toList.drop 139 = dktX0_list_6 := dk_seg dksX0_list_5 23 rfl rfl
theorem dksX0_list_7 : cX0_list.data.toList.drop 161 = dktX0_list_7 := dk_seg dksX0_list_6 22 rfl rfl
theorem dksX0_list_8 : cX0_list.data.toList.drop 185 = dktX0_list_8 := dk_seg dksX0_list_7 24 rfl rfl
theorem dX0_list_0 : decode cX0_list 0 = .ok (.aload_n 0, 1) := dk_42 (dk_at dksX0_list_0 0 rfl rfl)
theorem dX0_list_1 : decode cX0_list 1 = .ok (.iload_n 1, 1) := dk_27 (dk_at dksX0_list_0 1 rfl rfl)
theorem dX0_list_2 : decode cX0_list 2 = .ok (.invokevirtual 136, 3) := dk_182 0 136 (dk_at dksX0_list_0 2 rfl rfl)
theorem dX0_list_5 : decode cX0_list 5 = .ok (.invokevirtual 154, 3) := dk_182 0 154 (dk_at dksX0_list_0 5 rfl rfl)
theorem dX0_list_8 : decode cX0_list 8 = .ok (.astore_n 3, 1) := dk_78 (dk_at dksX0_list_0 8 rfl rfl)
theorem dX0_list_9 : decode cX0_list 9 = .ok (.aload_n 3, 1) := dk_45 (dk_at dksX0_list_0 9 rfl rfl)
theorem dX0_list_10 : decode cX0_list 10 = .ok (.invokevirtual 11, 3) := dk_182 0 11 (dk_at dksX0_list_0 10 rfl rfl)
theorem dX0_list_13 : decode cX0_list 13 = .ok (.aload_n 0, 1) := dk_42 (dk_at dksX0_list_0 13 rfl rfl)
theorem dX0_list_14 : decode cX0_list 14 = .ok (.getfield 81, 3) := dk_180 0 81 (dk_at dksX0_list_0 14 rfl rfl)
theorem dX0_list_17 : decode cX0_list 17 = .ok (.getfield 184, 3) := dk_180 0 184 (dk_at dksX0_list_0 17 rfl rfl)
theorem dX0_list_20 : decode cX0_list 20 = .ok (.if_icmp .lt 19, 3) := dk_161 0 19 (dk_at dksX0_list_0 20 rfl rfl)
theorem dX0_list_23 : decode cX0_list 23 = .ok (.iload_n 2, 1) := dk_28 (dk_at dksX0_list_0 23 rfl rfl)
theorem dX0_list_24 : decode cX0_list 24 = .ok (.i2l, 1) := dk_133 (dk_at dksX0_list_1 0 rfl rfl)
theorem dX0_list_25 : decode cX0_list 25 = .ok (.lconst 0, 1) := dk_9 (dk_at dksX0_list_1 1 rfl rfl)
theorem dX0_list_26 : decode cX0_list 26 = .ok (.ldc2_w 277, 3) := dk_20 1 21 (dk_at dksX0_list_1 2 rfl rfl)
theorem dX0_list_29 : decode cX0_list 29 = .ok (.invokestatic 142, 3) := dk_184 0 142 (dk_at dksX0_list_1 5 rfl rfl)
theorem dX0_list_32 : decode cX0_list 32 = .ok (.ifCond .eq 7, 3) := dk_153 0 7 (dk_at dksX0_list_1 8 rfl rfl)
theorem dX0_list_35 : decode cX0_list 35 = .ok (.iconst 1, 1) := dk_4 (dk_at dksX0_list_1 11 rfl rfl)
theorem dX0_list_36 : decode cX0_list 36 = .ok (.goto 4, 3) := dk_167 0 4 (dk_at dksX0_list_1 12 rfl rfl)
theorem dX0_list_39 : decode cX0_list 39 = .ok (.iconst 0, 1) := dk_3 (dk_at dksX0_list_1 15 rfl rfl)
theorem dX0_list_40 : decode cX0_list 40 = .ok (.bipush (-5), 2) := dk_16 251 (dk_at dksX0_list_1 16 rfl rfl)
theorem dX0_list_42 : decode cX0_list 42 = .ok (.invokestatic 98, 3) := dk_184 0 98 (dk_at dksX0_list_1 18 rfl rfl)
theorem dX0_list_45 : decode cX0_list 45 = .ok (.iload_n 2, 1) := dk_28 (dk_at dksX0_list_1 21 rfl rfl)
theorem dX0_list_46 : decode cX0_list 46 = .ok (.iconst 2, 1) := dk_5 (dk_at dksX0_list_1 22 rfl rfl)
theorem dX0_list_47 : decode cX0_list 47 = .ok (.if_icmp .ne 33, 3) := dk_160 0 33 (dk_at dksX0_list_2 0 rfl rfl)
theorem dX0_list_50 : decode cX0_list 50 = .ok (.aload_n 0, 1) := dk_42 (dk_at dksX0_list_2 3 rfl rfl)
theorem dX0_list_51 : decode cX0_list 51 = .ok (.aload_n 3, 1) := dk_45 (dk_at dksX0_list_2 4 rfl rfl)
theorem dX0_list_52 : decode cX0_list 52 = .ok (.iconst 1, 1) := dk_4 (dk_at dksX0_list_2 5 rfl rfl)
theorem dX0_list_53 : decode cX0_list 53 = .ok (.invokevirtual 328, 3) := dk_182 1 72 (dk_at dksX0_list_2 6 rfl rfl)
theorem dX0_list_56 : decode cX0_list 56 = .ok (.ifCond .eq 7, 3) := dk_153 0 7 (dk_at dksX0_list_2 9 rfl rfl)
theorem dX0_list_59 : decode cX0_list 59 = .ok (.iconst 1, 1) := dk_4 (dk_at dksX0_list_2 12 rfl rfl)
theorem dX0_list_60 : decode cX0_list 60 = .ok (.goto 4, 3) := dk_167 0 4 (dk_at dksX0_list_2 13 rfl rfl)
theorem dX0_list_63 : decode cX0_list 63 = .ok (.iconst 0, 1) := dk_3 (dk_at dksX0_list_2 16 rfl rfl)
theorem dX0_list_64 : decode cX0_list 64 = .ok (.aload_n 0, 1) := dk_42 (dk_at dksX0_list_2 17 rfl rfl)
theorem dX0_list_65 : decode cX0_list 65 = .ok (.aload_n 3, 1) := dk_45 (dk_at dksX0_list_2 18 rfl rfl)
theorem dX0_list_66 : decode cX0_list 66 = .ok (.iconst 0, 1) := dk_3 (dk_at dksX0_list_2 19 rfl rfl)
theorem dX0_list_67 : decode cX0_list 67 = .ok (.invokevirtual 328, 3) := dk_182 1 72 (dk_at dksX0_list_2 20 rfl rfl)
theorem dX0_list_70 : decode cX0_list 70 = .ok (.ifCond .eq 7, 3) := dk_153 0 7 (dk_at dksX0_list_3 0 rfl rfl)
theorem dX0_list_73 : decode cX0_list 73 = .ok (.iconst 2, 1) := dk_5 (dk_at dksX0_list_3 3 rfl rfl)
theorem dX0_list_74 : decode cX0_list 74 = .ok (.goto 4, 3) := dk_167 0 4 (dk_at dksX0_list_3 4 rfl rfl)
theorem dX0_list_77 : decode cX0_list 77 = .ok (.iconst 0, 1) := dk_3 (dk_at dksX0_list_3 7 rfl rfl)
theorem dX0_list_78 : decode cX0_list 78 = .ok (.iadd, 1) := dk_96 (dk_at dksX0_list_3 8 rfl rfl)
theorem dX0_list_79 : decode cX0_list 79 = .ok (.ireturn, 1) := dk_172 (dk_at dksX0_list_3 9 rfl rfl)
theorem dX0_list_80 : decode cX0_list 80 = .ok (.iconst (-1), 1) := dk_2 (dk_at dksX0_list_3 10 rfl rfl)
theorem dX0_list_81 : decode cX0_list 81 = .ok (.istore 4, 2) := dk_54 4 (dk_at dksX0_list_3 11 rfl rfl)
theorem dX0_list_83 : decode cX0_list 83 = .ok (.iconst 0, 1) := dk_3 (dk_at dksX0_list_3 13 rfl rfl)
theorem dX0_list_84 : decode cX0_list 84 = .ok (.istore 5, 2) := dk_54 5 (dk_at dksX0_list_3 14 rfl rfl)
theorem dX0_list_86 : decode cX0_list 86 = .ok (.iconst 0, 1) := dk_3 (dk_at dksX0_list_3 16 rfl rfl)
theorem dX0_list_87 : decode cX0_list 87 = .ok (.istore 6, 2) := dk_54 6 (dk_at dksX0_list_3 17 rfl rfl)
theorem dX0_list_89 : decode cX0_list 89 = .ok (.iload 6, 2) := dk_21 6 (dk_at dksX0_list_3 19 rfl rfl)
theorem dX0_list_91 : decode cX0_list 91 = .ok (.aload_n 0, 1) := dk_42 (dk_at dksX0_list_3 21 rfl rfl)
theorem dX0_list_92 : decode cX0_list 92 = .ok (.getfield 81, 3) := dk_180 0 81 (dk_at dksX0_list_4 0 rfl rfl)
theorem dX0_list_95 : decode cX0_list 95 = .ok (.getfield 184, 3) := dk_180 0 184 (dk_at dksX0_list_4 3 rfl rfl)
theorem dX0_list_98 : decode cX0_list 98 = .ok (.if_icmp .ge 69, 3) := dk_162 0 69 (dk_at dksX0_list_4 6 rfl rfl)
theorem dX0_list_101 : decode cX0_list 101 = .ok (.aload_n 3, 1) := dk_45 (dk_at dksX0_list_4 9 rfl rfl)
theorem dX0_list_102 : decode cX0_list 102 = .ok (.iload 6, 2) := dk_21 6 (dk_at dksX0_list_4 10 rfl rfl)
theorem dX0_list_104 : decode cX0_list 104 = .ok (.invokevirtual 321, 3) := dk_182 1 65 (dk_at dksX0_list_4 12 rfl rfl)
theorem dX0_list_107 : decode cX0_list 107 = .ok (.aload_n 0, 1) := dk_42 (dk_at dksX0_list_4 15 rfl rfl)
theorem dX0_list_108 : decode cX0_list 108 = .ok (.getfield 81, 3) := dk_180 0 81 (dk_at dksX0_list_4 16 rfl rfl)
theorem dX0_list_111 : decode cX0_list 111 = .ok (.iload 6, 2) := dk_21 6 (dk_at dksX0_list_4 19 rfl rfl)
theorem dX0_list_113 : decode cX0_list 113 = .ok (.invokevirtual 318, 3) := dk_182 1 62 (dk_at dksX0_list_4 21 rfl rfl)
theorem dX0_list_116 : decode cX0_list 116 = .ok (.ixor, 1) := dk_130 (dk_at dksX0_list_5 0 rfl rfl)
theorem dX0_list_117 : decode cX0_list 117 = .ok (.iconst 1, 1) := dk_4 (dk_at dksX0_list_5 1 rfl rfl)
theorem dX0_list_118 : decode cX0_list 118 = .ok (.aload_n 0, 1) := dk_42 (dk_at dksX0_list_5 2 rfl rfl)
theorem dX0_list_119 : decode cX0_list 119 = .ok (.getfield 81, 3) := dk_180 0 81 (dk_at dksX0_list_5 3 rfl rfl)
theorem dX0_list_122 : decode cX0_list 122 = .ok (.getfield 184, 3) := dk_180 0 184 (dk_at dksX0_list_5 6 rfl rfl)
theorem dX0_list_125 : decode cX0_list 125 = .ok (.ishl, 1) := dk_120 (dk_at dksX0_list_5 9 rfl rfl)
theorem dX0_list_126 : decode cX0_list 126 = .ok (.iconst 1, 1) := dk_4 (dk_at dksX0_list_5 10 rfl rfl)
theorem dX0_list_127 : decode cX0_list 127 = .ok (.isub, 1) := dk_100 (dk_at dksX0_list_5 11 rfl rfl)
theorem dX0_list_128 : decode cX0_list 128 = .ok (.iand, 1) := dk_126 (dk_at dksX0_list_5 12 rfl rfl)
theorem dX0_list_129 : decode cX0_list 129 = .ok (.istore 7, 2) := dk_54 7 (dk_at dksX0_list_5 13 rfl rfl)
theorem dX0_list_131 : decode cX0_list 131 = .ok (.iload 4, 2) := dk_21 4 (dk_at dksX0_list_5 15 rfl rfl)
theorem dX0_list_133 : decode cX0_list 133 = .ok (.iconst (-1), 1) := dk_2 (dk_at dksX0_list_5 17 rfl rfl)
theorem dX0_list_134 : decode cX0_list 134 = .ok (.if_icmp .ne 13, 3) := dk_160 0 13 (dk_at dksX0_list_5 18 rfl rfl)
theorem dX0_list_137 : decode cX0_list 137 = .ok (.iload 7, 2) := dk_21 7 (dk_at dksX0_list_5 21 rfl rfl)
theorem dX0_list_139 : decode cX0_list 139 = .ok (.ifCond .eq 8, 3) := dk_153 0 8 (dk_at dksX0_list_6 0 rfl rfl)
theorem dX0_list_142 : decode cX0_list 142 = .ok (.iload 6, 2) := dk_21 6 (dk_at dksX0_list_6 3 rfl rfl)
theorem dX0_list_144 : decode cX0_list 144 = .ok (.goto 5, 3) := dk_167 0 5 (dk_at dksX0_list_6 5 rfl rfl)
theorem dX0_list_147 : decode cX0_list 147 = .ok (.iload 4, 2) := dk_21 4 (dk_at dksX0_list_6 8 rfl rfl)
theorem dX0_list_149 : decode cX0_list 149 = .ok (.istore 4, 2) := dk_54 4 (dk_at dksX0_list_6 10 rfl rfl)
theorem dX0_list_151 : decode cX0_list 151 = .ok (.iload 5, 2) := dk_21 5 (dk_at dksX0_list_6 12 rfl rfl)
theorem dX0_list_153 : decode cX0_list 153 = .ok (.iload 7, 2) := dk_21 7 (dk_at dksX0_list_6 14 rfl rfl)
theorem dX0_list_155 : decode cX0_list 155 = .ok (.invokestatic 285, 3) := dk_184 1 29 (dk_at dksX0_list_6 16 rfl rfl)
theorem dX0_list_158 : decode cX0_list 158 = .ok (.iadd, 1) := dk_96 (dk_at dksX0_list_6 19 rfl rfl)
theorem dX0_list_159 : decode cX0_list 159 = .ok (.istore 5, 2) := dk_54 5 (dk_at dksX0_list_6 20 rfl rfl)
theorem dX0_list_161 : decode cX0_list 161 = .ok (.iinc 6 1, 3) := dk_132 6 1 (dk_at dksX0_list_7 0 rfl rfl)
theorem dX0_list_164 : decode cX0_list 164 = .ok (.goto (-75), 3) := dk_167 255 181 (dk_at dksX0_list_7 3 rfl rfl)
theorem dX0_list_167 : decode cX0_list 167 = .ok (.iload_n 2, 1) := dk_28 (dk_at dksX0_list_7 6 rfl rfl)
theorem dX0_list_168 : decode cX0_list 168 = .ok (.ifCond .ne 8, 3) := dk_154 0 8 (dk_at dksX0_list_7 7 rfl rfl)
theorem dX0_list_171 : decode cX0_list 171 = .ok (.iload 4, 2) := dk_21 4 (dk_at dksX0_list_7 10 rfl rfl)
theorem dX0_list_173 : decode cX0_list 173 = .ok (.goto 5, 3) := dk_167 0 5 (dk_at dksX0_list_7 12 rfl rfl)
theorem dX0_list_176 : decode cX0_list 176 = .ok (.iload 5, 2) := dk_21 5 (dk_at dksX0_list_7 15 rfl rfl)
theorem dX0_list_178 : decode cX0_list 178 = .ok (.ireturn, 1) := dk_172 (dk_at dksX0_list_7 17 rfl rfl)
theorem dX0_list_179 : decode cX0_list 179 = .ok (.astore_n 3, 1) := dk_78 (dk_at dksX0_list_7 18 rfl rfl)
theorem dX0_list_180 : decode cX0_list 180 = .ok (.aload_n 0, 1) := dk_42 (dk_at dksX0_list_7 19 rfl rfl)
theorem dX0_list_181 : decode cX0_list 181 = .ok (.aload_n 3, 1) := dk_45 (dk_at dksX0_list_7 20 rfl rfl)
theorem dX0_list_182 : decode cX0_list 182 = .ok (.invokevirtual 150, 3) := dk_182 0 150 (dk_at dksX0_list_7 21 rfl rfl)
theorem dX0_list_185 : decode cX0_list 185 = .ok (.bipush 10, 2) := dk_16 10 (dk_at dksX0_list_8 0 rfl rfl)
theorem dX0_list_187 : decode cX0_list 187 = .ok (.isub, 1) := dk_100 (dk_at dksX0_list_8 2 rfl rfl)
theorem dX0_list_188 : decode cX0_list 188 = .ok (.ireturn, 1) := dk_172 (dk_at dksX0_list_8 3 rfl rfl)
abbrev cX0_fitsIn : ByteArray := prog_1_method_52_code
def yX0_fitsIn : MethodName := ⟨RX0, "fitsIn", "(LSeenByOne$Row;Z)Z"⟩
def dkwX0_fitsIn_0 : List UInt8 := [42, 180, 0, 77, 42, 180, 0, 81, 182, 0, 233, 28, 181, 0, 216, 43, 42, 180, 0, 77, 184, 1, 68, 172]
abbrev dktX0_fitsIn_0 : List UInt8 := dkwX0_fitsIn_0 ++ []
theorem dksX0_fitsIn_0 : cX0_fitsIn.data.toList.drop 0 = dktX0_fitsIn_0 := by decide +kernel
theorem dX0_fitsIn_0 : decode cX0_fitsIn 0 = .ok (.aload_n 0, 1) := dk_42 (dk_at dksX0_fitsIn_0 0 rfl rfl)
theorem dX0_fitsIn_1 : decode cX0_fitsIn 1 = .ok (.getfield 77, 3) := dk_180 0 77 (dk_at dksX0_fitsIn_0 1 rfl rfl)
theorem dX0_fitsIn_4 : decode cX0_fitsIn 4 = .ok (.aload_n 0, 1) := dk_42 (dk_at dksX0_fitsIn_0 4 rfl rfl)
theorem dX0_fitsIn_5 : decode cX0_fitsIn 5 = .ok (.getfield 81, 3) := dk_180 0 81 (dk_at dksX0_fitsIn_0 5 rfl rfl)
theorem dX0_fitsIn_8 : decode cX0_fitsIn 8 = .ok (.invokevirtual 233, 3) := dk_182 0 233 (dk_at dksX0_fitsIn_0 8 rfl rfl)
theorem dX0_fitsIn_11 : decode cX0_fitsIn 11 = .ok (.iload_n 2, 1) := dk_28 (dk_at dksX0_fitsIn_0 11 rfl rfl)
theorem dX0_fitsIn_12 : decode cX0_fitsIn 12 = .ok (.putfield 216, 3) := dk_181 0 216 (dk_at dksX0_fitsIn_0 12 rfl rfl)
theorem dX0_fitsIn_15 : decode cX0_fitsIn 15 = .ok (.aload_n 1, 1) := dk_43 (dk_at dksX0_fitsIn_0 15 rfl rfl)
theorem dX0_fitsIn_16 : decode cX0_fitsIn 16 = .ok (.aload_n 0, 1) := dk_42 (dk_at dksX0_fitsIn_0 16 rfl rfl)
theorem dX0_fitsIn_17 : decode cX0_fitsIn 17 = .ok (.getfield 77, 3) := dk_180 0 77 (dk_at dksX0_fitsIn_0 17 rfl rfl)
theorem dX0_fitsIn_20 : decode cX0_fitsIn 20 = .ok (.invokestatic 324, 3) := dk_184 1 68 (dk_at dksX0_fitsIn_0 20 rfl rfl)
theorem dX0_fitsIn_23 : decode cX0_fitsIn 23 = .ok (.ireturn, 1) := dk_172 (dk_at dksX0_fitsIn_0 23 rfl rfl)
abbrev cX0_isAsTold : ByteArray := prog_1_method_51_code
def yX0_isAsTold : MethodName := ⟨RX0, "isAsTold", "(LSeenByOne$Row;LSeenByOne$Ground;)Z"⟩
def dkwX0_isAsTold_1 : List UInt8 := [43, 28, 182, 1, 62, 159, 0, 5, 3, 172, 132, 2, 1, 167, 255, 221, 4, 172]
abbrev dktX0_isAsTold_1 : List UInt8 := dkwX0_isAsTold_1 ++ []
def dkwX0_isAsTold_0 : List UInt8 := [3, 61, 28, 43, 180, 0, 184, 162, 0, 33, 42, 28, 182, 1, 65, 4, 43, 180, 0, 184, 120, 4, 100, 126]
abbrev dktX0_isAsTold_0 : List UInt8 := dkwX0_isAsTold_0 ++ dktX0_isAsTold_1
theorem dksX0_isAsTold_0 : cX0_isAsTold.data.toList.drop 0 = dktX0_isAsTold_0 := by decide +kernel
theorem dksX0_isAsTold_1 : cX0_isAsTold.data.toList.drop 24 = dktX0_isAsTold_1 := dk_seg dksX0_isAsTold_0 24 rfl rfl
theorem dX0_isAsTold_0 : decode cX0_isAsTold 0 = .ok (.iconst 0, 1) := dk_3 (dk_at dksX0_isAsTold_0 0 rfl rfl)
theorem dX0_isAsTold_1 : decode cX0_isAsTold 1 = .ok (.istore_n 2, 1) := dk_61 (dk_at dksX0_isAsTold_0 1 rfl rfl)
theorem dX0_isAsTold_2 : decode cX0_isAsTold 2 = .ok (.iload_n 2, 1) := dk_28 (dk_at dksX0_isAsTold_0 2 rfl rfl)
theorem dX0_isAsTold_3 : decode cX0_isAsTold 3 = .ok (.aload_n 1, 1) := dk_43 (dk_at dksX0_isAsTold_0 3 rfl rfl)
theorem dX0_isAsTold_4 : decode cX0_isAsTold 4 = .ok (.getfield 184, 3) := dk_180 0 184 (dk_at dksX0_isAsTold_0 4 rfl rfl)
theorem dX0_isAsTold_7 : decode cX0_isAsTold 7 = .ok (.if_icmp .ge 33, 3) := dk_162 0 33 (dk_at dksX0_isAsTold_0 7 rfl rfl)
theorem dX0_isAsTold_10 : decode cX0_isAsTold 10 = .ok (.aload_n 0, 1) := dk_42 (dk_at dksX0_isAsTold_0 10 rfl rfl)
theorem dX0_isAsTold_11 : decode cX0_isAsTold 11 = .ok (.iload_n 2, 1) := dk_28 (dk_at dksX0_isAsTold_0 11 rfl rfl)
theorem dX0_isAsTold_12 : decode cX0_isAsTold 12 = .ok (.invokevirtual 321, 3) := dk_182 1 65 (dk_at dksX0_isAsTold_0 12 rfl rfl)
theorem dX0_isAsTold_15 : decode cX0_isAsTold 15 = .ok (.iconst 1, 1) := dk_4 (dk_at dksX0_isAsTold_0 15 rfl rfl)
theorem dX0_isAsTold_16 : decode cX0_isAsTold 16 = .ok (.aload_n 1, 1) := dk_43 (dk_at dksX0_isAsTold_0 16 rfl rfl)
theorem dX0_isAsTold_17 : decode cX0_isAsTold 17 = .ok (.getfield 184, 3) := dk_180 0 184 (dk_at dksX0_isAsTold_0 17 rfl rfl)
theorem dX0_isAsTold_20 : decode cX0_isAsTold 20 = .ok (.ishl, 1) := dk_120 (dk_at dksX0_isAsTold_0 20 rfl rfl)
theorem dX0_isAsTold_21 : decode cX0_isAsTold 21 = .ok (.iconst 1, 1) := dk_4 (dk_at dksX0_isAsTold_0 21 rfl rfl)
theorem dX0_isAsTold_22 : decode cX0_isAsTold 22 = .ok (.isub, 1) := dk_100 (dk_at dksX0_isAsTold_0 22 rfl rfl)
theorem dX0_isAsTold_23 : decode cX0_isAsTold 23 = .ok (.iand, 1) := dk_126 (dk_at dksX0_isAsTold_0 23 rfl rfl)
theorem dX0_isAsTold_24 : decode cX0_isAsTold 24 = .ok (.aload_n 1, 1) := dk_43 (dk_at dksX0_isAsTold_1 0 rfl rfl)
theorem dX0_isAsTold_25 : decode cX0_isAsTold 25 = .ok (.iload_n 2, 1) := dk_28 (dk_at dksX0_isAsTold_1 1 rfl rfl)
theorem dX0_isAsTold_26 : decode cX0_isAsTold 26 = .ok (.invokevirtual 318, 3) := dk_182 1 62 (dk_at dksX0_isAsTold_1 2 rfl rfl)
theorem dX0_isAsTold_29 : decode cX0_isAsTold 29 = .ok (.if_icmp .eq 5, 3) := dk_159 0 5 (dk_at dksX0_isAsTold_1 5 rfl rfl)
theorem dX0_isAsTold_32 : decode cX0_isAsTold 32 = .ok (.iconst 0, 1) := dk_3 (dk_at dksX0_isAsTold_1 8 rfl rfl)
theorem dX0_isAsTold_33 : decode cX0_isAsTold 33 = .ok (.ireturn, 1) := dk_172 (dk_at dksX0_isAsTold_1 9 rfl rfl)
theorem dX0_isAsTold_34 : decode cX0_isAsTold 34 = .ok (.iinc 2 1, 3) := dk_132 2 1 (dk_at dksX0_isAsTold_1 10 rfl rfl)
theorem dX0_isAsTold_37 : decode cX0_isAsTold 37 = .ok (.goto (-35), 3) := dk_167 255 221 (dk_at dksX0_isAsTold_1 13 rfl rfl)
theorem dX0_isAsTold_40 : decode cX0_isAsTold 40 = .ok (.iconst 1, 1) := dk_4 (dk_at dksX0_isAsTold_1 16 rfl rfl)
theorem dX0_isAsTold_41 : decode cX0_isAsTold 41 = .ok (.ireturn, 1) := dk_172 (dk_at dksX0_isAsTold_1 17 rfl rfl)
abbrev cX0_night : ByteArray := prog_1_method_54_code
def yX0_night : MethodName := ⟨RX0, "night", "(I)I"⟩
def dkwX0_night_4 : List UInt8 := [132, 3, 1, 167, 255, 188, 28, 172, 77, 42, 44, 182, 0, 150, 172]
abbrev dktX0_night_4 : List UInt8 := dkwX0_night_4 ++ []
def dkwX0_night_3 : List UInt8 := [181, 0, 213, 28, 42, 180, 0, 77, 182, 1, 7, 27, 160, 0, 9, 4, 29, 120, 167, 0, 4, 3, 128, 61]
abbrev dktX0_night_3 : List UInt8 := dkwX0_night_3 ++ dktX0_night_4
def dkwX0_night_2 : List UInt8 := [153, 0, 46, 42, 180, 0, 77, 42, 180, 0, 81, 182, 0, 233, 89, 180, 0, 213, 4, 29, 120, 130]
abbrev dktX0_night_2 : List UInt8 := dkwX0_night_2 ++ dktX0_night_3
def dkwX0_night_1 : List UInt8 := [3, 61, 3, 62, 29, 42, 180, 0, 81, 180, 0, 184, 162, 0, 63, 42, 180, 0, 81, 29, 182, 0, 105]
abbrev dktX0_night_1 : List UInt8 := dkwX0_night_1 ++ dktX0_night_2
def dkwX0_night_0 : List UInt8 := [27, 42, 180, 0, 81, 182, 1, 10, 2, 130, 126, 154, 0, 7, 4, 167, 0, 4, 3, 16, 250, 184, 0, 98]
abbrev dktX0_night_0 : List UInt8 := dkwX0_night_0 ++ dktX0_night_1
theorem dksX0_night_0 : cX0_night.data.toList.drop 0 = dktX0_night_0 := by decide +kernel
theorem dksX0_night_1 : cX0_night.data.toList.drop 24 = dktX0_night_1 := dk_seg dksX0_night_0 24 rfl rfl
theorem dksX0_night_2 : cX0_night.data.toList.drop 47 = dktX0_night_2 := dk_seg dksX0_night_1 23 rfl rfl
theorem dksX0_night_3 : cX0_night.data.toList.drop 69 = dktX0_night_3 := dk_seg dksX0_night_2 22 rfl rfl
theorem dksX0_night_4 : cX0_night.data.toList.drop 93 = dktX0_night_4 := dk_seg dksX0_night_3 24 rfl rfl
theorem dX0_night_0 : decode cX0_night 0 = .ok (.iload_n 1, 1) := dk_27 (dk_at dksX0_night_0 0 rfl rfl)
theorem dX0_night_1 : decode cX0_night 1 = .ok (.aload_n 0, 1) := dk_42 (dk_at dksX0_night_0 1 rfl rfl)
theorem dX0_night_2 : decode cX0_night 2 = .ok (.getfield 81, 3) := dk_180 0 81 (dk_at dksX0_night_0 2 rfl rfl)
theorem dX0_night_5 : decode cX0_night 5 = .ok (.invokevirtual 266, 3) := dk_182 1 10 (dk_at dksX0_night_0 5 rfl rfl)
theorem dX0_night_8 : decode cX0_night 8 = .ok (.iconst (-1), 1) := dk_2 (dk_at dksX0_night_0 8 rfl rfl)
theorem dX0_night_9 : decode cX0_night 9 = .ok (.ixor, 1) := dk_130 (dk_at dksX0_night_0 9 rfl rfl)
theorem dX0_night_10 : decode cX0_night 10 = .ok (.iand, 1) := dk_126 (dk_at dksX0_night_0 10 rfl rfl)
theorem dX0_night_11 : decode cX0_night 11 = .ok (.ifCond .ne 7, 3) := dk_154 0 7 (dk_at dksX0_night_0 11 rfl rfl)
theorem dX0_night_14 : decode cX0_night 14 = .ok (.iconst 1, 1) := dk_4 (dk_at dksX0_night_0 14 rfl rfl)
theorem dX0_night_15 : decode cX0_night 15 = .ok (.goto 4, 3) := dk_167 0 4 (dk_at dksX0_night_0 15 rfl rfl)
theorem dX0_night_18 : decode cX0_night 18 = .ok (.iconst 0, 1) := dk_3 (dk_at dksX0_night_0 18 rfl rfl)
theorem dX0_night_19 : decode cX0_night 19 = .ok (.bipush (-6), 2) := dk_16 250 (dk_at dksX0_night_0 19 rfl rfl)
theorem dX0_night_21 : decode cX0_night 21 = .ok (.invokestatic 98, 3) := dk_184 0 98 (dk_at dksX0_night_0 21 rfl rfl)
theorem dX0_night_24 : decode cX0_night 24 = .ok (.iconst 0, 1) := dk_3 (dk_at dksX0_night_1 0 rfl rfl)
theorem dX0_night_25 : decode cX0_night 25 = .ok (.istore_n 2, 1) := dk_61 (dk_at dksX0_night_1 1 rfl rfl)
theorem dX0_night_26 : decode cX0_night 26 = .ok (.iconst 0, 1) := dk_3 (dk_at dksX0_night_1 2 rfl rfl)
theorem dX0_night_27 : decode cX0_night 27 = .ok (.istore_n 3, 1) := dk_62 (dk_at dksX0_night_1 3 rfl rfl)
theorem dX0_night_28 : decode cX0_night 28 = .ok (.iload_n 3, 1) := dk_29 (dk_at dksX0_night_1 4 rfl rfl)
theorem dX0_night_29 : decode cX0_night 29 = .ok (.aload_n 0, 1) := dk_42 (dk_at dksX0_night_1 5 rfl rfl)
theorem dX0_night_30 : decode cX0_night 30 = .ok (.getfield 81, 3) := dk_180 0 81 (dk_at dksX0_night_1 6 rfl rfl)
theorem dX0_night_33 : decode cX0_night 33 = .ok (.getfield 184, 3) := dk_180 0 184 (dk_at dksX0_night_1 9 rfl rfl)
theorem dX0_night_36 : decode cX0_night 36 = .ok (.if_icmp .ge 63, 3) := dk_162 0 63 (dk_at dksX0_night_1 12 rfl rfl)
theorem dX0_night_39 : decode cX0_night 39 = .ok (.aload_n 0, 1) := dk_42 (dk_at dksX0_night_1 15 rfl rfl)
theorem dX0_night_40 : decode cX0_night 40 = .ok (.getfield 81, 3) := dk_180 0 81 (dk_at dksX0_night_1 16 rfl rfl)
theorem dX0_night_43 : decode cX0_night 43 = .ok (.iload_n 3, 1) := dk_29 (dk_at dksX0_night_1 19 rfl rfl)
theorem dX0_night_44 : decode cX0_night 44 = .ok (.invokevirtual 105, 3) := dk_182 0 105 (dk_at dksX0_night_1 20 rfl rfl)
theorem dX0_night_47 : decode cX0_night 47 = .ok (.ifCond .eq 46, 3) := dk_153 0 46 (dk_at dksX0_night_2 0 rfl rfl)
theorem dX0_night_50 : decode cX0_night 50 = .ok (.aload_n 0, 1) := dk_42 (dk_at dksX0_night_2 3 rfl rfl)
theorem dX0_night_51 : decode cX0_night 51 = .ok (.getfield 77, 3) := dk_180 0 77 (dk_at dksX0_night_2 4 rfl rfl)
theorem dX0_night_54 : decode cX0_night 54 = .ok (.aload_n 0, 1) := dk_42 (dk_at dksX0_night_2 7 rfl rfl)
theorem dX0_night_55 : decode cX0_night 55 = .ok (.getfield 81, 3) := dk_180 0 81 (dk_at dksX0_night_2 8 rfl rfl)
theorem dX0_night_58 : decode cX0_night 58 = .ok (.invokevirtual 233, 3) := dk_182 0 233 (dk_at dksX0_night_2 11 rfl rfl)
theorem dX0_night_61 : decode cX0_night 61 = .ok (.dup, 1) := dk_89 (dk_at dksX0_night_2 14 rfl rfl)
theorem dX0_night_62 : decode cX0_night 62 = .ok (.getfield 213, 3) := dk_180 0 213 (dk_at dksX0_night_2 15 rfl rfl)
theorem dX0_night_65 : decode cX0_night 65 = .ok (.iconst 1, 1) := dk_4 (dk_at dksX0_night_2 18 rfl rfl)
theorem dX0_night_66 : decode cX0_night 66 = .ok (.iload_n 3, 1) := dk_29 (dk_at dksX0_night_2 19 rfl rfl)
theorem dX0_night_67 : decode cX0_night 67 = .ok (.ishl, 1) := dk_120 (dk_at dksX0_night_2 20 rfl rfl)
theorem dX0_night_68 : decode cX0_night 68 = .ok (.ixor, 1) := dk_130 (dk_at dksX0_night_2 21 rfl rfl)
theorem dX0_night_69 : decode cX0_night 69 = .ok (.putfield 213, 3) := dk_181 0 213 (dk_at dksX0_night_3 0 rfl rfl)
theorem dX0_night_72 : decode cX0_night 72 = .ok (.iload_n 2, 1) := dk_28 (dk_at dksX0_night_3 3 rfl rfl)
theorem dX0_night_73 : decode cX0_night 73 = .ok (.aload_n 0, 1) := dk_42 (dk_at dksX0_night_3 4 rfl rfl)
theorem dX0_night_74 : decode cX0_night 74 = .ok (.getfield 77, 3) := dk_180 0 77 (dk_at dksX0_night_3 5 rfl rfl)
theorem dX0_night_77 : decode cX0_night 77 = .ok (.invokevirtual 263, 3) := dk_182 1 7 (dk_at dksX0_night_3 8 rfl rfl)
theorem dX0_night_80 : decode cX0_night 80 = .ok (.iload_n 1, 1) := dk_27 (dk_at dksX0_night_3 11 rfl rfl)
theorem dX0_night_81 : decode cX0_night 81 = .ok (.if_icmp .ne 9, 3) := dk_160 0 9 (dk_at dksX0_night_3 12 rfl rfl)
theorem dX0_night_84 : decode cX0_night 84 = .ok (.iconst 1, 1) := dk_4 (dk_at dksX0_night_3 15 rfl rfl)
theorem dX0_night_85 : decode cX0_night 85 = .ok (.iload_n 3, 1) := dk_29 (dk_at dksX0_night_3 16 rfl rfl)
theorem dX0_night_86 : decode cX0_night 86 = .ok (.ishl, 1) := dk_120 (dk_at dksX0_night_3 17 rfl rfl)
theorem dX0_night_87 : decode cX0_night 87 = .ok (.goto 4, 3) := dk_167 0 4 (dk_at dksX0_night_3 18 rfl rfl)
theorem dX0_night_90 : decode cX0_night 90 = .ok (.iconst 0, 1) := dk_3 (dk_at dksX0_night_3 21 rfl rfl)
theorem dX0_night_91 : decode cX0_night 91 = .ok (.ior, 1) := dk_128 (dk_at dksX0_night_3 22 rfl rfl)
theorem dX0_night_92 : decode cX0_night 92 = .ok (.istore_n 2, 1) := dk_61 (dk_at dksX0_night_3 23 rfl rfl)
theorem dX0_night_93 : decode cX0_night 93 = .ok (.iinc 3 1, 3) := dk_132 3 1 (dk_at dksX0_night_4 0 rfl rfl)
theorem dX0_night_96 : decode cX0_night 96 = .ok (.goto (-68), 3) := dk_167 255 188 (dk_at dksX0_night_4 3 rfl rfl)
theorem dX0_night_99 : decode cX0_night 99 = .ok (.iload_n 2, 1) := dk_28 (dk_at dksX0_night_4 6 rfl rfl)
theorem dX0_night_100 : decode cX0_night 100 = .ok (.ireturn, 1) := dk_172 (dk_at dksX0_night_4 7 rfl rfl)
theorem dX0_night_101 : decode cX0_night 101 = .ok (.astore_n 2, 1) := dk_77 (dk_at dksX0_night_4 8 rfl rfl)
theorem dX0_night_102 : decode cX0_night 102 = .ok (.aload_n 0, 1) := dk_42 (dk_at dksX0_night_4 9 rfl rfl)
theorem dX0_night_103 : decode cX0_night 103 = .ok (.aload_n 2, 1) := dk_44 (dk_at dksX0_night_4 10 rfl rfl)
theorem dX0_night_104 : decode cX0_night 104 = .ok (.invokevirtual 150, 3) := dk_182 0 150 (dk_at dksX0_night_4 11 rfl rfl)
theorem dX0_night_107 : decode cX0_night 107 = .ok (.ireturn, 1) := dk_172 (dk_at dksX0_night_4 14 rfl rfl)
abbrev cX0_years : ByteArray := prog_1_method_55_code
def yX0_years : MethodName := ⟨RX0, "years", "(I)I"⟩
def dkwX0_years_1 : List UInt8 := [42, 180, 0, 81, 182, 1, 78, 96, 61, 132, 3, 1, 167, 255, 238, 28, 172, 77, 42, 44, 182, 0, 150, 172]
abbrev dktX0_years_1 : List UInt8 := dkwX0_years_1 ++ []
def dkwX0_years_0 : List UInt8 := [27, 133, 10, 20, 1, 76, 184, 0, 142, 16, 250, 184, 0, 98, 3, 61, 3, 62, 29, 27, 162, 0, 19, 28]
abbrev dktX0_years_0 : List UInt8 := dkwX0_years_0 ++ dktX0_years_1
theorem dksX0_years_0 : cX0_years.data.toList.drop 0 = dktX0_years_0 := by decide +kernel
theorem dksX0_years_1 : cX0_years.data.toList.drop 24 = dktX0_years_1 := dk_seg dksX0_years_0 24 rfl rfl
theorem dX0_years_0 : decode cX0_years 0 = .ok (.iload_n 1, 1) := dk_27 (dk_at dksX0_years_0 0 rfl rfl)
theorem dX0_years_1 : decode cX0_years 1 = .ok (.i2l, 1) := dk_133 (dk_at dksX0_years_0 1 rfl rfl)
theorem dX0_years_2 : decode cX0_years 2 = .ok (.lconst 1, 1) := dk_10 (dk_at dksX0_years_0 2 rfl rfl)
theorem dX0_years_3 : decode cX0_years 3 = .ok (.ldc2_w 332, 3) := dk_20 1 76 (dk_at dksX0_years_0 3 rfl rfl)
theorem dX0_years_6 : decode cX0_years 6 = .ok (.invokestatic 142, 3) := dk_184 0 142 (dk_at dksX0_years_0 6 rfl rfl)
theorem dX0_years_9 : decode cX0_years 9 = .ok (.bipush (-6), 2) := dk_16 250 (dk_at dksX0_years_0 9 rfl rfl)
theorem dX0_years_11 : decode cX0_years 11 = .ok (.invokestatic 98, 3) := dk_184 0 98 (dk_at dksX0_years_0 11 rfl rfl)
theorem dX0_years_14 : decode cX0_years 14 = .ok (.iconst 0, 1) := dk_3 (dk_at dksX0_years_0 14 rfl rfl)
theorem dX0_years_15 : decode cX0_years 15 = .ok (.istore_n 2, 1) := dk_61 (dk_at dksX0_years_0 15 rfl rfl)
theorem dX0_years_16 : decode cX0_years 16 = .ok (.iconst 0, 1) := dk_3 (dk_at dksX0_years_0 16 rfl rfl)
theorem dX0_years_17 : decode cX0_years 17 = .ok (.istore_n 3, 1) := dk_62 (dk_at dksX0_years_0 17 rfl rfl)
theorem dX0_years_18 : decode cX0_years 18 = .ok (.iload_n 3, 1) := dk_29 (dk_at dksX0_years_0 18 rfl rfl)
theorem dX0_years_19 : decode cX0_years 19 = .ok (.iload_n 1, 1) := dk_27 (dk_at dksX0_years_0 19 rfl rfl)
theorem dX0_years_20 : decode cX0_years 20 = .ok (.if_icmp .ge 19, 3) := dk_162 0 19 (dk_at dksX0_years_0 20 rfl rfl)
theorem dX0_years_23 : decode cX0_years 23 = .ok (.iload_n 2, 1) := dk_28 (dk_at dksX0_years_0 23 rfl rfl)
theorem dX0_years_24 : decode cX0_years 24 = .ok (.aload_n 0, 1) := dk_42 (dk_at dksX0_years_1 0 rfl rfl)
theorem dX0_years_25 : decode cX0_years 25 = .ok (.getfield 81, 3) := dk_180 0 81 (dk_at dksX0_years_1 1 rfl rfl)
theorem dX0_years_28 : decode cX0_years 28 = .ok (.invokevirtual 334, 3) := dk_182 1 78 (dk_at dksX0_years_1 4 rfl rfl)
theorem dX0_years_31 : decode cX0_years 31 = .ok (.iadd, 1) := dk_96 (dk_at dksX0_years_1 7 rfl rfl)
theorem dX0_years_32 : decode cX0_years 32 = .ok (.istore_n 2, 1) := dk_61 (dk_at dksX0_years_1 8 rfl rfl)
theorem dX0_years_33 : decode cX0_years 33 = .ok (.iinc 3 1, 3) := dk_132 3 1 (dk_at dksX0_years_1 9 rfl rfl)
theorem dX0_years_36 : decode cX0_years 36 = .ok (.goto (-18), 3) := dk_167 255 238 (dk_at dksX0_years_1 12 rfl rfl)
theorem dX0_years_39 : decode cX0_years 39 = .ok (.iload_n 2, 1) := dk_28 (dk_at dksX0_years_1 15 rfl rfl)
theorem dX0_years_40 : decode cX0_years 40 = .ok (.ireturn, 1) := dk_172 (dk_at dksX0_years_1 16 rfl rfl)
theorem dX0_years_41 : decode cX0_years 41 = .ok (.astore_n 2, 1) := dk_77 (dk_at dksX0_years_1 17 rfl rfl)
theorem dX0_years_42 : decode cX0_years 42 = .ok (.aload_n 0, 1) := dk_42 (dk_at dksX0_years_1 18 rfl rfl)
theorem dX0_years_43 : decode cX0_years 43 = .ok (.aload_n 2, 1) := dk_44 (dk_at dksX0_years_1 19 rfl rfl)
theorem dX0_years_44 : decode cX0_years 44 = .ok (.invokevirtual 150, 3) := dk_182 0 150 (dk_at dksX0_years_1 20 rfl rfl)
theorem dX0_years_47 : decode cX0_years 47 = .ok (.ireturn, 1) := dk_172 (dk_at dksX0_years_1 23 rfl rfl)
abbrev cX0_seed : ByteArray := prog_1_method_56_code
def yX0_seed : MethodName := ⟨RX0, "seed", "(I)I"⟩
def dkwX0_seed_0 : List UInt8 := [42, 180, 0, 81, 180, 1, 81, 61, 42, 180, 0, 81, 27, 181, 1, 81, 28, 172]
abbrev dktX0_seed_0 : List UInt8 := dkwX0_seed_0 ++ []
theorem dksX0_seed_0 : cX0_seed.data.toList.drop 0 = dktX0_seed_0 := by decide +kernel
theorem dX0_seed_0 : decode cX0_seed 0 = .ok (.aload_n 0, 1) := dk_42 (dk_at dksX0_seed_0 0 rfl rfl)
theorem dX0_seed_1 : decode cX0_seed 1 = .ok (.getfield 81, 3) := dk_180 0 81 (dk_at dksX0_seed_0 1 rfl rfl)
theorem dX0_seed_4 : decode cX0_seed 4 = .ok (.getfield 337, 3) := dk_180 1 81 (dk_at dksX0_seed_0 4 rfl rfl)
theorem dX0_seed_7 : decode cX0_seed 7 = .ok (.istore_n 2, 1) := dk_61 (dk_at dksX0_seed_0 7 rfl rfl)
theorem dX0_seed_8 : decode cX0_seed 8 = .ok (.aload_n 0, 1) := dk_42 (dk_at dksX0_seed_0 8 rfl rfl)
theorem dX0_seed_9 : decode cX0_seed 9 = .ok (.getfield 81, 3) := dk_180 0 81 (dk_at dksX0_seed_0 9 rfl rfl)
theorem dX0_seed_12 : decode cX0_seed 12 = .ok (.iload_n 1, 1) := dk_27 (dk_at dksX0_seed_0 12 rfl rfl)
theorem dX0_seed_13 : decode cX0_seed 13 = .ok (.putfield 337, 3) := dk_181 1 81 (dk_at dksX0_seed_0 13 rfl rfl)
theorem dX0_seed_16 : decode cX0_seed 16 = .ok (.iload_n 2, 1) := dk_28 (dk_at dksX0_seed_0 16 rfl rfl)
theorem dX0_seed_17 : decode cX0_seed 17 = .ok (.ireturn, 1) := dk_172 (dk_at dksX0_seed_0 17 rfl rfl)
abbrev cX0_act : ByteArray := prog_1_method_57_code
def yX0_act : MethodName := ⟨RX0, "act", "(III)I"⟩
def dkwX0_act_4 : List UInt8 := [29, 42, 180, 0, 70, 182, 1, 92, 172, 3, 172]
abbrev dktX0_act_4 : List UInt8 := dkwX0_act_4 ++ []
def dkwX0_act_3 : List UInt8 := [25, 4, 29, 42, 180, 0, 70, 182, 1, 85, 172, 25, 4, 29, 42, 180, 0, 70, 182, 1, 89, 172, 25, 4]
abbrev dktX0_act_3 : List UInt8 := dkwX0_act_3 ++ dktX0_act_4
def dkwX0_act_2 : List UInt8 := [170, 0, 0, 0, 0, 0, 60, 0, 0, 0, 0, 0, 0, 0, 2, 0, 0, 0, 27, 0, 0, 0, 38, 0, 0, 0, 49]
abbrev dktX0_act_2 : List UInt8 := dkwX0_act_2 ++ dktX0_act_3
def dkwX0_act_1 : List UInt8 := [180, 0, 81, 180, 0, 118, 27, 50, 58, 4, 28]
abbrev dktX0_act_1 : List UInt8 := dkwX0_act_1 ++ dktX0_act_2
def dkwX0_act_0 : List UInt8 := [42, 180, 0, 70, 3, 181, 1, 84, 42, 180, 0, 81, 27, 182, 0, 94, 154, 0, 5, 3, 172, 42]
abbrev dktX0_act_0 : List UInt8 := dkwX0_act_0 ++ dktX0_act_1
theorem dksX0_act_0 : cX0_act.data.toList.drop 0 = dktX0_act_0 := by decide +kernel
theorem dksX0_act_1 : cX0_act.data.toList.drop 22 = dktX0_act_1 := dk_seg dksX0_act_0 22 rfl rfl
theorem dksX0_act_2 : cX0_act.data.toList.drop 33 = dktX0_act_2 := dk_seg dksX0_act_1 11 rfl rfl
theorem dksX0_act_3 : cX0_act.data.toList.drop 60 = dktX0_act_3 := dk_seg dksX0_act_2 27 rfl rfl
theorem dksX0_act_4 : cX0_act.data.toList.drop 84 = dktX0_act_4 := dk_seg dksX0_act_3 24 rfl rfl
theorem dX0_act_0 : decode cX0_act 0 = .ok (.aload_n 0, 1) := dk_42 (dk_at dksX0_act_0 0 rfl rfl)
theorem dX0_act_1 : decode cX0_act 1 = .ok (.getfield 70, 3) := dk_180 0 70 (dk_at dksX0_act_0 1 rfl rfl)
theorem dX0_act_4 : decode cX0_act 4 = .ok (.iconst 0, 1) := dk_3 (dk_at dksX0_act_0 4 rfl rfl)
theorem dX0_act_5 : decode cX0_act 5 = .ok (.putfield 340, 3) := dk_181 1 84 (dk_at dksX0_act_0 5 rfl rfl)
theorem dX0_act_8 : decode cX0_act 8 = .ok (.aload_n 0, 1) := dk_42 (dk_at dksX0_act_0 8 rfl rfl)
theorem dX0_act_9 : decode cX0_act 9 = .ok (.getfield 81, 3) := dk_180 0 81 (dk_at dksX0_act_0 9 rfl rfl)
theorem dX0_act_12 : decode cX0_act 12 = .ok (.iload_n 1, 1) := dk_27 (dk_at dksX0_act_0 12 rfl rfl)
theorem dX0_act_13 : decode cX0_act 13 = .ok (.invokevirtual 94, 3) := dk_182 0 94 (dk_at dksX0_act_0 13 rfl rfl)
theorem dX0_act_16 : decode cX0_act 16 = .ok (.ifCond .ne 5, 3) := dk_154 0 5 (dk_at dksX0_act_0 16 rfl rfl)
theorem dX0_act_19 : decode cX0_act 19 = .ok (.iconst 0, 1) := dk_3 (dk_at dksX0_act_0 19 rfl rfl)
theorem dX0_act_20 : decode cX0_act 20 = .ok (.ireturn, 1) := dk_172 (dk_at dksX0_act_0 20 rfl rfl)
theorem dX0_act_21 : decode cX0_act 21 = .ok (.aload_n 0, 1) := dk_42 (dk_at dksX0_act_0 21 rfl rfl)
theorem dX0_act_22 : decode cX0_act 22 = .ok (.getfield 81, 3) := dk_180 0 81 (dk_at dksX0_act_1 0 rfl rfl)
theorem dX0_act_25 : decode cX0_act 25 = .ok (.getfield 118, 3) := dk_180 0 118 (dk_at dksX0_act_1 3 rfl rfl)
theorem dX0_act_28 : decode cX0_act 28 = .ok (.iload_n 1, 1) := dk_27 (dk_at dksX0_act_1 6 rfl rfl)
theorem dX0_act_29 : decode cX0_act 29 = .ok (.aaload, 1) := dk_50 (dk_at dksX0_act_1 7 rfl rfl)
theorem dX0_act_30 : decode cX0_act 30 = .ok (.astore 4, 2) := dk_58 4 (dk_at dksX0_act_1 8 rfl rfl)
theorem dX0_act_32 : decode cX0_act 32 = .ok (.iload_n 2, 1) := dk_28 (dk_at dksX0_act_1 10 rfl rfl)
theorem dX0_act_33 : decode cX0_act 33 = .ok (.tableswitch 60 0 2 #[27, 38, 49], 27) := by decide +kernel
theorem dX0_act_60 : decode cX0_act 60 = .ok (.aload 4, 2) := dk_25 4 (dk_at dksX0_act_3 0 rfl rfl)
theorem dX0_act_62 : decode cX0_act 62 = .ok (.iload_n 3, 1) := dk_29 (dk_at dksX0_act_3 2 rfl rfl)
theorem dX0_act_63 : decode cX0_act 63 = .ok (.aload_n 0, 1) := dk_42 (dk_at dksX0_act_3 3 rfl rfl)
theorem dX0_act_64 : decode cX0_act 64 = .ok (.getfield 70, 3) := dk_180 0 70 (dk_at dksX0_act_3 4 rfl rfl)
theorem dX0_act_67 : decode cX0_act 67 = .ok (.invokevirtual 341, 3) := dk_182 1 85 (dk_at dksX0_act_3 7 rfl rfl)
theorem dX0_act_70 : decode cX0_act 70 = .ok (.ireturn, 1) := dk_172 (dk_at dksX0_act_3 10 rfl rfl)
theorem dX0_act_71 : decode cX0_act 71 = .ok (.aload 4, 2) := dk_25 4 (dk_at dksX0_act_3 11 rfl rfl)
theorem dX0_act_73 : decode cX0_act 73 = .ok (.iload_n 3, 1) := dk_29 (dk_at dksX0_act_3 13 rfl rfl)
theorem dX0_act_74 : decode cX0_act 74 = .ok (.aload_n 0, 1) := dk_42 (dk_at dksX0_act_3 14 rfl rfl)
theorem dX0_act_75 : decode cX0_act 75 = .ok (.getfield 70, 3) := dk_180 0 70 (dk_at dksX0_act_3 15 rfl rfl)
theorem dX0_act_78 : decode cX0_act 78 = .ok (.invokevirtual 345, 3) := dk_182 1 89 (dk_at dksX0_act_3 18 rfl rfl)
theorem dX0_act_81 : decode cX0_act 81 = .ok (.ireturn, 1) := dk_172 (dk_at dksX0_act_3 21 rfl rfl)
theorem dX0_act_82 : decode cX0_act 82 = .ok (.aload 4, 2) := dk_25 4 (dk_at dksX0_act_3 22 rfl rfl)
theorem dX0_act_84 : decode cX0_act 84 = .ok (.iload_n 3, 1) := dk_29 (dk_at dksX0_act_4 0 rfl rfl)
theorem dX0_act_85 : decode cX0_act 85 = .ok (.aload_n 0, 1) := dk_42 (dk_at dksX0_act_4 1 rfl rfl)
theorem dX0_act_86 : decode cX0_act 86 = .ok (.getfield 70, 3) := dk_180 0 70 (dk_at dksX0_act_4 2 rfl rfl)
theorem dX0_act_89 : decode cX0_act 89 = .ok (.invokevirtual 348, 3) := dk_182 1 92 (dk_at dksX0_act_4 5 rfl rfl)
theorem dX0_act_92 : decode cX0_act 92 = .ok (.ireturn, 1) := dk_172 (dk_at dksX0_act_4 8 rfl rfl)
theorem dX0_act_93 : decode cX0_act 93 = .ok (.iconst 0, 1) := dk_3 (dk_at dksX0_act_4 9 rfl rfl)
theorem dX0_act_94 : decode cX0_act 94 = .ok (.ireturn, 1) := dk_172 (dk_at dksX0_act_4 10 rfl rfl)
abbrev cX0_trace : ByteArray := prog_1_method_58_code
def yX0_trace : MethodName := ⟨RX0, "trace", "(I)I"⟩
def dkwX0_trace_1 : List UInt8 := [42, 180, 0, 70, 180, 1, 100, 27, 46, 167, 0, 4, 2, 172]
abbrev dktX0_trace_1 : List UInt8 := dkwX0_trace_1 ++ []
def dkwX0_trace_0 : List UInt8 := [27, 133, 9, 42, 180, 0, 70, 180, 1, 84, 16, 20, 184, 1, 95, 4, 100, 133, 184, 0, 142, 153, 0, 15]
abbrev dktX0_trace_0 : List UInt8 := dkwX0_trace_0 ++ dktX0_trace_1
theorem dksX0_trace_0 : cX0_trace.data.toList.drop 0 = dktX0_trace_0 := by decide +kernel
theorem dksX0_trace_1 : cX0_trace.data.toList.drop 24 = dktX0_trace_1 := dk_seg dksX0_trace_0 24 rfl rfl
theorem dX0_trace_0 : decode cX0_trace 0 = .ok (.iload_n 1, 1) := dk_27 (dk_at dksX0_trace_0 0 rfl rfl)
theorem dX0_trace_1 : decode cX0_trace 1 = .ok (.i2l, 1) := dk_133 (dk_at dksX0_trace_0 1 rfl rfl)
theorem dX0_trace_2 : decode cX0_trace 2 = .ok (.lconst 0, 1) := dk_9 (dk_at dksX0_trace_0 2 rfl rfl)
theorem dX0_trace_3 : decode cX0_trace 3 = .ok (.aload_n 0, 1) := dk_42 (dk_at dksX0_trace_0 3 rfl rfl)
theorem dX0_trace_4 : decode cX0_trace 4 = .ok (.getfield 70, 3) := dk_180 0 70 (dk_at dksX0_trace_0 4 rfl rfl)
theorem dX0_trace_7 : decode cX0_trace 7 = .ok (.getfield 340, 3) := dk_180 1 84 (dk_at dksX0_trace_0 7 rfl rfl)
theorem dX0_trace_10 : decode cX0_trace 10 = .ok (.bipush 20, 2) := dk_16 20 (dk_at dksX0_trace_0 10 rfl rfl)
theorem dX0_trace_12 : decode cX0_trace 12 = .ok (.invokestatic 351, 3) := dk_184 1 95 (dk_at dksX0_trace_0 12 rfl rfl)
theorem dX0_trace_15 : decode cX0_trace 15 = .ok (.iconst 1, 1) := dk_4 (dk_at dksX0_trace_0 15 rfl rfl)
theorem dX0_trace_16 : decode cX0_trace 16 = .ok (.isub, 1) := dk_100 (dk_at dksX0_trace_0 16 rfl rfl)
theorem dX0_trace_17 : decode cX0_trace 17 = .ok (.i2l, 1) := dk_133 (dk_at dksX0_trace_0 17 rfl rfl)
theorem dX0_trace_18 : decode cX0_trace 18 = .ok (.invokestatic 142, 3) := dk_184 0 142 (dk_at dksX0_trace_0 18 rfl rfl)
theorem dX0_trace_21 : decode cX0_trace 21 = .ok (.ifCond .eq 15, 3) := dk_153 0 15 (dk_at dksX0_trace_0 21 rfl rfl)
theorem dX0_trace_24 : decode cX0_trace 24 = .ok (.aload_n 0, 1) := dk_42 (dk_at dksX0_trace_1 0 rfl rfl)
theorem dX0_trace_25 : decode cX0_trace 25 = .ok (.getfield 70, 3) := dk_180 0 70 (dk_at dksX0_trace_1 1 rfl rfl)
theorem dX0_trace_28 : decode cX0_trace 28 = .ok (.getfield 356, 3) := dk_180 1 100 (dk_at dksX0_trace_1 4 rfl rfl)
theorem dX0_trace_31 : decode cX0_trace 31 = .ok (.iload_n 1, 1) := dk_27 (dk_at dksX0_trace_1 7 rfl rfl)
theorem dX0_trace_32 : decode cX0_trace 32 = .ok (.iaload, 1) := dk_46 (dk_at dksX0_trace_1 8 rfl rfl)
theorem dX0_trace_33 : decode cX0_trace 33 = .ok (.goto 4, 3) := dk_167 0 4 (dk_at dksX0_trace_1 9 rfl rfl)
theorem dX0_trace_36 : decode cX0_trace 36 = .ok (.iconst (-1), 1) := dk_2 (dk_at dksX0_trace_1 12 rfl rfl)
theorem dX0_trace_37 : decode cX0_trace 37 = .ok (.ireturn, 1) := dk_172 (dk_at dksX0_trace_1 13 rfl rfl)
abbrev cX0_image : ByteArray := prog_1_method_59_code
def yX0_image : MethodName := ⟨RX0, "image", "()I"⟩
def dkwX0_image_1 : List UInt8 := [180, 0, 184, 172]
abbrev dktX0_image_1 : List UInt8 := dkwX0_image_1 ++ []
def dkwX0_image_0 : List UInt8 := [42, 187, 0, 74, 89, 183, 0, 76, 42, 180, 0, 81, 182, 0, 233, 181, 1, 103, 42, 180, 0, 81]
abbrev dktX0_image_0 : List UInt8 := dkwX0_image_0 ++ dktX0_image_1
theorem dksX0_image_0 : cX0_image.data.toList.drop 0 = dktX0_image_0 := by decide +kernel
theorem dksX0_image_1 : cX0_image.data.toList.drop 22 = dktX0_image_1 := dk_seg dksX0_image_0 22 rfl rfl
theorem dX0_image_0 : decode cX0_image 0 = .ok (.aload_n 0, 1) := dk_42 (dk_at dksX0_image_0 0 rfl rfl)
theorem dX0_image_1 : decode cX0_image 1 = .ok (.new 74, 3) := dk_187 0 74 (dk_at dksX0_image_0 1 rfl rfl)
theorem dX0_image_4 : decode cX0_image 4 = .ok (.dup, 1) := dk_89 (dk_at dksX0_image_0 4 rfl rfl)
theorem dX0_image_5 : decode cX0_image 5 = .ok (.invokespecial 76, 3) := dk_183 0 76 (dk_at dksX0_image_0 5 rfl rfl)
theorem dX0_image_8 : decode cX0_image 8 = .ok (.aload_n 0, 1) := dk_42 (dk_at dksX0_image_0 8 rfl rfl)
theorem dX0_image_9 : decode cX0_image 9 = .ok (.getfield 81, 3) := dk_180 0 81 (dk_at dksX0_image_0 9 rfl rfl)
theorem dX0_image_12 : decode cX0_image 12 = .ok (.invokevirtual 233, 3) := dk_182 0 233 (dk_at dksX0_image_0 12 rfl rfl)
theorem dX0_image_15 : decode cX0_image 15 = .ok (.putfield 359, 3) := dk_181 1 103 (dk_at dksX0_image_0 15 rfl rfl)
theorem dX0_image_18 : decode cX0_image 18 = .ok (.aload_n 0, 1) := dk_42 (dk_at dksX0_image_0 18 rfl rfl)
theorem dX0_image_19 : decode cX0_image 19 = .ok (.getfield 81, 3) := dk_180 0 81 (dk_at dksX0_image_0 19 rfl rfl)
theorem dX0_image_22 : decode cX0_image 22 = .ok (.getfield 184, 3) := dk_180 0 184 (dk_at dksX0_image_1 0 rfl rfl)
theorem dX0_image_25 : decode cX0_image 25 = .ok (.ireturn, 1) := dk_172 (dk_at dksX0_image_1 3 rfl rfl)
abbrev cX0_restore : ByteArray := prog_1_method_60_code
def yX0_restore : MethodName := ⟨RX0, "restore", "()I"⟩
def dkwX0_restore_2 : List UInt8 := [172, 76, 42, 43, 182, 0, 150, 172]
abbrev dktX0_restore_2 : List UInt8 := dkwX0_restore_2 ++ []
def dkwX0_restore_1 : List UInt8 := [183, 0, 76, 42, 180, 1, 103, 182, 0, 233, 181, 0, 81, 42, 182, 1, 106, 42, 180, 0, 81, 180, 0, 184]
abbrev dktX0_restore_1 : List UInt8 := dkwX0_restore_1 ++ dktX0_restore_2
def dkwX0_restore_0 : List UInt8 := [42, 180, 1, 103, 198, 0, 7, 4, 167, 0, 4, 3, 16, 250, 184, 0, 98, 42, 187, 0, 74, 89]
abbrev dktX0_restore_0 : List UInt8 := dkwX0_restore_0 ++ dktX0_restore_1
theorem dksX0_restore_0 : cX0_restore.data.toList.drop 0 = dktX0_restore_0 := by decide +kernel
theorem dksX0_restore_1 : cX0_restore.data.toList.drop 22 = dktX0_restore_1 := dk_seg dksX0_restore_0 22 rfl rfl
theorem dksX0_restore_2 : cX0_restore.data.toList.drop 46 = dktX0_restore_2 := dk_seg dksX0_restore_1 24 rfl rfl
theorem dX0_restore_0 : decode cX0_restore 0 = .ok (.aload_n 0, 1) := dk_42 (dk_at dksX0_restore_0 0 rfl rfl)
theorem dX0_restore_1 : decode cX0_restore 1 = .ok (.getfield 359, 3) := dk_180 1 103 (dk_at dksX0_restore_0 1 rfl rfl)
theorem dX0_restore_4 : decode cX0_restore 4 = .ok (.ifnull 7, 3) := dk_198 0 7 (dk_at dksX0_restore_0 4 rfl rfl)
theorem dX0_restore_7 : decode cX0_restore 7 = .ok (.iconst 1, 1) := dk_4 (dk_at dksX0_restore_0 7 rfl rfl)
theorem dX0_restore_8 : decode cX0_restore 8 = .ok (.goto 4, 3) := dk_167 0 4 (dk_at dksX0_restore_0 8 rfl rfl)
theorem dX0_restore_11 : decode cX0_restore 11 = .ok (.iconst 0, 1) := dk_3 (dk_at dksX0_restore_0 11 rfl rfl)
theorem dX0_restore_12 : decode cX0_restore 12 = .ok (.bipush (-6), 2) := dk_16 250 (dk_at dksX0_restore_0 12 rfl rfl)
theorem dX0_restore_14 : decode cX0_restore 14 = .ok (.invokestatic 98, 3) := dk_184 0 98 (dk_at dksX0_restore_0 14 rfl rfl)
theorem dX0_restore_17 : decode cX0_restore 17 = .ok (.aload_n 0, 1) := dk_42 (dk_at dksX0_restore_0 17 rfl rfl)
theorem dX0_restore_18 : decode cX0_restore 18 = .ok (.new 74, 3) := dk_187 0 74 (dk_at dksX0_restore_0 18 rfl rfl)
theorem dX0_restore_21 : decode cX0_restore 21 = .ok (.dup, 1) := dk_89 (dk_at dksX0_restore_0 21 rfl rfl)
theorem dX0_restore_22 : decode cX0_restore 22 = .ok (.invokespecial 76, 3) := dk_183 0 76 (dk_at dksX0_restore_1 0 rfl rfl)
theorem dX0_restore_25 : decode cX0_restore 25 = .ok (.aload_n 0, 1) := dk_42 (dk_at dksX0_restore_1 3 rfl rfl)
theorem dX0_restore_26 : decode cX0_restore 26 = .ok (.getfield 359, 3) := dk_180 1 103 (dk_at dksX0_restore_1 4 rfl rfl)
theorem dX0_restore_29 : decode cX0_restore 29 = .ok (.invokevirtual 233, 3) := dk_182 0 233 (dk_at dksX0_restore_1 7 rfl rfl)
theorem dX0_restore_32 : decode cX0_restore 32 = .ok (.putfield 81, 3) := dk_181 0 81 (dk_at dksX0_restore_1 10 rfl rfl)
theorem dX0_restore_35 : decode cX0_restore 35 = .ok (.aload_n 0, 1) := dk_42 (dk_at dksX0_restore_1 13 rfl rfl)
theorem dX0_restore_36 : decode cX0_restore 36 = .ok (.invokevirtual 362, 3) := dk_182 1 106 (dk_at dksX0_restore_1 14 rfl rfl)
theorem dX0_restore_39 : decode cX0_restore 39 = .ok (.aload_n 0, 1) := dk_42 (dk_at dksX0_restore_1 17 rfl rfl)
theorem dX0_restore_40 : decode cX0_restore 40 = .ok (.getfield 81, 3) := dk_180 0 81 (dk_at dksX0_restore_1 18 rfl rfl)
theorem dX0_restore_43 : decode cX0_restore 43 = .ok (.getfield 184, 3) := dk_180 0 184 (dk_at dksX0_restore_1 21 rfl rfl)
theorem dX0_restore_46 : decode cX0_restore 46 = .ok (.ireturn, 1) := dk_172 (dk_at dksX0_restore_2 0 rfl rfl)
theorem dX0_restore_47 : decode cX0_restore 47 = .ok (.astore_n 1, 1) := dk_76 (dk_at dksX0_restore_2 1 rfl rfl)
theorem dX0_restore_48 : decode cX0_restore 48 = .ok (.aload_n 0, 1) := dk_42 (dk_at dksX0_restore_2 2 rfl rfl)
theorem dX0_restore_49 : decode cX0_restore 49 = .ok (.aload_n 1, 1) := dk_43 (dk_at dksX0_restore_2 3 rfl rfl)
theorem dX0_restore_50 : decode cX0_restore 50 = .ok (.invokevirtual 150, 3) := dk_182 0 150 (dk_at dksX0_restore_2 4 rfl rfl)
theorem dX0_restore_53 : decode cX0_restore 53 = .ok (.ireturn, 1) := dk_172 (dk_at dksX0_restore_2 7 rfl rfl)
abbrev cX0_shelvesFollow : ByteArray := prog_1_method_12_code
def yX0_shelvesFollow : MethodName := ⟨RX0, "shelvesFollow", "()V"⟩
def dkwX0_shelvesFollow_3 : List UInt8 := [1, 181, 0, 112, 132, 3, 1, 167, 255, 191, 177]
abbrev dktX0_shelvesFollow_3 : List UInt8 := dkwX0_shelvesFollow_3 ++ []
def dkwX0_shelvesFollow_2 : List UInt8 := [180, 0, 81, 21, 5, 182, 0, 94, 153, 0, 16, 42, 180, 0, 81, 180, 0, 118, 21, 5, 50, 167, 0, 4]
abbrev dktX0_shelvesFollow_2 : List UInt8 := dkwX0_shelvesFollow_2 ++ dktX0_shelvesFollow_3
def dkwX0_shelvesFollow_1 : List UInt8 := [182, 0, 108, 153, 0, 47, 25, 4, 180, 0, 112, 192, 0, 47, 180, 0, 115, 54, 5, 25, 4, 42]
abbrev dktX0_shelvesFollow_1 : List UInt8 := dkwX0_shelvesFollow_1 ++ dktX0_shelvesFollow_2
def dkwX0_shelvesFollow_0 : List UInt8 := [42, 180, 0, 59, 76, 43, 190, 61, 3, 62, 29, 28, 162, 0, 66, 43, 29, 50, 58, 4, 25, 4]
abbrev dktX0_shelvesFollow_0 : List UInt8 := dkwX0_shelvesFollow_0 ++ dktX0_shelvesFollow_1
theorem dksX0_shelvesFollow_0 : cX0_shelvesFollow.data.toList.drop 0 = dktX0_shelvesFollow_0 := by decide +kernel
theorem dksX0_shelvesFollow_1 : cX0_shelvesFollow.data.toList.drop 22 = dktX0_shelvesFollow_1 := dk_seg dksX0_shelvesFollow_0 22 rfl rfl
theorem dksX0_shelvesFollow_2 : cX0_shelvesFollow.data.toList.drop 44 = dktX0_shelvesFollow_2 := dk_seg dksX0_shelvesFollow_1 22 rfl rfl
theorem dksX0_shelvesFollow_3 : cX0_shelvesFollow.data.toList.drop 68 = dktX0_shelvesFollow_3 := dk_seg dksX0_shelvesFollow_2 24 rfl rfl
theorem dX0_shelvesFollow_0 : decode cX0_shelvesFollow 0 = .ok (.aload_n 0, 1) := dk_42 (dk_at dksX0_shelvesFollow_0 0 rfl rfl)
theorem dX0_shelvesFollow_1 : decode cX0_shelvesFollow 1 = .ok (.getfield 59, 3) := dk_180 0 59 (dk_at dksX0_shelvesFollow_0 1 rfl rfl)
theorem dX0_shelvesFollow_4 : decode cX0_shelvesFollow 4 = .ok (.astore_n 1, 1) := dk_76 (dk_at dksX0_shelvesFollow_0 4 rfl rfl)
theorem dX0_shelvesFollow_5 : decode cX0_shelvesFollow 5 = .ok (.aload_n 1, 1) := dk_43 (dk_at dksX0_shelvesFollow_0 5 rfl rfl)
theorem dX0_shelvesFollow_6 : decode cX0_shelvesFollow 6 = .ok (.arraylength, 1) := dk_190 (dk_at dksX0_shelvesFollow_0 6 rfl rfl)
theorem dX0_shelvesFollow_7 : decode cX0_shelvesFollow 7 = .ok (.istore_n 2, 1) := dk_61 (dk_at dksX0_shelvesFollow_0 7 rfl rfl)
theorem dX0_shelvesFollow_8 : decode cX0_shelvesFollow 8 = .ok (.iconst 0, 1) := dk_3 (dk_at dksX0_shelvesFollow_0 8 rfl rfl)
theorem dX0_shelvesFollow_9 : decode cX0_shelvesFollow 9 = .ok (.istore_n 3, 1) := dk_62 (dk_at dksX0_shelvesFollow_0 9 rfl rfl)
theorem dX0_shelvesFollow_10 : decode cX0_shelvesFollow 10 = .ok (.iload_n 3, 1) := dk_29 (dk_at dksX0_shelvesFollow_0 10 rfl rfl)
theorem dX0_shelvesFollow_11 : decode cX0_shelvesFollow 11 = .ok (.iload_n 2, 1) := dk_28 (dk_at dksX0_shelvesFollow_0 11 rfl rfl)
theorem dX0_shelvesFollow_12 : decode cX0_shelvesFollow 12 = .ok (.if_icmp .ge 66, 3) := dk_162 0 66 (dk_at dksX0_shelvesFollow_0 12 rfl rfl)
theorem dX0_shelvesFollow_15 : decode cX0_shelvesFollow 15 = .ok (.aload_n 1, 1) := dk_43 (dk_at dksX0_shelvesFollow_0 15 rfl rfl)
theorem dX0_shelvesFollow_16 : decode cX0_shelvesFollow 16 = .ok (.iload_n 3, 1) := dk_29 (dk_at dksX0_shelvesFollow_0 16 rfl rfl)
theorem dX0_shelvesFollow_17 : decode cX0_shelvesFollow 17 = .ok (.aaload, 1) := dk_50 (dk_at dksX0_shelvesFollow_0 17 rfl rfl)
theorem dX0_shelvesFollow_18 : decode cX0_shelvesFollow 18 = .ok (.astore 4, 2) := dk_58 4 (dk_at dksX0_shelvesFollow_0 18 rfl rfl)
theorem dX0_shelvesFollow_20 : decode cX0_shelvesFollow 20 = .ok (.aload 4, 2) := dk_25 4 (dk_at dksX0_shelvesFollow_0 20 rfl rfl)
theorem dX0_shelvesFollow_22 : decode cX0_shelvesFollow 22 = .ok (.invokevirtual 108, 3) := dk_182 0 108 (dk_at dksX0_shelvesFollow_1 0 rfl rfl)
theorem dX0_shelvesFollow_25 : decode cX0_shelvesFollow 25 = .ok (.ifCond .eq 47, 3) := dk_153 0 47 (dk_at dksX0_shelvesFollow_1 3 rfl rfl)
theorem dX0_shelvesFollow_28 : decode cX0_shelvesFollow 28 = .ok (.aload 4, 2) := dk_25 4 (dk_at dksX0_shelvesFollow_1 6 rfl rfl)
theorem dX0_shelvesFollow_30 : decode cX0_shelvesFollow 30 = .ok (.getfield 112, 3) := dk_180 0 112 (dk_at dksX0_shelvesFollow_1 8 rfl rfl)
theorem dX0_shelvesFollow_33 : decode cX0_shelvesFollow 33 = .ok (.checkcast 47, 3) := dk_192 0 47 (dk_at dksX0_shelvesFollow_1 11 rfl rfl)
theorem dX0_shelvesFollow_36 : decode cX0_shelvesFollow 36 = .ok (.getfield 115, 3) := dk_180 0 115 (dk_at dksX0_shelvesFollow_1 14 rfl rfl)
theorem dX0_shelvesFollow_39 : decode cX0_shelvesFollow 39 = .ok (.istore 5, 2) := dk_54 5 (dk_at dksX0_shelvesFollow_1 17 rfl rfl)
theorem dX0_shelvesFollow_41 : decode cX0_shelvesFollow 41 = .ok (.aload 4, 2) := dk_25 4 (dk_at dksX0_shelvesFollow_1 19 rfl rfl)
theorem dX0_shelvesFollow_43 : decode cX0_shelvesFollow 43 = .ok (.aload_n 0, 1) := dk_42 (dk_at dksX0_shelvesFollow_1 21 rfl rfl)
theorem dX0_shelvesFollow_44 : decode cX0_shelvesFollow 44 = .ok (.getfield 81, 3) := dk_180 0 81 (dk_at dksX0_shelvesFollow_2 0 rfl rfl)
theorem dX0_shelvesFollow_47 : decode cX0_shelvesFollow 47 = .ok (.iload 5, 2) := dk_21 5 (dk_at dksX0_shelvesFollow_2 3 rfl rfl)
theorem dX0_shelvesFollow_49 : decode cX0_shelvesFollow 49 = .ok (.invokevirtual 94, 3) := dk_182 0 94 (dk_at dksX0_shelvesFollow_2 5 rfl rfl)
theorem dX0_shelvesFollow_52 : decode cX0_shelvesFollow 52 = .ok (.ifCond .eq 16, 3) := dk_153 0 16 (dk_at dksX0_shelvesFollow_2 8 rfl rfl)
theorem dX0_shelvesFollow_55 : decode cX0_shelvesFollow 55 = .ok (.aload_n 0, 1) := dk_42 (dk_at dksX0_shelvesFollow_2 11 rfl rfl)
theorem dX0_shelvesFollow_56 : decode cX0_shelvesFollow 56 = .ok (.getfield 81, 3) := dk_180 0 81 (dk_at dksX0_shelvesFollow_2 12 rfl rfl)
theorem dX0_shelvesFollow_59 : decode cX0_shelvesFollow 59 = .ok (.getfield 118, 3) := dk_180 0 118 (dk_at dksX0_shelvesFollow_2 15 rfl rfl)
theorem dX0_shelvesFollow_62 : decode cX0_shelvesFollow 62 = .ok (.iload 5, 2) := dk_21 5 (dk_at dksX0_shelvesFollow_2 18 rfl rfl)
theorem dX0_shelvesFollow_64 : decode cX0_shelvesFollow 64 = .ok (.aaload, 1) := dk_50 (dk_at dksX0_shelvesFollow_2 20 rfl rfl)
theorem dX0_shelvesFollow_65 : decode cX0_shelvesFollow 65 = .ok (.goto 4, 3) := dk_167 0 4 (dk_at dksX0_shelvesFollow_2 21 rfl rfl)
theorem dX0_shelvesFollow_68 : decode cX0_shelvesFollow 68 = .ok (.aconst_null, 1) := dk_1 (dk_at dksX0_shelvesFollow_3 0 rfl rfl)
theorem dX0_shelvesFollow_69 : decode cX0_shelvesFollow 69 = .ok (.putfield 112, 3) := dk_181 0 112 (dk_at dksX0_shelvesFollow_3 1 rfl rfl)
theorem dX0_shelvesFollow_72 : decode cX0_shelvesFollow 72 = .ok (.iinc 3 1, 3) := dk_132 3 1 (dk_at dksX0_shelvesFollow_3 4 rfl rfl)
theorem dX0_shelvesFollow_75 : decode cX0_shelvesFollow 75 = .ok (.goto (-65), 3) := dk_167 255 191 (dk_at dksX0_shelvesFollow_3 7 rfl rfl)
theorem dX0_shelvesFollow_78 : decode cX0_shelvesFollow 78 = .ok (.return_, 1) := dk_177 (dk_at dksX0_shelvesFollow_3 10 rfl rfl)
abbrev cX0_status : ByteArray := prog_1_method_61_code
def yX0_status : MethodName := ⟨RX0, "status", "(I)I"⟩
def dkwX0_status_6 : List UInt8 := [153, 0, 15, 42, 180, 0, 63, 27, 16, 10, 100, 46, 167, 0, 4, 2, 172]
abbrev dktX0_status_6 : List UInt8 := dkwX0_status_6 ++ []
def dkwX0_status_5 : List UInt8 := [180, 1, 81, 172, 42, 180, 0, 70, 180, 1, 84, 172, 27, 133, 20, 1, 112, 20, 1, 114, 184, 0, 142]
abbrev dktX0_status_5 : List UInt8 := dkwX0_status_5 ++ dktX0_status_6
def dkwX0_status_4 : List UInt8 := [172, 42, 180, 0, 81, 180, 0, 213, 184, 1, 29, 172, 42, 180, 0, 81, 180, 1, 109, 172, 42, 180, 0, 81]
abbrev dktX0_status_4 : List UInt8 := dkwX0_status_4 ++ dktX0_status_5
def dkwX0_status_3 : List UInt8 := [153, 0, 7, 4, 167, 0, 4, 3, 172, 42, 180, 0, 81, 180, 0, 220, 172, 42, 180, 0, 81, 182, 1, 38]
abbrev dktX0_status_3 : List UInt8 := dkwX0_status_3 ++ dktX0_status_4
def dkwX0_status_2 : List UInt8 := [42, 180, 0, 81, 180, 0, 184, 172, 42, 180, 0, 81, 182, 1, 10, 172, 42, 180, 0, 81, 180, 0, 216]
abbrev dktX0_status_2 : List UInt8 := dkwX0_status_2 ++ dktX0_status_3
def dkwX0_status_1 : List UInt8 := [170, 0, 0, 0, 0, 0, 134, 0, 0, 0, 0, 0, 0, 0, 8, 0, 0, 0, 51, 0, 0, 0, 59, 0, 0, 0, 67, 0, 0, 0, 83, 0, 0, 0, 91, 0, 0, 0, 99, 0, 0, 0, 110, 0, 0, 0, 118, 0, 0, 0, 126]
abbrev dktX0_status_1 : List UInt8 := dkwX0_status_1 ++ dktX0_status_2
def dkwX0_status_0 : List UInt8 := [27]
abbrev dktX0_status_0 : List UInt8 := dkwX0_status_0 ++ dktX0_status_1
theorem dksX0_status_0 : cX0_status.data.toList.drop 0 = dktX0_status_0 := by decide +kernel
theorem dksX0_status_1 : cX0_status.data.toList.drop 1 = dktX0_status_1 := dk_seg dksX0_status_0 1 rfl rfl
theorem dksX0_status_2 : cX0_status.data.toList.drop 52 = dktX0_status_2 := dk_seg dksX0_status_1 51 rfl rfl
theorem dksX0_status_3 : cX0_status.data.toList.drop 75 = dktX0_status_3 := dk_seg dksX0_status_2 23 rfl rfl
theorem dksX0_status_4 : cX0_status.data.toList.drop 99 = dktX0_status_4 := dk_seg dksX0_status_3 24 rfl rfl
theorem dksX0_status_5 : cX0_status.data.toList.drop 123 = dktX0_status_5 := dk_seg dksX0_status_4 24 rfl rfl
theorem dksX0_status_6 : cX0_status.data.toList.drop 146 = dktX0_status_6 := dk_seg dksX0_status_5 23 rfl rfl
theorem dX0_status_0 : decode cX0_status 0 = .ok (.iload_n 1, 1) := dk_27 (dk_at dksX0_status_0 0 rfl rfl)
theorem dX0_status_1 : decode cX0_status 1 = .ok (.tableswitch 134 0 8 #[51, 59, 67, 83, 91, 99, 110, 118, 126], 51) := by decide +kernel
theorem dX0_status_52 : decode cX0_status 52 = .ok (.aload_n 0, 1) := dk_42 (dk_at dksX0_status_2 0 rfl rfl)
theorem dX0_status_53 : decode cX0_status 53 = .ok (.getfield 81, 3) := dk_180 0 81 (dk_at dksX0_status_2 1 rfl rfl)
theorem dX0_status_56 : decode cX0_status 56 = .ok (.getfield 184, 3) := dk_180 0 184 (dk_at dksX0_status_2 4 rfl rfl)
theorem dX0_status_59 : decode cX0_status 59 = .ok (.ireturn, 1) := dk_172 (dk_at dksX0_status_2 7 rfl rfl)
theorem dX0_status_60 : decode cX0_status 60 = .ok (.aload_n 0, 1) := dk_42 (dk_at dksX0_status_2 8 rfl rfl)
theorem dX0_status_61 : decode cX0_status 61 = .ok (.getfield 81, 3) := dk_180 0 81 (dk_at dksX0_status_2 9 rfl rfl)
theorem dX0_status_64 : decode cX0_status 64 = .ok (.invokevirtual 266, 3) := dk_182 1 10 (dk_at dksX0_status_2 12 rfl rfl)
theorem dX0_status_67 : decode cX0_status 67 = .ok (.ireturn, 1) := dk_172 (dk_at dksX0_status_2 15 rfl rfl)
theorem dX0_status_68 : decode cX0_status 68 = .ok (.aload_n 0, 1) := dk_42 (dk_at dksX0_status_2 16 rfl rfl)
theorem dX0_status_69 : decode cX0_status 69 = .ok (.getfield 81, 3) := dk_180 0 81 (dk_at dksX0_status_2 17 rfl rfl)
theorem dX0_status_72 : decode cX0_status 72 = .ok (.getfield 216, 3) := dk_180 0 216 (dk_at dksX0_status_2 20 rfl rfl)
theorem dX0_status_75 : decode cX0_status 75 = .ok (.ifCond .eq 7, 3) := dk_153 0 7 (dk_at dksX0_status_3 0 rfl rfl)
theorem dX0_status_78 : decode cX0_status 78 = .ok (.iconst 1, 1) := dk_4 (dk_at dksX0_status_3 3 rfl rfl)
theorem dX0_status_79 : decode cX0_status 79 = .ok (.goto 4, 3) := dk_167 0 4 (dk_at dksX0_status_3 4 rfl rfl)
theorem dX0_status_82 : decode cX0_status 82 = .ok (.iconst 0, 1) := dk_3 (dk_at dksX0_status_3 7 rfl rfl)
theorem dX0_status_83 : decode cX0_status 83 = .ok (.ireturn, 1) := dk_172 (dk_at dksX0_status_3 8 rfl rfl)
theorem dX0_status_84 : decode cX0_status 84 = .ok (.aload_n 0, 1) := dk_42 (dk_at dksX0_status_3 9 rfl rfl)
theorem dX0_status_85 : decode cX0_status 85 = .ok (.getfield 81, 3) := dk_180 0 81 (dk_at dksX0_status_3 10 rfl rfl)
theorem dX0_status_88 : decode cX0_status 88 = .ok (.getfield 220, 3) := dk_180 0 220 (dk_at dksX0_status_3 13 rfl rfl)
theorem dX0_status_91 : decode cX0_status 91 = .ok (.ireturn, 1) := dk_172 (dk_at dksX0_status_3 16 rfl rfl)
theorem dX0_status_92 : decode cX0_status 92 = .ok (.aload_n 0, 1) := dk_42 (dk_at dksX0_status_3 17 rfl rfl)
theorem dX0_status_93 : decode cX0_status 93 = .ok (.getfield 81, 3) := dk_180 0 81 (dk_at dksX0_status_3 18 rfl rfl)
theorem dX0_status_96 : decode cX0_status 96 = .ok (.invokevirtual 294, 3) := dk_182 1 38 (dk_at dksX0_status_3 21 rfl rfl)
theorem dX0_status_99 : decode cX0_status 99 = .ok (.ireturn, 1) := dk_172 (dk_at dksX0_status_4 0 rfl rfl)
theorem dX0_status_100 : decode cX0_status 100 = .ok (.aload_n 0, 1) := dk_42 (dk_at dksX0_status_4 1 rfl rfl)
theorem dX0_status_101 : decode cX0_status 101 = .ok (.getfield 81, 3) := dk_180 0 81 (dk_at dksX0_status_4 2 rfl rfl)
theorem dX0_status_104 : decode cX0_status 104 = .ok (.getfield 213, 3) := dk_180 0 213 (dk_at dksX0_status_4 5 rfl rfl)
theorem dX0_status_107 : decode cX0_status 107 = .ok (.invokestatic 285, 3) := dk_184 1 29 (dk_at dksX0_status_4 8 rfl rfl)
theorem dX0_status_110 : decode cX0_status 110 = .ok (.ireturn, 1) := dk_172 (dk_at dksX0_status_4 11 rfl rfl)
theorem dX0_status_111 : decode cX0_status 111 = .ok (.aload_n 0, 1) := dk_42 (dk_at dksX0_status_4 12 rfl rfl)
theorem dX0_status_112 : decode cX0_status 112 = .ok (.getfield 81, 3) := dk_180 0 81 (dk_at dksX0_status_4 13 rfl rfl)
theorem dX0_status_115 : decode cX0_status 115 = .ok (.getfield 365, 3) := dk_180 1 109 (dk_at dksX0_status_4 16 rfl rfl)
theorem dX0_status_118 : decode cX0_status 118 = .ok (.ireturn, 1) := dk_172 (dk_at dksX0_status_4 19 rfl rfl)
theorem dX0_status_119 : decode cX0_status 119 = .ok (.aload_n 0, 1) := dk_42 (dk_at dksX0_status_4 20 rfl rfl)
theorem dX0_status_120 : decode cX0_status 120 = .ok (.getfield 81, 3) := dk_180 0 81 (dk_at dksX0_status_4 21 rfl rfl)
theorem dX0_status_123 : decode cX0_status 123 = .ok (.getfield 337, 3) := dk_180 1 81 (dk_at dksX0_status_5 0 rfl rfl)
theorem dX0_status_126 : decode cX0_status 126 = .ok (.ireturn, 1) := dk_172 (dk_at dksX0_status_5 3 rfl rfl)
theorem dX0_status_127 : decode cX0_status 127 = .ok (.aload_n 0, 1) := dk_42 (dk_at dksX0_status_5 4 rfl rfl)
theorem dX0_status_128 : decode cX0_status 128 = .ok (.getfield 70, 3) := dk_180 0 70 (dk_at dksX0_status_5 5 rfl rfl)
theorem dX0_status_131 : decode cX0_status 131 = .ok (.getfield 340, 3) := dk_180 1 84 (dk_at dksX0_status_5 8 rfl rfl)
theorem dX0_status_134 : decode cX0_status 134 = .ok (.ireturn, 1) := dk_172 (dk_at dksX0_status_5 11 rfl rfl)
theorem dX0_status_135 : decode cX0_status 135 = .ok (.iload_n 1, 1) := dk_27 (dk_at dksX0_status_5 12 rfl rfl)
theorem dX0_status_136 : decode cX0_status 136 = .ok (.i2l, 1) := dk_133 (dk_at dksX0_status_5 13 rfl rfl)
theorem dX0_status_137 : decode cX0_status 137 = .ok (.ldc2_w 368, 3) := dk_20 1 112 (dk_at dksX0_status_5 14 rfl rfl)
theorem dX0_status_140 : decode cX0_status 140 = .ok (.ldc2_w 370, 3) := dk_20 1 114 (dk_at dksX0_status_5 17 rfl rfl)
theorem dX0_status_143 : decode cX0_status 143 = .ok (.invokestatic 142, 3) := dk_184 0 142 (dk_at dksX0_status_5 20 rfl rfl)
theorem dX0_status_146 : decode cX0_status 146 = .ok (.ifCond .eq 15, 3) := dk_153 0 15 (dk_at dksX0_status_6 0 rfl rfl)
theorem dX0_status_149 : decode cX0_status 149 = .ok (.aload_n 0, 1) := dk_42 (dk_at dksX0_status_6 3 rfl rfl)
theorem dX0_status_150 : decode cX0_status 150 = .ok (.getfield 63, 3) := dk_180 0 63 (dk_at dksX0_status_6 4 rfl rfl)
theorem dX0_status_153 : decode cX0_status 153 = .ok (.iload_n 1, 1) := dk_27 (dk_at dksX0_status_6 7 rfl rfl)
theorem dX0_status_154 : decode cX0_status 154 = .ok (.bipush 10, 2) := dk_16 10 (dk_at dksX0_status_6 8 rfl rfl)
theorem dX0_status_156 : decode cX0_status 156 = .ok (.isub, 1) := dk_100 (dk_at dksX0_status_6 10 rfl rfl)
theorem dX0_status_157 : decode cX0_status 157 = .ok (.iaload, 1) := dk_46 (dk_at dksX0_status_6 11 rfl rfl)
theorem dX0_status_158 : decode cX0_status 158 = .ok (.goto 4, 3) := dk_167 0 4 (dk_at dksX0_status_6 12 rfl rfl)
theorem dX0_status_161 : decode cX0_status 161 = .ok (.iconst (-1), 1) := dk_2 (dk_at dksX0_status_6 15 rfl rfl)
theorem dX0_status_162 : decode cX0_status 162 = .ok (.ireturn, 1) := dk_172 (dk_at dksX0_status_6 16 rfl rfl)
theorem q75 : (Jvm.Cond.initialized "SeenByOne") ∈ lw_all := lw_g (lw_at lw_m1 1 rfl) rfl
theorem q110 : (Jvm.Cond.instantiable "SeenByOne" (7 : Nat)) ∈ lw_all := lw_g (lw_at lw_m1 36 rfl) rfl
theorem q112 : (Jvm.Cond.instanceMethod ({ cls := "SeenByOne", name := "<init>", desc := "()V" } : Jvm.MethodName)) ∈ lw_all := lw_g (lw_at lw_m1 38 rfl) rfl
theorem q113 : (Jvm.Cond.code ({ cls := "SeenByOne", name := "<init>", desc := "()V" } : Jvm.MethodName) prog_1_method_5_code (2 : Nat) (Option.none : Option Jvm.ClassFile.FieldType)) ∈ lw_all := lw_g (lw_at lw_m1 39 rfl) rfl
theorem q114 : (Jvm.Cond.methodLink "SeenByOne" (50 : Nat) ({ cls := "java/lang/Object", name := "<init>", desc := "()V" } : Jvm.MethodName)) ∈ lw_all := lw_g (lw_at lw_m1 40 rfl) rfl
theorem q117 : (Jvm.Cond.classLink "SeenByOne" (57 : Nat) "SeenByOne$Shelf") ∈ lw_all := lw_g (lw_at lw_m1 43 rfl) rfl
theorem q119 : (Jvm.Cond.classLink "SeenByOne" (67 : Nat) "SeenByOne$Trace") ∈ lw_all := lw_g (lw_at lw_m1 45 rfl) rfl
theorem q121 : (Jvm.Cond.methodLink "SeenByOne" (69 : Nat) ({ cls := "SeenByOne$Trace", name := "<init>", desc := "()V" } : Jvm.MethodName)) ∈ lw_all := lw_g (lw_at lw_m1 47 rfl) rfl
theorem q126 : (Jvm.Cond.fieldLink "SeenByOne" (356 : Nat) "SeenByOne$Trace" "bodies" "[I") ∈ lw_all := lw_g (lw_at lw_m1 52 rfl) rfl
theorem q128 : (Jvm.Cond.fieldLink "SeenByOne" (340 : Nat) "SeenByOne$Trace" "many" "I") ∈ lw_all := lw_g (lw_at lw_m1 54 rfl) rfl
theorem q135 : (Jvm.Cond.classLink "SeenByOne" (74 : Nat) "SeenByOne$Ground") ∈ lw_all := lw_g (lw_at lw_m1 61 rfl) rfl
theorem q137 : (Jvm.Cond.methodLink "SeenByOne" (76 : Nat) ({ cls := "SeenByOne$Ground", name := "<init>", desc := "()V" } : Jvm.MethodName)) ∈ lw_all := lw_g (lw_at lw_m1 63 rfl) rfl
theorem q145 : (Jvm.Cond.fieldLink "SeenByOne" (184 : Nat) "SeenByOne$Ground" "many" "I") ∈ lw_all := lw_g (lw_at lw_m1 71 rfl) rfl
theorem q148 : (Jvm.Cond.fieldLink "SeenByOne" (216 : Nat) "SeenByOne$Ground" "summer" "Z") ∈ lw_all := lw_g (lw_at lw_m1 74 rfl) rfl
theorem q151 : (Jvm.Cond.fieldLink "SeenByOne" (220 : Nat) "SeenByOne$Ground" "far" "I") ∈ lw_all := lw_g (lw_at lw_m1 77 rfl) rfl
theorem q154 : (Jvm.Cond.fieldLink "SeenByOne" (213 : Nat) "SeenByOne$Ground" "drawn" "I") ∈ lw_all := lw_g (lw_at lw_m1 80 rfl) rfl
theorem q156 : (Jvm.Cond.fieldLink "SeenByOne" (365 : Nat) "SeenByOne$Ground" "fines" "I") ∈ lw_all := lw_g (lw_at lw_m1 82 rfl) rfl
theorem q158 : (Jvm.Cond.fieldLink "SeenByOne" (337 : Nat) "SeenByOne$Ground" "seed" "I") ∈ lw_all := lw_g (lw_at lw_m1 84 rfl) rfl
theorem q160 : (Jvm.Cond.fieldLink "SeenByOne" (118 : Nat) "SeenByOne$Ground" "things" "[LSeenByOne$Thing;") ∈ lw_all := lw_g (lw_at lw_m1 86 rfl) rfl
theorem q163 : (Jvm.Cond.fieldLink "SeenByOne" (203 : Nat) "SeenByOne$Ground" "height" "[I") ∈ lw_all := lw_g (lw_at lw_m1 89 rfl) rfl
theorem q166 : (Jvm.Cond.fieldLink "SeenByOne" (227 : Nat) "SeenByOne$Ground" "shut" "[I") ∈ lw_all := lw_g (lw_at lw_m1 92 rfl) rfl
theorem q187 : (Jvm.Cond.methodLink "SeenByOne" (88 : Nat) ({ cls := "SeenByOne$Shelf", name := "<init>", desc := "()V" } : Jvm.MethodName)) ∈ lw_all := lw_g (lw_at lw_m1 113 rfl) rfl
theorem q192 : (Jvm.Cond.fieldLink "SeenByOne" (112 : Nat) "SeenByOne$Shelf" "held" "Ljava/lang/Object;") ∈ lw_all := lw_g (lw_at lw_m1 118 rfl) rfl
theorem q196 : (Jvm.Cond.fieldLink "SeenByOne" (59 : Nat) "SeenByOne" "shelves" "[LSeenByOne$Shelf;") ∈ lw_all := lw_g (lw_at lw_m1 122 rfl) rfl
theorem q197 : (Jvm.Cond.fieldLink "SeenByOne" (63 : Nat) "SeenByOne" "refusals" "[I") ∈ lw_all := lw_g (lw_at lw_m1 123 rfl) rfl
theorem q198 : (Jvm.Cond.fieldLink "SeenByOne" (70 : Nat) "SeenByOne" "ran" "LSeenByOne$Trace;") ∈ lw_all := lw_g (lw_at lw_m1 124 rfl) rfl
theorem q199 : (Jvm.Cond.fieldLink "SeenByOne" (77 : Nat) "SeenByOne" "tried" "LSeenByOne$Ground;") ∈ lw_all := lw_g (lw_at lw_m1 125 rfl) rfl
theorem q200 : (Jvm.Cond.fieldLink "SeenByOne" (81 : Nat) "SeenByOne" "w" "LSeenByOne$Ground;") ∈ lw_all := lw_g (lw_at lw_m1 126 rfl) rfl
theorem q201 : (Jvm.Cond.fieldLink "SeenByOne" (359 : Nat) "SeenByOne" "imaged" "LSeenByOne$Ground;") ∈ lw_all := lw_g (lw_at lw_m1 127 rfl) rfl
theorem q202 : (Jvm.Cond.fieldLink "SeenByOne" (84 : Nat) "SeenByOne" "latestFault" "I") ∈ lw_all := lw_g (lw_at lw_m1 128 rfl) rfl
theorem q203 : (Jvm.Cond.laysFinal "SeenByOne" "SeenByOne" "shelves" "[LSeenByOne$Shelf;") ∈ lw_all := lw_g (lw_at lw_m1 129 rfl) rfl
theorem q204 : (Jvm.Cond.soleField "SeenByOne" "shelves") ∈ lw_all := lw_g (lw_at lw_m1 130 rfl) rfl
theorem q205 : (Jvm.Cond.laysFinal "SeenByOne" "SeenByOne" "refusals" "[I") ∈ lw_all := lw_g (lw_at lw_m1 131 rfl) rfl
theorem q206 : (Jvm.Cond.soleField "SeenByOne" "refusals") ∈ lw_all := lw_g (lw_at lw_m1 132 rfl) rfl
theorem q207 : (Jvm.Cond.laysFinal "SeenByOne" "SeenByOne" "ran" "LSeenByOne$Trace;") ∈ lw_all := lw_g (lw_at lw_m1 133 rfl) rfl
theorem q208 : (Jvm.Cond.soleField "SeenByOne" "ran") ∈ lw_all := lw_g (lw_at lw_m1 134 rfl) rfl
theorem q209 : (Jvm.Cond.laysFinal "SeenByOne" "SeenByOne" "tried" "LSeenByOne$Ground;") ∈ lw_all := lw_g (lw_at lw_m1 135 rfl) rfl
theorem q210 : (Jvm.Cond.soleField "SeenByOne" "tried") ∈ lw_all := lw_g (lw_at lw_m1 136 rfl) rfl
theorem q211 : (Jvm.Cond.lays "SeenByOne" "SeenByOne" "w" "LSeenByOne$Ground;") ∈ lw_all := lw_g (lw_at lw_m1 137 rfl) rfl
theorem q212 : (Jvm.Cond.soleField "SeenByOne" "w") ∈ lw_all := lw_g (lw_at lw_m1 138 rfl) rfl
theorem q213 : (Jvm.Cond.lays "SeenByOne" "SeenByOne" "imaged" "LSeenByOne$Ground;") ∈ lw_all := lw_g (lw_at lw_m1 139 rfl) rfl
theorem q214 : (Jvm.Cond.soleField "SeenByOne" "imaged") ∈ lw_all := lw_g (lw_at lw_m1 140 rfl) rfl
theorem q215 : (Jvm.Cond.lays "SeenByOne" "SeenByOne" "latestFault" "I") ∈ lw_all := lw_g (lw_at lw_m1 141 rfl) rfl
theorem q216 : (Jvm.Cond.soleField "SeenByOne" "latestFault") ∈ lw_all := lw_g (lw_at lw_m1 142 rfl) rfl
theorem q217 : (Jvm.Cond.superclass "SeenByOne" "java/lang/Object") ∈ lw_all := lw_g (lw_at lw_m1 143 rfl) rfl
theorem q219 : (Jvm.Cond.instanceMethod ({ cls := "SeenByOne", name := "row", desc := "(III)I" } : Jvm.MethodName)) ∈ lw_all := lw_g (lw_at lw_m1 145 rfl) rfl
theorem q220 : (Jvm.Cond.selects "SeenByOne" ({ cls := "SeenByOne", name := "row", desc := "(III)I" } : Jvm.MethodName) ({ cls := "SeenByOne", name := "row", desc := "(III)I" } : Jvm.MethodName)) ∈ lw_all := lw_g (lw_at lw_m1 146 rfl) rfl
theorem q221 : (Jvm.Cond.codeWith ({ cls := "SeenByOne", name := "row", desc := "(III)I" } : Jvm.MethodName) prog_1_method_14_code (5 : Nat) (Option.some Jvm.ClassFile.FieldType.int) [((0 : Nat), (63 : Nat), (64 : Nat), (21 : Nat))]) ∈ lw_all := lw_g (lw_at lw_m1 147 rfl) rfl
theorem q222 : (Jvm.Cond.classLink "SeenByOne" (21 : Nat) "SeenByOne$Refused") ∈ lw_all := lw_g (lw_at lw_m1 148 rfl) rfl
theorem q223 : (Jvm.Cond.methodLink "SeenByOne" (136 : Nat) ({ cls := "SeenByOne", name := "shelf", desc := "(I)LSeenByOne$Shelf;" } : Jvm.MethodName)) ∈ lw_all := lw_g (lw_at lw_m1 149 rfl) rfl
theorem q224 : (Jvm.Cond.privateMethod ({ cls := "SeenByOne", name := "shelf", desc := "(I)LSeenByOne$Shelf;" } : Jvm.MethodName)) ∈ lw_tbl := lw_at lw_m1 150 rfl
theorem q225 : (Jvm.Cond.instanceMethod ({ cls := "SeenByOne", name := "shelf", desc := "(I)LSeenByOne$Shelf;" } : Jvm.MethodName)) ∈ lw_all := lw_g (lw_at lw_m1 151 rfl) rfl
theorem q226 : (Jvm.Cond.codeWith ({ cls := "SeenByOne", name := "shelf", desc := "(I)LSeenByOne$Shelf;" } : Jvm.MethodName) prog_1_method_8_code (3 : Nat) (Option.some (Jvm.ClassFile.FieldType.object "SeenByOne$Shelf")) [((0 : Nat), (6 : Nat), (7 : Nat), (92 : Nat))]) ∈ lw_all := lw_g (lw_at lw_m1 152 rfl) rfl
theorem q227 : (Jvm.Cond.classLink "SeenByOne" (92 : Nat) "java/lang/ArrayIndexOutOfBoundsException") ∈ lw_all := lw_g (lw_at lw_m1 153 rfl) rfl
theorem q313 : (Jvm.Cond.methodLink "SeenByOne" (23 : Nat) ({ cls := "SeenByOne$Refused", name := "<init>", desc := "(I)V" } : Jvm.MethodName)) ∈ lw_all := lw_g (lw_at lw_m1 239 rfl) rfl
theorem q323 : (Jvm.Cond.fieldLink "SeenByOne" (89 : Nat) "SeenByOne$Refused" "why" "I") ∈ lw_all := lw_g (lw_at lw_m2 9 rfl) rfl
theorem q328 : (Jvm.Cond.methodLink "SeenByOne" (98 : Nat) ({ cls := "SeenByOne", name := "need", desc := "(ZI)V" } : Jvm.MethodName)) ∈ lw_all := lw_g (lw_at lw_m2 14 rfl) rfl
theorem q329 : (Jvm.Cond.static ({ cls := "SeenByOne", name := "need", desc := "(ZI)V" } : Jvm.MethodName)) ∈ lw_all := lw_g (lw_at lw_m2 15 rfl) rfl
theorem q330 : (Jvm.Cond.code ({ cls := "SeenByOne", name := "need", desc := "(ZI)V" } : Jvm.MethodName) prog_1_method_2_code (2 : Nat) (Option.none : Option Jvm.ClassFile.FieldType)) ∈ lw_all := lw_g (lw_at lw_m2 16 rfl) rfl
theorem q331 : (Jvm.Cond.constantLong "SeenByOne" (140 : Nat) (3 : Int64)) ∈ lw_all := lw_g (lw_at lw_m2 17 rfl) rfl
theorem q332 : (Jvm.Cond.methodLink "SeenByOne" (142 : Nat) ({ cls := "SeenByOne", name := "in", desc := "(JJJ)Z" } : Jvm.MethodName)) ∈ lw_all := lw_g (lw_at lw_m2 18 rfl) rfl
theorem q333 : (Jvm.Cond.static ({ cls := "SeenByOne", name := "in", desc := "(JJJ)Z" } : Jvm.MethodName)) ∈ lw_all := lw_g (lw_at lw_m2 19 rfl) rfl
theorem q334 : (Jvm.Cond.code ({ cls := "SeenByOne", name := "in", desc := "(JJJ)Z" } : Jvm.MethodName) prog_1_method_3_code (6 : Nat) (Option.some Jvm.ClassFile.FieldType.boolean)) ∈ lw_all := lw_g (lw_at lw_m2 20 rfl) rfl
theorem q335 : (Jvm.Cond.methodLink "SeenByOne" (146 : Nat) ({ cls := "SeenByOne", name := "newRow", desc := "(II)LSeenByOne$Row;" } : Jvm.MethodName)) ∈ lw_all := lw_g (lw_at lw_m2 21 rfl) rfl
theorem q336 : (Jvm.Cond.static ({ cls := "SeenByOne", name := "newRow", desc := "(II)LSeenByOne$Row;" } : Jvm.MethodName)) ∈ lw_all := lw_g (lw_at lw_m2 22 rfl) rfl
theorem q337 : (Jvm.Cond.codeWith ({ cls := "SeenByOne", name := "newRow", desc := "(II)LSeenByOne$Row;" } : Jvm.MethodName) prog_1_method_13_code (3 : Nat) (Option.some (Jvm.ClassFile.FieldType.object "SeenByOne$Row")) [((0 : Nat), (40 : Nat), (78 : Nat), (134 : Nat)), ((41 : Nat), (49 : Nat), (78 : Nat), (134 : Nat)), ((50 : Nat), (58 : Nat), (78 : Nat), (134 : Nat)), ((59 : Nat), (67 : Nat), (78 : Nat), (134 : Nat)), ((68 : Nat), (78 : Nat), (78 : Nat), (134 : Nat))]) ∈ lw_all := lw_g (lw_at lw_m2 23 rfl) rfl
theorem q338 : (Jvm.Cond.classLink "SeenByOne" (134 : Nat) "java/lang/NegativeArraySizeException") ∈ lw_all := lw_g (lw_at lw_m2 24 rfl) rfl
theorem q352 : (Jvm.Cond.classLink "SeenByOne" (122 : Nat) "SeenByOne$Bytes") ∈ lw_all := lw_g (lw_at lw_m2 38 rfl) rfl
theorem q354 : (Jvm.Cond.methodLink "SeenByOne" (124 : Nat) ({ cls := "SeenByOne$Bytes", name := "<init>", desc := "(I)V" } : Jvm.MethodName)) ∈ lw_all := lw_g (lw_at lw_m2 40 rfl) rfl
theorem q365 : (Jvm.Cond.classLink "SeenByOne" (125 : Nat) "SeenByOne$Shorts") ∈ lw_all := lw_g (lw_at lw_m2 51 rfl) rfl
theorem q367 : (Jvm.Cond.methodLink "SeenByOne" (127 : Nat) ({ cls := "SeenByOne$Shorts", name := "<init>", desc := "(I)V" } : Jvm.MethodName)) ∈ lw_all := lw_g (lw_at lw_m2 53 rfl) rfl
theorem q376 : (Jvm.Cond.classLink "SeenByOne" (128 : Nat) "SeenByOne$Ints") ∈ lw_all := lw_g (lw_at lw_m2 62 rfl) rfl
theorem q378 : (Jvm.Cond.methodLink "SeenByOne" (130 : Nat) ({ cls := "SeenByOne$Ints", name := "<init>", desc := "(I)V" } : Jvm.MethodName)) ∈ lw_all := lw_g (lw_at lw_m2 64 rfl) rfl
theorem q386 : (Jvm.Cond.classLink "SeenByOne" (131 : Nat) "SeenByOne$Longs") ∈ lw_all := lw_g (lw_at lw_m2 72 rfl) rfl
theorem q388 : (Jvm.Cond.methodLink "SeenByOne" (133 : Nat) ({ cls := "SeenByOne$Longs", name := "<init>", desc := "(I)V" } : Jvm.MethodName)) ∈ lw_all := lw_g (lw_at lw_m2 74 rfl) rfl
theorem q397 : (Jvm.Cond.methodLink "SeenByOne" (150 : Nat) ({ cls := "SeenByOne", name := "refused", desc := "(LSeenByOne$Refused;)I" } : Jvm.MethodName)) ∈ lw_all := lw_g (lw_at lw_m2 83 rfl) rfl
theorem q398 : (Jvm.Cond.privateMethod ({ cls := "SeenByOne", name := "refused", desc := "(LSeenByOne$Refused;)I" } : Jvm.MethodName)) ∈ lw_tbl := lw_at lw_m2 84 rfl
theorem q399 : (Jvm.Cond.instanceMethod ({ cls := "SeenByOne", name := "refused", desc := "(LSeenByOne$Refused;)I" } : Jvm.MethodName)) ∈ lw_all := lw_g (lw_at lw_m2 85 rfl) rfl
theorem q400 : (Jvm.Cond.code ({ cls := "SeenByOne", name := "refused", desc := "(LSeenByOne$Refused;)I" } : Jvm.MethodName) prog_1_method_6_code (2 : Nat) (Option.some Jvm.ClassFile.FieldType.int)) ∈ lw_all := lw_g (lw_at lw_m2 86 rfl) rfl
theorem q402 : (Jvm.Cond.instanceMethod ({ cls := "SeenByOne", name := "set", desc := "(IIJ)I" } : Jvm.MethodName)) ∈ lw_all := lw_g (lw_at lw_m2 88 rfl) rfl
theorem q403 : (Jvm.Cond.selects "SeenByOne" ({ cls := "SeenByOne", name := "set", desc := "(IIJ)I" } : Jvm.MethodName) ({ cls := "SeenByOne", name := "set", desc := "(IIJ)I" } : Jvm.MethodName)) ∈ lw_all := lw_g (lw_at lw_m2 89 rfl) rfl
theorem q404 : (Jvm.Cond.codeWith ({ cls := "SeenByOne", name := "set", desc := "(IIJ)I" } : Jvm.MethodName) prog_1_method_15_code (7 : Nat) (Option.some Jvm.ClassFile.FieldType.int) [((10 : Nat), (17 : Nat), (20 : Nat), (92 : Nat)), ((0 : Nat), (33 : Nat), (34 : Nat), (21 : Nat))]) ∈ lw_all := lw_g (lw_at lw_m2 90 rfl) rfl
theorem q405 : (Jvm.Cond.methodLink "SeenByOne" (154 : Nat) ({ cls := "SeenByOne$Shelf", name := "row", desc := "()LSeenByOne$Row;" } : Jvm.MethodName)) ∈ lw_all := lw_g (lw_at lw_m2 91 rfl) rfl
theorem q427 : (Jvm.Cond.methodLink "SeenByOne" (157 : Nat) ({ cls := "SeenByOne$Row", name := "put", desc := "(IJ)V" } : Jvm.MethodName)) ∈ lw_all := lw_g (lw_at lw_m2 113 rfl) rfl
theorem q443 : (Jvm.Cond.instanceMethod ({ cls := "SeenByOne", name := "copy", desc := "(IIIII)I" } : Jvm.MethodName)) ∈ lw_all := lw_g (lw_at lw_m2 129 rfl) rfl
theorem q444 : (Jvm.Cond.selects "SeenByOne" ({ cls := "SeenByOne", name := "copy", desc := "(IIIII)I" } : Jvm.MethodName) ({ cls := "SeenByOne", name := "copy", desc := "(IIIII)I" } : Jvm.MethodName)) ∈ lw_all := lw_g (lw_at lw_m2 130 rfl) rfl
theorem q445 : (Jvm.Cond.codeWith ({ cls := "SeenByOne", name := "copy", desc := "(IIIII)I" } : Jvm.MethodName) prog_1_method_16_code (11 : Nat) (Option.some Jvm.ClassFile.FieldType.int) [((114 : Nat), (132 : Nat), (135 : Nat), (164 : Nat)), ((0 : Nat), (148 : Nat), (149 : Nat), (21 : Nat))]) ∈ lw_all := lw_g (lw_at lw_m2 131 rfl) rfl
theorem q446 : (Jvm.Cond.classLink "SeenByOne" (164 : Nat) "java/lang/IndexOutOfBoundsException") ∈ lw_all := lw_g (lw_at lw_m2 132 rfl) rfl
theorem q447 : (Jvm.Cond.methodLink "SeenByOne" (108 : Nat) ({ cls := "SeenByOne$Shelf", name := "holdsThing", desc := "()Z" } : Jvm.MethodName)) ∈ lw_all := lw_g (lw_at lw_m2 133 rfl) rfl
theorem q452 : (Jvm.Cond.methodLink "SeenByOne" (161 : Nat) ({ cls := "SeenByOne$Row", name := "sort", desc := "()I" } : Jvm.MethodName)) ∈ lw_all := lw_g (lw_at lw_m2 138 rfl) rfl
theorem q467 : (Jvm.Cond.methodLink "SeenByOne" (7 : Nat) ({ cls := "SeenByOne$Row", name := "held", desc := "()Ljava/lang/Object;" } : Jvm.MethodName)) ∈ lw_all := lw_g (lw_at lw_m2 153 rfl) rfl
theorem q482 : (Jvm.Cond.methodLink "SeenByOne" (15 : Nat) ({ cls := "java/lang/System", name := "arraycopy", desc := "(Ljava/lang/Object;ILjava/lang/Object;II)V" } : Jvm.MethodName)) ∈ lw_all := lw_g (lw_at lw_m2 168 rfl) rfl
theorem q486 : (Jvm.Cond.instanceMethod ({ cls := "SeenByOne", name := "element", desc := "(II)J" } : Jvm.MethodName)) ∈ lw_all := lw_g (lw_at lw_m2 172 rfl) rfl
theorem q487 : (Jvm.Cond.selects "SeenByOne" ({ cls := "SeenByOne", name := "element", desc := "(II)J" } : Jvm.MethodName) ({ cls := "SeenByOne", name := "element", desc := "(II)J" } : Jvm.MethodName)) ∈ lw_all := lw_g (lw_at lw_m2 173 rfl) rfl
theorem q488 : (Jvm.Cond.codeWith ({ cls := "SeenByOne", name := "element", desc := "(II)J" } : Jvm.MethodName) prog_1_method_17_code (4 : Nat) (Option.some Jvm.ClassFile.FieldType.long) [((0 : Nat), (12 : Nat), (13 : Nat), (21 : Nat)), ((0 : Nat), (12 : Nat), (16 : Nat), (92 : Nat))]) ∈ lw_all := lw_g (lw_at lw_m2 174 rfl) rfl
theorem q489 : (Jvm.Cond.methodLink "SeenByOne" (166 : Nat) ({ cls := "SeenByOne$Row", name := "get", desc := "(I)J" } : Jvm.MethodName)) ∈ lw_all := lw_g (lw_at lw_m2 175 rfl) rfl
theorem q505 : (Jvm.Cond.instanceMethod ({ cls := "SeenByOne", name := "show", desc := "(II)I" } : Jvm.MethodName)) ∈ lw_all := lw_g (lw_at lw_m2 191 rfl) rfl
theorem q506 : (Jvm.Cond.selects "SeenByOne" ({ cls := "SeenByOne", name := "show", desc := "(II)I" } : Jvm.MethodName) ({ cls := "SeenByOne", name := "show", desc := "(II)I" } : Jvm.MethodName)) ∈ lw_all := lw_g (lw_at lw_m2 192 rfl) rfl
theorem q507 : (Jvm.Cond.codeWith ({ cls := "SeenByOne", name := "show", desc := "(II)I" } : Jvm.MethodName) prog_1_method_18_code (4 : Nat) (Option.some Jvm.ClassFile.FieldType.int) [((0 : Nat), (17 : Nat), (38 : Nat), (21 : Nat)), ((18 : Nat), (37 : Nat), (38 : Nat), (21 : Nat))]) ∈ lw_all := lw_g (lw_at lw_m2 193 rfl) rfl
theorem q508 : (Jvm.Cond.methodLink "SeenByOne" (102 : Nat) ({ cls := "SeenByOne", name := "mustThing", desc := "(I)V" } : Jvm.MethodName)) ∈ lw_all := lw_g (lw_at lw_m2 194 rfl) rfl
theorem q509 : (Jvm.Cond.privateMethod ({ cls := "SeenByOne", name := "mustThing", desc := "(I)V" } : Jvm.MethodName)) ∈ lw_tbl := lw_at lw_m2 195 rfl
theorem q510 : (Jvm.Cond.instanceMethod ({ cls := "SeenByOne", name := "mustThing", desc := "(I)V" } : Jvm.MethodName)) ∈ lw_all := lw_g (lw_at lw_m2 196 rfl) rfl
theorem q511 : (Jvm.Cond.code ({ cls := "SeenByOne", name := "mustThing", desc := "(I)V" } : Jvm.MethodName) prog_1_method_9_code (2 : Nat) (Option.none : Option Jvm.ClassFile.FieldType)) ∈ lw_all := lw_g (lw_at lw_m2 197 rfl) rfl
theorem q512 : (Jvm.Cond.methodLink "SeenByOne" (94 : Nat) ({ cls := "SeenByOne$Ground", name := "isThing", desc := "(I)Z" } : Jvm.MethodName)) ∈ lw_all := lw_g (lw_at lw_m2 198 rfl) rfl
theorem q518 : (Jvm.Cond.instanceMethod ({ cls := "SeenByOne", name := "holds", desc := "(I)I" } : Jvm.MethodName)) ∈ lw_all := lw_g (lw_at lw_m2 204 rfl) rfl
theorem q519 : (Jvm.Cond.selects "SeenByOne" ({ cls := "SeenByOne", name := "holds", desc := "(I)I" } : Jvm.MethodName) ({ cls := "SeenByOne", name := "holds", desc := "(I)I" } : Jvm.MethodName)) ∈ lw_all := lw_g (lw_at lw_m2 205 rfl) rfl
theorem q520 : (Jvm.Cond.code ({ cls := "SeenByOne", name := "holds", desc := "(I)I" } : Jvm.MethodName) prog_1_method_19_code (3 : Nat) (Option.some Jvm.ClassFile.FieldType.int)) ∈ lw_all := lw_g (lw_at lw_m2 206 rfl) rfl
theorem q521 : (Jvm.Cond.classLink "SeenByOne" (47 : Nat) "SeenByOne$Thing") ∈ lw_all := lw_g (lw_at lw_m2 207 rfl) rfl
theorem q522 : (Jvm.Cond.classLink "SeenByOne" (2 : Nat) "SeenByOne$Row") ∈ lw_all := lw_g (lw_at lw_m2 208 rfl) rfl
theorem q524 : (Jvm.Cond.instanceMethod ({ cls := "SeenByOne", name := "says", desc := "(II)I" } : Jvm.MethodName)) ∈ lw_all := lw_g (lw_at lw_m2 210 rfl) rfl
theorem q525 : (Jvm.Cond.selects "SeenByOne" ({ cls := "SeenByOne", name := "says", desc := "(II)I" } : Jvm.MethodName) ({ cls := "SeenByOne", name := "says", desc := "(II)I" } : Jvm.MethodName)) ∈ lw_all := lw_g (lw_at lw_m2 211 rfl) rfl
theorem q526 : (Jvm.Cond.codeWith ({ cls := "SeenByOne", name := "says", desc := "(II)I" } : Jvm.MethodName) prog_1_method_20_code (4 : Nat) (Option.some Jvm.ClassFile.FieldType.int) [((0 : Nat), (28 : Nat), (29 : Nat), (21 : Nat))]) ∈ lw_all := lw_g (lw_at lw_m2 212 rfl) rfl
theorem q527 : (Jvm.Cond.constantLong "SeenByOne" (170 : Nat) (6 : Int64)) ∈ lw_all := lw_g (lw_at lw_m2 213 rfl) rfl
theorem q528 : (Jvm.Cond.methodLink "SeenByOne" (172 : Nat) ({ cls := "SeenByOne$Shelf", name := "says", desc := "(ILSeenByOne$Ground;)I" } : Jvm.MethodName)) ∈ lw_all := lw_g (lw_at lw_m2 214 rfl) rfl
theorem q690 : (Jvm.Cond.instanceMethod ({ cls := "SeenByOne", name := "thing", desc := "(IIIII)I" } : Jvm.MethodName)) ∈ lw_all := lw_g (lw_at lw_m3 136 rfl) rfl
theorem q691 : (Jvm.Cond.selects "SeenByOne" ({ cls := "SeenByOne", name := "thing", desc := "(IIIII)I" } : Jvm.MethodName) ({ cls := "SeenByOne", name := "thing", desc := "(IIIII)I" } : Jvm.MethodName)) ∈ lw_all := lw_g (lw_at lw_m3 137 rfl) rfl
theorem q692 : (Jvm.Cond.codeWith ({ cls := "SeenByOne", name := "thing", desc := "(IIIII)I" } : Jvm.MethodName) prog_1_method_21_code (7 : Nat) (Option.some Jvm.ClassFile.FieldType.int) [((0 : Nat), (123 : Nat), (124 : Nat), (21 : Nat))]) ∈ lw_all := lw_g (lw_at lw_m3 138 rfl) rfl
theorem q693 : (Jvm.Cond.constantLong "SeenByOne" (176 : Nat) (9 : Int64)) ∈ lw_all := lw_g (lw_at lw_m3 139 rfl) rfl
theorem q694 : (Jvm.Cond.constantLong "SeenByOne" (178 : Nat) (20 : Int64)) ∈ lw_all := lw_g (lw_at lw_m3 140 rfl) rfl
theorem q695 : (Jvm.Cond.methodLink "SeenByOne" (180 : Nat) ({ cls := "SeenByOne$Ground", name := "isFree", desc := "(II)Z" } : Jvm.MethodName)) ∈ lw_all := lw_g (lw_at lw_m3 141 rfl) rfl
theorem q699 : (Jvm.Cond.methodLink "SeenByOne" (187 : Nat) ({ cls := "SeenByOne$Ground", name := "add", desc := "(IIIII)I" } : Jvm.MethodName)) ∈ lw_all := lw_g (lw_at lw_m3 145 rfl) rfl
theorem q704 : (Jvm.Cond.static ({ cls := "SeenByOne", name := "thingOfKind", desc := "(IIIII)LSeenByOne$Thing;" } : Jvm.MethodName)) ∈ lw_all := lw_g (lw_at lw_m3 150 rfl) rfl
theorem q705 : (Jvm.Cond.code ({ cls := "SeenByOne", name := "thingOfKind", desc := "(IIIII)LSeenByOne$Thing;" } : Jvm.MethodName) prog_1_method_4_code (5 : Nat) (Option.some (Jvm.ClassFile.FieldType.object "SeenByOne$Thing"))) ∈ lw_all := lw_g (lw_at lw_m3 151 rfl) rfl
theorem q706 : (Jvm.Cond.classLink "SeenByOne" (27 : Nat) "SeenByOne$House") ∈ lw_all := lw_g (lw_at lw_m3 152 rfl) rfl
theorem q708 : (Jvm.Cond.methodLink "SeenByOne" (29 : Nat) ({ cls := "SeenByOne$House", name := "<init>", desc := "(IIII)V" } : Jvm.MethodName)) ∈ lw_all := lw_g (lw_at lw_m3 154 rfl) rfl
theorem q726 : (Jvm.Cond.fieldLink "SeenByOne" (115 : Nat) "SeenByOne$Thing" "index" "I") ∈ lw_all := lw_g (lw_at lw_m3 172 rfl) rfl
theorem q729 : (Jvm.Cond.fieldLink "SeenByOne" (197 : Nat) "SeenByOne$Thing" "x" "I") ∈ lw_all := lw_g (lw_at lw_m3 175 rfl) rfl
theorem q732 : (Jvm.Cond.fieldLink "SeenByOne" (200 : Nat) "SeenByOne$Thing" "y" "I") ∈ lw_all := lw_g (lw_at lw_m3 178 rfl) rfl
theorem q743 : (Jvm.Cond.fieldLink "SeenByOne" (206 : Nat) "SeenByOne$Thing" "by" "I") ∈ lw_all := lw_g (lw_at lw_m3 189 rfl) rfl
theorem q752 : (Jvm.Cond.classLink "SeenByOne" (32 : Nat) "SeenByOne$Tree") ∈ lw_all := lw_g (lw_at lw_m3 198 rfl) rfl
theorem q754 : (Jvm.Cond.methodLink "SeenByOne" (34 : Nat) ({ cls := "SeenByOne$Tree", name := "<init>", desc := "(IIII)V" } : Jvm.MethodName)) ∈ lw_all := lw_g (lw_at lw_m3 200 rfl) rfl
theorem q762 : (Jvm.Cond.classLink "SeenByOne" (35 : Nat) "SeenByOne$Tower") ∈ lw_all := lw_g (lw_at lw_m3 208 rfl) rfl
theorem q764 : (Jvm.Cond.methodLink "SeenByOne" (37 : Nat) ({ cls := "SeenByOne$Tower", name := "<init>", desc := "(IIII)V" } : Jvm.MethodName)) ∈ lw_all := lw_g (lw_at lw_m3 210 rfl) rfl
theorem q772 : (Jvm.Cond.classLink "SeenByOne" (38 : Nat) "SeenByOne$Shy") ∈ lw_all := lw_g (lw_at lw_m3 218 rfl) rfl
theorem q774 : (Jvm.Cond.methodLink "SeenByOne" (40 : Nat) ({ cls := "SeenByOne$Shy", name := "<init>", desc := "(IIII)V" } : Jvm.MethodName)) ∈ lw_all := lw_g (lw_at lw_m3 220 rfl) rfl
theorem q782 : (Jvm.Cond.classLink "SeenByOne" (41 : Nat) "SeenByOne$Blind") ∈ lw_all := lw_g (lw_at lw_m3 228 rfl) rfl
theorem q784 : (Jvm.Cond.methodLink "SeenByOne" (43 : Nat) ({ cls := "SeenByOne$Blind", name := "<init>", desc := "(IIII)V" } : Jvm.MethodName)) ∈ lw_all := lw_g (lw_at lw_m3 230 rfl) rfl
theorem q793 : (Jvm.Cond.classLink "SeenByOne" (44 : Nat) "SeenByOne$Fir") ∈ lw_all := lw_g (lw_at lw_m3 239 rfl) rfl
theorem q795 : (Jvm.Cond.methodLink "SeenByOne" (46 : Nat) ({ cls := "SeenByOne$Fir", name := "<init>", desc := "(IIII)V" } : Jvm.MethodName)) ∈ lw_all := lw_g (lw_at lw_m4 1 rfl) rfl
theorem q804 : (Jvm.Cond.methodLink "SeenByOne" (49 : Nat) ({ cls := "SeenByOne$Thing", name := "<init>", desc := "(IIII)V" } : Jvm.MethodName)) ∈ lw_all := lw_g (lw_at lw_m4 10 rfl) rfl
theorem q811 : (Jvm.Cond.instanceMethod ({ cls := "SeenByOne", name := "thingOf", desc := "(II)I" } : Jvm.MethodName)) ∈ lw_all := lw_g (lw_at lw_m4 17 rfl) rfl
theorem q812 : (Jvm.Cond.selects "SeenByOne" ({ cls := "SeenByOne", name := "thingOf", desc := "(II)I" } : Jvm.MethodName) ({ cls := "SeenByOne", name := "thingOf", desc := "(II)I" } : Jvm.MethodName)) ∈ lw_all := lw_g (lw_at lw_m4 18 rfl) rfl
theorem q813 : (Jvm.Cond.code ({ cls := "SeenByOne", name := "thingOf", desc := "(II)I" } : Jvm.MethodName) prog_1_method_22_code (4 : Nat) (Option.some Jvm.ClassFile.FieldType.int)) ∈ lw_all := lw_g (lw_at lw_m4 19 rfl) rfl
theorem q814 : (Jvm.Cond.methodLink "SeenByOne" (191 : Nat) ({ cls := "SeenByOne", name := "beyond", desc := "()I" } : Jvm.MethodName)) ∈ lw_all := lw_g (lw_at lw_m4 20 rfl) rfl
theorem q815 : (Jvm.Cond.privateMethod ({ cls := "SeenByOne", name := "beyond", desc := "()I" } : Jvm.MethodName)) ∈ lw_tbl := lw_at lw_m4 21 rfl
theorem q816 : (Jvm.Cond.instanceMethod ({ cls := "SeenByOne", name := "beyond", desc := "()I" } : Jvm.MethodName)) ∈ lw_all := lw_g (lw_at lw_m4 22 rfl) rfl
theorem q817 : (Jvm.Cond.code ({ cls := "SeenByOne", name := "beyond", desc := "()I" } : Jvm.MethodName) prog_1_method_7_code (1 : Nat) (Option.some Jvm.ClassFile.FieldType.int)) ∈ lw_all := lw_g (lw_at lw_m4 23 rfl) rfl
theorem q818 : (Jvm.Cond.methodLink "SeenByOne" (194 : Nat) ({ cls := "SeenByOne$Thing", name := "kind", desc := "()I" } : Jvm.MethodName)) ∈ lw_all := lw_g (lw_at lw_m4 24 rfl) rfl
theorem q841 : (Jvm.Cond.methodLink "SeenByOne" (209 : Nat) ({ cls := "SeenByOne$Ground", name := "tall", desc := "(I)I" } : Jvm.MethodName)) ∈ lw_all := lw_g (lw_at lw_m4 47 rfl) rfl
theorem q843 : (Jvm.Cond.instanceMethod ({ cls := "SeenByOne", name := "height", desc := "(II)I" } : Jvm.MethodName)) ∈ lw_all := lw_g (lw_at lw_m4 49 rfl) rfl
theorem q844 : (Jvm.Cond.selects "SeenByOne" ({ cls := "SeenByOne", name := "height", desc := "(II)I" } : Jvm.MethodName) ({ cls := "SeenByOne", name := "height", desc := "(II)I" } : Jvm.MethodName)) ∈ lw_all := lw_g (lw_at lw_m4 50 rfl) rfl
theorem q845 : (Jvm.Cond.codeWith ({ cls := "SeenByOne", name := "height", desc := "(II)I" } : Jvm.MethodName) prog_1_method_23_code (4 : Nat) (Option.some Jvm.ClassFile.FieldType.int) [((0 : Nat), (40 : Nat), (41 : Nat), (21 : Nat))]) ∈ lw_all := lw_g (lw_at lw_m4 51 rfl) rfl
theorem q847 : (Jvm.Cond.instanceMethod ({ cls := "SeenByOne", name := "ask", desc := "(II)I" } : Jvm.MethodName)) ∈ lw_all := lw_g (lw_at lw_m4 53 rfl) rfl
theorem q848 : (Jvm.Cond.selects "SeenByOne" ({ cls := "SeenByOne", name := "ask", desc := "(II)I" } : Jvm.MethodName) ({ cls := "SeenByOne", name := "ask", desc := "(II)I" } : Jvm.MethodName)) ∈ lw_all := lw_g (lw_at lw_m4 54 rfl) rfl
theorem q849 : (Jvm.Cond.codeWith ({ cls := "SeenByOne", name := "ask", desc := "(II)I" } : Jvm.MethodName) prog_1_method_24_code (4 : Nat) (Option.some Jvm.ClassFile.FieldType.int) [((0 : Nat), (98 : Nat), (99 : Nat), (21 : Nat))]) ∈ lw_all := lw_g (lw_at lw_m4 55 rfl) rfl
theorem q851 : (Jvm.Cond.instanceMethod ({ cls := "SeenByOne", name := "shut", desc := "(IIZ)I" } : Jvm.MethodName)) ∈ lw_all := lw_g (lw_at lw_m4 57 rfl) rfl
theorem q852 : (Jvm.Cond.selects "SeenByOne" ({ cls := "SeenByOne", name := "shut", desc := "(IIZ)I" } : Jvm.MethodName) ({ cls := "SeenByOne", name := "shut", desc := "(IIZ)I" } : Jvm.MethodName)) ∈ lw_all := lw_g (lw_at lw_m4 58 rfl) rfl
theorem q853 : (Jvm.Cond.codeWith ({ cls := "SeenByOne", name := "shut", desc := "(IIZ)I" } : Jvm.MethodName) prog_1_method_25_code (5 : Nat) (Option.some Jvm.ClassFile.FieldType.int) [((0 : Nat), (84 : Nat), (85 : Nat), (21 : Nat))]) ∈ lw_all := lw_g (lw_at lw_m4 59 rfl) rfl
theorem q854 : (Jvm.Cond.methodLink "SeenByOne" (223 : Nat) ({ cls := "SeenByOne", name := "mustHouses", desc := "(II)V" } : Jvm.MethodName)) ∈ lw_all := lw_g (lw_at lw_m4 60 rfl) rfl
theorem q855 : (Jvm.Cond.privateMethod ({ cls := "SeenByOne", name := "mustHouses", desc := "(II)V" } : Jvm.MethodName)) ∈ lw_tbl := lw_at lw_m4 61 rfl
theorem q856 : (Jvm.Cond.instanceMethod ({ cls := "SeenByOne", name := "mustHouses", desc := "(II)V" } : Jvm.MethodName)) ∈ lw_all := lw_g (lw_at lw_m4 62 rfl) rfl
theorem q857 : (Jvm.Cond.code ({ cls := "SeenByOne", name := "mustHouses", desc := "(II)V" } : Jvm.MethodName) prog_1_method_11_code (3 : Nat) (Option.none : Option Jvm.ClassFile.FieldType)) ∈ lw_all := lw_g (lw_at lw_m4 63 rfl) rfl
theorem q858 : (Jvm.Cond.methodLink "SeenByOne" (105 : Nat) ({ cls := "SeenByOne$Ground", name := "isHouse", desc := "(I)Z" } : Jvm.MethodName)) ∈ lw_all := lw_g (lw_at lw_m4 64 rfl) rfl
theorem q860 : (Jvm.Cond.instanceMethod ({ cls := "SeenByOne", name := "draw", desc := "(IZ)I" } : Jvm.MethodName)) ∈ lw_all := lw_g (lw_at lw_m4 66 rfl) rfl
theorem q861 : (Jvm.Cond.selects "SeenByOne" ({ cls := "SeenByOne", name := "draw", desc := "(IZ)I" } : Jvm.MethodName) ({ cls := "SeenByOne", name := "draw", desc := "(IZ)I" } : Jvm.MethodName)) ∈ lw_all := lw_g (lw_at lw_m4 67 rfl) rfl
theorem q862 : (Jvm.Cond.codeWith ({ cls := "SeenByOne", name := "draw", desc := "(IZ)I" } : Jvm.MethodName) prog_1_method_26_code (4 : Nat) (Option.some Jvm.ClassFile.FieldType.int) [((0 : Nat), (73 : Nat), (74 : Nat), (21 : Nat))]) ∈ lw_all := lw_g (lw_at lw_m4 68 rfl) rfl
theorem q863 : (Jvm.Cond.methodLink "SeenByOne" (230 : Nat) ({ cls := "SeenByOne", name := "mustHouse", desc := "(I)V" } : Jvm.MethodName)) ∈ lw_all := lw_g (lw_at lw_m4 69 rfl) rfl
theorem q864 : (Jvm.Cond.privateMethod ({ cls := "SeenByOne", name := "mustHouse", desc := "(I)V" } : Jvm.MethodName)) ∈ lw_tbl := lw_at lw_m4 70 rfl
theorem q865 : (Jvm.Cond.instanceMethod ({ cls := "SeenByOne", name := "mustHouse", desc := "(I)V" } : Jvm.MethodName)) ∈ lw_all := lw_g (lw_at lw_m4 71 rfl) rfl
theorem q866 : (Jvm.Cond.code ({ cls := "SeenByOne", name := "mustHouse", desc := "(I)V" } : Jvm.MethodName) prog_1_method_10_code (2 : Nat) (Option.none : Option Jvm.ClassFile.FieldType)) ∈ lw_all := lw_g (lw_at lw_m4 72 rfl) rfl
theorem q868 : (Jvm.Cond.instanceMethod ({ cls := "SeenByOne", name := "ground", desc := "(I)I" } : Jvm.MethodName)) ∈ lw_all := lw_g (lw_at lw_m4 74 rfl) rfl
theorem q869 : (Jvm.Cond.selects "SeenByOne" ({ cls := "SeenByOne", name := "ground", desc := "(I)I" } : Jvm.MethodName) ({ cls := "SeenByOne", name := "ground", desc := "(I)I" } : Jvm.MethodName)) ∈ lw_all := lw_g (lw_at lw_m4 75 rfl) rfl
theorem q870 : (Jvm.Cond.codeWith ({ cls := "SeenByOne", name := "ground", desc := "(I)I" } : Jvm.MethodName) prog_1_method_27_code (5 : Nat) (Option.some Jvm.ClassFile.FieldType.int) [((29 : Nat), (50 : Nat), (51 : Nat), (245 : Nat)), ((0 : Nat), (50 : Nat), (72 : Nat), (21 : Nat)), ((51 : Nat), (72 : Nat), (72 : Nat), (21 : Nat))]) ∈ lw_all := lw_g (lw_at lw_m4 76 rfl) rfl
theorem q871 : (Jvm.Cond.classLink "SeenByOne" (245 : Nat) "SeenByOne$Faulty") ∈ lw_all := lw_g (lw_at lw_m4 77 rfl) rfl
theorem q872 : (Jvm.Cond.methodLink "SeenByOne" (233 : Nat) ({ cls := "SeenByOne$Ground", name := "take", desc := "(LSeenByOne$Ground;)LSeenByOne$Ground;" } : Jvm.MethodName)) ∈ lw_all := lw_g (lw_at lw_m4 78 rfl) rfl
theorem q877 : (Jvm.Cond.classLink "SeenByOne" (237 : Nat) "SeenByOne$Reader") ∈ lw_all := lw_g (lw_at lw_m4 83 rfl) rfl
theorem q879 : (Jvm.Cond.methodLink "SeenByOne" (239 : Nat) ({ cls := "SeenByOne$Reader", name := "<init>", desc := "(LSeenByOne$Row;LSeenByOne$Ground;)V" } : Jvm.MethodName)) ∈ lw_all := lw_g (lw_at lw_m4 85 rfl) rfl
theorem q896 : (Jvm.Cond.methodLink "SeenByOne" (242 : Nat) ({ cls := "SeenByOne$Reader", name := "items", desc := "()I" } : Jvm.MethodName)) ∈ lw_all := lw_g (lw_at lw_m4 102 rfl) rfl
theorem q1007 : (Jvm.Cond.fieldLink "SeenByOne" (247 : Nat) "SeenByOne$Faulty" "place" "I") ∈ lw_all := lw_g (lw_at lw_m4 213 rfl) rfl
theorem q1041 : (Jvm.Cond.instanceMethod ({ cls := "SeenByOne", name := "fault", desc := "()I" } : Jvm.MethodName)) ∈ lw_all := lw_g (lw_at lw_m5 7 rfl) rfl
theorem q1042 : (Jvm.Cond.selects "SeenByOne" ({ cls := "SeenByOne", name := "fault", desc := "()I" } : Jvm.MethodName) ({ cls := "SeenByOne", name := "fault", desc := "()I" } : Jvm.MethodName)) ∈ lw_all := lw_g (lw_at lw_m5 8 rfl) rfl
theorem q1043 : (Jvm.Cond.code ({ cls := "SeenByOne", name := "fault", desc := "()I" } : Jvm.MethodName) prog_1_method_28_code (1 : Nat) (Option.some Jvm.ClassFile.FieldType.int)) ∈ lw_all := lw_g (lw_at lw_m5 9 rfl) rfl
theorem q1045 : (Jvm.Cond.instanceMethod ({ cls := "SeenByOne", name := "sees", desc := "(III)I" } : Jvm.MethodName)) ∈ lw_all := lw_g (lw_at lw_m5 11 rfl) rfl
theorem q1046 : (Jvm.Cond.selects "SeenByOne" ({ cls := "SeenByOne", name := "sees", desc := "(III)I" } : Jvm.MethodName) ({ cls := "SeenByOne", name := "sees", desc := "(III)I" } : Jvm.MethodName)) ∈ lw_all := lw_g (lw_at lw_m5 12 rfl) rfl
theorem q1047 : (Jvm.Cond.codeWith ({ cls := "SeenByOne", name := "sees", desc := "(III)I" } : Jvm.MethodName) prog_1_method_29_code (5 : Nat) (Option.some Jvm.ClassFile.FieldType.int) [((0 : Nat), (127 : Nat), (128 : Nat), (21 : Nat))]) ∈ lw_all := lw_g (lw_at lw_m5 13 rfl) rfl
theorem q1048 : (Jvm.Cond.methodLink "SeenByOne" (250 : Nat) ({ cls := "SeenByOne$Ground", name := "looksInto", desc := "(II)Z" } : Jvm.MethodName)) ∈ lw_all := lw_g (lw_at lw_m5 14 rfl) rfl
theorem q1049 : (Jvm.Cond.methodLink "SeenByOne" (253 : Nat) ({ cls := "SeenByOne$Ground", name := "seesInto", desc := "(II)Z" } : Jvm.MethodName)) ∈ lw_all := lw_g (lw_at lw_m5 15 rfl) rfl
theorem q1051 : (Jvm.Cond.instanceMethod ({ cls := "SeenByOne", name := "bars", desc := "(II)I" } : Jvm.MethodName)) ∈ lw_all := lw_g (lw_at lw_m5 17 rfl) rfl
theorem q1052 : (Jvm.Cond.selects "SeenByOne" ({ cls := "SeenByOne", name := "bars", desc := "(II)I" } : Jvm.MethodName) ({ cls := "SeenByOne", name := "bars", desc := "(II)I" } : Jvm.MethodName)) ∈ lw_all := lw_g (lw_at lw_m5 18 rfl) rfl
theorem q1053 : (Jvm.Cond.codeWith ({ cls := "SeenByOne", name := "bars", desc := "(II)I" } : Jvm.MethodName) prog_1_method_30_code (4 : Nat) (Option.some Jvm.ClassFile.FieldType.int) [((0 : Nat), (15 : Nat), (16 : Nat), (21 : Nat))]) ∈ lw_all := lw_g (lw_at lw_m5 19 rfl) rfl
theorem q1054 : (Jvm.Cond.methodLink "SeenByOne" (256 : Nat) ({ cls := "SeenByOne$Ground", name := "bars", desc := "(II)I" } : Jvm.MethodName)) ∈ lw_all := lw_g (lw_at lw_m5 20 rfl) rfl
theorem q1056 : (Jvm.Cond.instanceMethod ({ cls := "SeenByOne", name := "seers", desc := "(I)I" } : Jvm.MethodName)) ∈ lw_all := lw_g (lw_at lw_m5 22 rfl) rfl
theorem q1057 : (Jvm.Cond.selects "SeenByOne" ({ cls := "SeenByOne", name := "seers", desc := "(I)I" } : Jvm.MethodName) ({ cls := "SeenByOne", name := "seers", desc := "(I)I" } : Jvm.MethodName)) ∈ lw_all := lw_g (lw_at lw_m5 23 rfl) rfl
theorem q1058 : (Jvm.Cond.codeWith ({ cls := "SeenByOne", name := "seers", desc := "(I)I" } : Jvm.MethodName) prog_1_method_31_code (3 : Nat) (Option.some Jvm.ClassFile.FieldType.int) [((0 : Nat), (13 : Nat), (14 : Nat), (21 : Nat))]) ∈ lw_all := lw_g (lw_at lw_m5 24 rfl) rfl
theorem q1059 : (Jvm.Cond.methodLink "SeenByOne" (260 : Nat) ({ cls := "SeenByOne$Ground", name := "seers", desc := "(I)I" } : Jvm.MethodName)) ∈ lw_all := lw_g (lw_at lw_m5 25 rfl) rfl
theorem q1061 : (Jvm.Cond.instanceMethod ({ cls := "SeenByOne", name := "right", desc := "()I" } : Jvm.MethodName)) ∈ lw_all := lw_g (lw_at lw_m5 27 rfl) rfl
theorem q1062 : (Jvm.Cond.selects "SeenByOne" ({ cls := "SeenByOne", name := "right", desc := "()I" } : Jvm.MethodName) ({ cls := "SeenByOne", name := "right", desc := "()I" } : Jvm.MethodName)) ∈ lw_all := lw_g (lw_at lw_m5 28 rfl) rfl
theorem q1063 : (Jvm.Cond.code ({ cls := "SeenByOne", name := "right", desc := "()I" } : Jvm.MethodName) prog_1_method_32_code (1 : Nat) (Option.some Jvm.ClassFile.FieldType.int)) ∈ lw_all := lw_g (lw_at lw_m5 29 rfl) rfl
theorem q1064 : (Jvm.Cond.methodLink "SeenByOne" (263 : Nat) ({ cls := "SeenByOne$Ground", name := "right", desc := "()I" } : Jvm.MethodName)) ∈ lw_all := lw_g (lw_at lw_m5 30 rfl) rfl
theorem q1070 : (Jvm.Cond.instanceMethod ({ cls := "SeenByOne", name := "first", desc := "()I" } : Jvm.MethodName)) ∈ lw_all := lw_g (lw_at lw_m5 36 rfl) rfl
theorem q1071 : (Jvm.Cond.selects "SeenByOne" ({ cls := "SeenByOne", name := "first", desc := "()I" } : Jvm.MethodName) ({ cls := "SeenByOne", name := "first", desc := "()I" } : Jvm.MethodName)) ∈ lw_all := lw_g (lw_at lw_m5 37 rfl) rfl
theorem q1072 : (Jvm.Cond.code ({ cls := "SeenByOne", name := "first", desc := "()I" } : Jvm.MethodName) prog_1_method_33_code (2 : Nat) (Option.some Jvm.ClassFile.FieldType.int)) ∈ lw_all := lw_g (lw_at lw_m5 38 rfl) rfl
theorem q1073 : (Jvm.Cond.methodLink "SeenByOne" (266 : Nat) ({ cls := "SeenByOne$Ground", name := "houses", desc := "()I" } : Jvm.MethodName)) ∈ lw_all := lw_g (lw_at lw_m5 39 rfl) rfl
theorem q1077 : (Jvm.Cond.methodLink "SeenByOne" (269 : Nat) ({ cls := "java/lang/Integer", name := "numberOfTrailingZeros", desc := "(I)I" } : Jvm.MethodName)) ∈ lw_all := lw_g (lw_at lw_m5 43 rfl) rfl
theorem q1082 : (Jvm.Cond.instanceMethod ({ cls := "SeenByOne", name := "cost", desc := "(II)I" } : Jvm.MethodName)) ∈ lw_all := lw_g (lw_at lw_m5 48 rfl) rfl
theorem q1083 : (Jvm.Cond.selects "SeenByOne" ({ cls := "SeenByOne", name := "cost", desc := "(II)I" } : Jvm.MethodName) ({ cls := "SeenByOne", name := "cost", desc := "(II)I" } : Jvm.MethodName)) ∈ lw_all := lw_g (lw_at lw_m5 49 rfl) rfl
theorem q1084 : (Jvm.Cond.codeWith ({ cls := "SeenByOne", name := "cost", desc := "(II)I" } : Jvm.MethodName) prog_1_method_34_code (4 : Nat) (Option.some Jvm.ClassFile.FieldType.int) [((0 : Nat), (15 : Nat), (16 : Nat), (21 : Nat))]) ∈ lw_all := lw_g (lw_at lw_m5 50 rfl) rfl
theorem q1085 : (Jvm.Cond.methodLink "SeenByOne" (274 : Nat) ({ cls := "SeenByOne$Ground", name := "cost", desc := "(II)I" } : Jvm.MethodName)) ∈ lw_all := lw_g (lw_at lw_m5 51 rfl) rfl
theorem q1090 : (Jvm.Cond.instanceMethod ({ cls := "SeenByOne", name := "cheapest", desc := "(I)I" } : Jvm.MethodName)) ∈ lw_all := lw_g (lw_at lw_m5 56 rfl) rfl
theorem q1091 : (Jvm.Cond.selects "SeenByOne" ({ cls := "SeenByOne", name := "cheapest", desc := "(I)I" } : Jvm.MethodName) ({ cls := "SeenByOne", name := "cheapest", desc := "(I)I" } : Jvm.MethodName)) ∈ lw_all := lw_g (lw_at lw_m5 57 rfl) rfl
theorem q1092 : (Jvm.Cond.codeWith ({ cls := "SeenByOne", name := "cheapest", desc := "(I)I" } : Jvm.MethodName) prog_1_method_35_code (8 : Nat) (Option.some Jvm.ClassFile.FieldType.int) [((0 : Nat), (166 : Nat), (167 : Nat), (21 : Nat))]) ∈ lw_all := lw_g (lw_at lw_m5 58 rfl) rfl
theorem q1093 : (Jvm.Cond.constantLong "SeenByOne" (277 : Nat) (2 : Int64)) ∈ lw_all := lw_g (lw_at lw_m5 59 rfl) rfl
theorem q1094 : (Jvm.Cond.methodLink "SeenByOne" (279 : Nat) ({ cls := "SeenByOne$Ground", name := "canBe", desc := "(I)Z" } : Jvm.MethodName)) ∈ lw_all := lw_g (lw_at lw_m5 60 rfl) rfl
theorem q1098 : (Jvm.Cond.methodLink "SeenByOne" (282 : Nat) ({ cls := "SeenByOne$Ground", name := "toShut", desc := "(I)I" } : Jvm.MethodName)) ∈ lw_all := lw_g (lw_at lw_m5 64 rfl) rfl
theorem q1111 : (Jvm.Cond.methodLink "SeenByOne" (285 : Nat) ({ cls := "java/lang/Integer", name := "bitCount", desc := "(I)I" } : Jvm.MethodName)) ∈ lw_all := lw_g (lw_at lw_m5 77 rfl) rfl
theorem q1113 : (Jvm.Cond.instanceMethod ({ cls := "SeenByOne", name := "keeps", desc := "(I)I" } : Jvm.MethodName)) ∈ lw_all := lw_g (lw_at lw_m5 79 rfl) rfl
theorem q1114 : (Jvm.Cond.selects "SeenByOne" ({ cls := "SeenByOne", name := "keeps", desc := "(I)I" } : Jvm.MethodName) ({ cls := "SeenByOne", name := "keeps", desc := "(I)I" } : Jvm.MethodName)) ∈ lw_all := lw_g (lw_at lw_m5 80 rfl) rfl
theorem q1115 : (Jvm.Cond.codeWith ({ cls := "SeenByOne", name := "keeps", desc := "(I)I" } : Jvm.MethodName) prog_1_method_36_code (3 : Nat) (Option.some Jvm.ClassFile.FieldType.int) [((0 : Nat), (13 : Nat), (14 : Nat), (21 : Nat))]) ∈ lw_all := lw_g (lw_at lw_m5 81 rfl) rfl
theorem q1116 : (Jvm.Cond.methodLink "SeenByOne" (288 : Nat) ({ cls := "SeenByOne$Ground", name := "keeps", desc := "(I)I" } : Jvm.MethodName)) ∈ lw_all := lw_g (lw_at lw_m5 82 rfl) rfl
theorem q1118 : (Jvm.Cond.instanceMethod ({ cls := "SeenByOne", name := "shuts", desc := "()I" } : Jvm.MethodName)) ∈ lw_all := lw_g (lw_at lw_m5 84 rfl) rfl
theorem q1119 : (Jvm.Cond.selects "SeenByOne" ({ cls := "SeenByOne", name := "shuts", desc := "()I" } : Jvm.MethodName) ({ cls := "SeenByOne", name := "shuts", desc := "()I" } : Jvm.MethodName)) ∈ lw_all := lw_g (lw_at lw_m5 85 rfl) rfl
theorem q1120 : (Jvm.Cond.codeWith ({ cls := "SeenByOne", name := "shuts", desc := "()I" } : Jvm.MethodName) prog_1_method_37_code (4 : Nat) (Option.some Jvm.ClassFile.FieldType.int) [((0 : Nat), (100 : Nat), (101 : Nat), (21 : Nat))]) ∈ lw_all := lw_g (lw_at lw_m5 86 rfl) rfl
theorem q1121 : (Jvm.Cond.methodLink "SeenByOne" (291 : Nat) ({ cls := "SeenByOne", name := "cheapest", desc := "(I)I" } : Jvm.MethodName)) ∈ lw_all := lw_g (lw_at lw_m5 87 rfl) rfl
theorem q1123 : (Jvm.Cond.instanceMethod ({ cls := "SeenByOne", name := "opens", desc := "()I" } : Jvm.MethodName)) ∈ lw_all := lw_g (lw_at lw_m5 89 rfl) rfl
theorem q1124 : (Jvm.Cond.selects "SeenByOne" ({ cls := "SeenByOne", name := "opens", desc := "()I" } : Jvm.MethodName) ({ cls := "SeenByOne", name := "opens", desc := "()I" } : Jvm.MethodName)) ∈ lw_all := lw_g (lw_at lw_m5 90 rfl) rfl
theorem q1125 : (Jvm.Cond.code ({ cls := "SeenByOne", name := "opens", desc := "()I" } : Jvm.MethodName) prog_1_method_38_code (3 : Nat) (Option.some Jvm.ClassFile.FieldType.int)) ∈ lw_all := lw_g (lw_at lw_m5 91 rfl) rfl
theorem q1126 : (Jvm.Cond.methodLink "SeenByOne" (294 : Nat) ({ cls := "SeenByOne$Ground", name := "shutters", desc := "()I" } : Jvm.MethodName)) ∈ lw_all := lw_g (lw_at lw_m5 92 rfl) rfl
theorem q1131 : (Jvm.Cond.instanceMethod ({ cls := "SeenByOne", name := "curtains", desc := "(I)I" } : Jvm.MethodName)) ∈ lw_all := lw_g (lw_at lw_m5 97 rfl) rfl
theorem q1132 : (Jvm.Cond.selects "SeenByOne" ({ cls := "SeenByOne", name := "curtains", desc := "(I)I" } : Jvm.MethodName) ({ cls := "SeenByOne", name := "curtains", desc := "(I)I" } : Jvm.MethodName)) ∈ lw_all := lw_g (lw_at lw_m5 98 rfl) rfl
theorem q1133 : (Jvm.Cond.codeWith ({ cls := "SeenByOne", name := "curtains", desc := "(I)I" } : Jvm.MethodName) prog_1_method_42_code (9 : Nat) (Option.some Jvm.ClassFile.FieldType.int) [((0 : Nat), (164 : Nat), (165 : Nat), (21 : Nat))]) ∈ lw_all := lw_g (lw_at lw_m5 99 rfl) rfl
theorem q1134 : (Jvm.Cond.methodLink "SeenByOne" (304 : Nat) ({ cls := "SeenByOne", name := "allInto", desc := "(Z)[I" } : Jvm.MethodName)) ∈ lw_all := lw_g (lw_at lw_m5 100 rfl) rfl
theorem q1135 : (Jvm.Cond.privateMethod ({ cls := "SeenByOne", name := "allInto", desc := "(Z)[I" } : Jvm.MethodName)) ∈ lw_tbl := lw_at lw_m5 101 rfl
theorem q1136 : (Jvm.Cond.instanceMethod ({ cls := "SeenByOne", name := "allInto", desc := "(Z)[I" } : Jvm.MethodName)) ∈ lw_all := lw_g (lw_at lw_m5 102 rfl) rfl
theorem q1137 : (Jvm.Cond.code ({ cls := "SeenByOne", name := "allInto", desc := "(Z)[I" } : Jvm.MethodName) prog_1_method_41_code (4 : Nat) (Option.some (Jvm.ClassFile.FieldType.array Jvm.ClassFile.FieldType.int))) ∈ lw_all := lw_g (lw_at lw_m5 103 rfl) rfl
theorem q1138 : (Jvm.Cond.methodLink "SeenByOne" (300 : Nat) ({ cls := "SeenByOne", name := "mayInto", desc := "(IZ)I" } : Jvm.MethodName)) ∈ lw_all := lw_g (lw_at lw_m5 104 rfl) rfl
theorem q1139 : (Jvm.Cond.privateMethod ({ cls := "SeenByOne", name := "mayInto", desc := "(IZ)I" } : Jvm.MethodName)) ∈ lw_tbl := lw_at lw_m5 105 rfl
theorem q1140 : (Jvm.Cond.instanceMethod ({ cls := "SeenByOne", name := "mayInto", desc := "(IZ)I" } : Jvm.MethodName)) ∈ lw_all := lw_g (lw_at lw_m5 106 rfl) rfl
theorem q1141 : (Jvm.Cond.code ({ cls := "SeenByOne", name := "mayInto", desc := "(IZ)I" } : Jvm.MethodName) prog_1_method_39_code (3 : Nat) (Option.some Jvm.ClassFile.FieldType.int)) ∈ lw_all := lw_g (lw_at lw_m5 107 rfl) rfl
theorem q1142 : (Jvm.Cond.methodLink "SeenByOne" (308 : Nat) ({ cls := "SeenByOne", name := "rightsBy", desc := "(I[I)I" } : Jvm.MethodName)) ∈ lw_all := lw_g (lw_at lw_m5 108 rfl) rfl
theorem q1143 : (Jvm.Cond.privateMethod ({ cls := "SeenByOne", name := "rightsBy", desc := "(I[I)I" } : Jvm.MethodName)) ∈ lw_tbl := lw_at lw_m5 109 rfl
theorem q1144 : (Jvm.Cond.instanceMethod ({ cls := "SeenByOne", name := "rightsBy", desc := "(I[I)I" } : Jvm.MethodName)) ∈ lw_all := lw_g (lw_at lw_m5 110 rfl) rfl
theorem q1145 : (Jvm.Cond.code ({ cls := "SeenByOne", name := "rightsBy", desc := "(I[I)I" } : Jvm.MethodName) prog_1_method_40_code (5 : Nat) (Option.some Jvm.ClassFile.FieldType.int)) ∈ lw_all := lw_g (lw_at lw_m5 111 rfl) rfl
theorem q1146 : (Jvm.Cond.methodLink "SeenByOne" (297 : Nat) ({ cls := "SeenByOne$Thing", name := "wanted", desc := "()I" } : Jvm.MethodName)) ∈ lw_all := lw_g (lw_at lw_m5 112 rfl) rfl
theorem q1148 : (Jvm.Cond.instanceMethod ({ cls := "SeenByOne", name := "newly", desc := "(I)I" } : Jvm.MethodName)) ∈ lw_all := lw_g (lw_at lw_m5 114 rfl) rfl
theorem q1149 : (Jvm.Cond.selects "SeenByOne" ({ cls := "SeenByOne", name := "newly", desc := "(I)I" } : Jvm.MethodName) ({ cls := "SeenByOne", name := "newly", desc := "(I)I" } : Jvm.MethodName)) ∈ lw_all := lw_g (lw_at lw_m5 115 rfl) rfl
theorem q1150 : (Jvm.Cond.codeWith ({ cls := "SeenByOne", name := "newly", desc := "(I)I" } : Jvm.MethodName) prog_1_method_43_code (8 : Nat) (Option.some Jvm.ClassFile.FieldType.int) [((0 : Nat), (128 : Nat), (129 : Nat), (21 : Nat))]) ∈ lw_all := lw_g (lw_at lw_m5 116 rfl) rfl
theorem q1151 : (Jvm.Cond.methodLink "SeenByOne" (312 : Nat) ({ cls := "SeenByOne$Ground", name := "rights", desc := "()I" } : Jvm.MethodName)) ∈ lw_all := lw_g (lw_at lw_m5 117 rfl) rfl
theorem q1157 : (Jvm.Cond.instanceMethod ({ cls := "SeenByOne", name := "storey", desc := "(I)I" } : Jvm.MethodName)) ∈ lw_all := lw_g (lw_at lw_m5 123 rfl) rfl
theorem q1158 : (Jvm.Cond.selects "SeenByOne" ({ cls := "SeenByOne", name := "storey", desc := "(I)I" } : Jvm.MethodName) ({ cls := "SeenByOne", name := "storey", desc := "(I)I" } : Jvm.MethodName)) ∈ lw_all := lw_g (lw_at lw_m5 124 rfl) rfl
theorem q1159 : (Jvm.Cond.codeWith ({ cls := "SeenByOne", name := "storey", desc := "(I)I" } : Jvm.MethodName) prog_1_method_45_code (3 : Nat) (Option.some Jvm.ClassFile.FieldType.int) [((0 : Nat), (20 : Nat), (21 : Nat), (21 : Nat))]) ∈ lw_all := lw_g (lw_at lw_m5 125 rfl) rfl
theorem q1160 : (Jvm.Cond.methodLink "SeenByOne" (315 : Nat) ({ cls := "SeenByOne", name := "raises", desc := "(I)V" } : Jvm.MethodName)) ∈ lw_all := lw_g (lw_at lw_m5 126 rfl) rfl
theorem q1161 : (Jvm.Cond.privateMethod ({ cls := "SeenByOne", name := "raises", desc := "(I)V" } : Jvm.MethodName)) ∈ lw_tbl := lw_at lw_m5 127 rfl
theorem q1162 : (Jvm.Cond.instanceMethod ({ cls := "SeenByOne", name := "raises", desc := "(I)V" } : Jvm.MethodName)) ∈ lw_all := lw_g (lw_at lw_m5 128 rfl) rfl
theorem q1163 : (Jvm.Cond.code ({ cls := "SeenByOne", name := "raises", desc := "(I)V" } : Jvm.MethodName) prog_1_method_44_code (2 : Nat) (Option.none : Option Jvm.ClassFile.FieldType)) ∈ lw_all := lw_g (lw_at lw_m5 129 rfl) rfl
theorem q1165 : (Jvm.Cond.instanceMethod ({ cls := "SeenByOne", name := "blinded", desc := "(I)I" } : Jvm.MethodName)) ∈ lw_all := lw_g (lw_at lw_m5 131 rfl) rfl
theorem q1166 : (Jvm.Cond.selects "SeenByOne" ({ cls := "SeenByOne", name := "blinded", desc := "(I)I" } : Jvm.MethodName) ({ cls := "SeenByOne", name := "blinded", desc := "(I)I" } : Jvm.MethodName)) ∈ lw_all := lw_g (lw_at lw_m5 132 rfl) rfl
theorem q1167 : (Jvm.Cond.codeWith ({ cls := "SeenByOne", name := "blinded", desc := "(I)I" } : Jvm.MethodName) prog_1_method_46_code (4 : Nat) (Option.some Jvm.ClassFile.FieldType.int) [((0 : Nat), (52 : Nat), (53 : Nat), (21 : Nat))]) ∈ lw_all := lw_g (lw_at lw_m5 133 rfl) rfl
theorem q1168 : (Jvm.Cond.methodLink "SeenByOne" (318 : Nat) ({ cls := "SeenByOne$Ground", name := "into", desc := "(I)I" } : Jvm.MethodName)) ∈ lw_all := lw_g (lw_at lw_m5 134 rfl) rfl
theorem q1170 : (Jvm.Cond.instanceMethod ({ cls := "SeenByOne", name := "felled", desc := "(I)I" } : Jvm.MethodName)) ∈ lw_all := lw_g (lw_at lw_m5 136 rfl) rfl
theorem q1171 : (Jvm.Cond.selects "SeenByOne" ({ cls := "SeenByOne", name := "felled", desc := "(I)I" } : Jvm.MethodName) ({ cls := "SeenByOne", name := "felled", desc := "(I)I" } : Jvm.MethodName)) ∈ lw_all := lw_g (lw_at lw_m5 137 rfl) rfl
theorem q1172 : (Jvm.Cond.codeWith ({ cls := "SeenByOne", name := "felled", desc := "(I)I" } : Jvm.MethodName) prog_1_method_47_code (3 : Nat) (Option.some Jvm.ClassFile.FieldType.int) [((0 : Nat), (100 : Nat), (101 : Nat), (21 : Nat))]) ∈ lw_all := lw_g (lw_at lw_m5 138 rfl) rfl
theorem q1174 : (Jvm.Cond.instanceMethod ({ cls := "SeenByOne", name := "pairs", desc := "()I" } : Jvm.MethodName)) ∈ lw_all := lw_g (lw_at lw_m5 140 rfl) rfl
theorem q1175 : (Jvm.Cond.selects "SeenByOne" ({ cls := "SeenByOne", name := "pairs", desc := "()I" } : Jvm.MethodName) ({ cls := "SeenByOne", name := "pairs", desc := "()I" } : Jvm.MethodName)) ∈ lw_all := lw_g (lw_at lw_m5 141 rfl) rfl
theorem q1176 : (Jvm.Cond.code ({ cls := "SeenByOne", name := "pairs", desc := "()I" } : Jvm.MethodName) prog_1_method_48_code (5 : Nat) (Option.some Jvm.ClassFile.FieldType.int)) ∈ lw_all := lw_g (lw_at lw_m5 142 rfl) rfl
theorem q1178 : (Jvm.Cond.instanceMethod ({ cls := "SeenByOne", name := "back", desc := "(I)I" } : Jvm.MethodName)) ∈ lw_all := lw_g (lw_at lw_m5 144 rfl) rfl
theorem q1179 : (Jvm.Cond.selects "SeenByOne" ({ cls := "SeenByOne", name := "back", desc := "(I)I" } : Jvm.MethodName) ({ cls := "SeenByOne", name := "back", desc := "(I)I" } : Jvm.MethodName)) ∈ lw_all := lw_g (lw_at lw_m5 145 rfl) rfl
theorem q1180 : (Jvm.Cond.codeWith ({ cls := "SeenByOne", name := "back", desc := "(I)I" } : Jvm.MethodName) prog_1_method_49_code (5 : Nat) (Option.some Jvm.ClassFile.FieldType.int) [((0 : Nat), (31 : Nat), (53 : Nat), (21 : Nat)), ((32 : Nat), (44 : Nat), (53 : Nat), (21 : Nat)), ((45 : Nat), (52 : Nat), (53 : Nat), (21 : Nat))]) ∈ lw_all := lw_g (lw_at lw_m5 146 rfl) rfl
theorem q1182 : (Jvm.Cond.instanceMethod ({ cls := "SeenByOne", name := "most", desc := "()I" } : Jvm.MethodName)) ∈ lw_all := lw_g (lw_at lw_m5 148 rfl) rfl
theorem q1183 : (Jvm.Cond.selects "SeenByOne" ({ cls := "SeenByOne", name := "most", desc := "()I" } : Jvm.MethodName) ({ cls := "SeenByOne", name := "most", desc := "()I" } : Jvm.MethodName)) ∈ lw_all := lw_g (lw_at lw_m5 149 rfl) rfl
theorem q1184 : (Jvm.Cond.codeWith ({ cls := "SeenByOne", name := "most", desc := "()I" } : Jvm.MethodName) prog_1_method_50_code (6 : Nat) (Option.some Jvm.ClassFile.FieldType.int) [((0 : Nat), (103 : Nat), (104 : Nat), (21 : Nat))]) ∈ lw_all := lw_g (lw_at lw_m5 150 rfl) rfl
theorem q1186 : (Jvm.Cond.instanceMethod ({ cls := "SeenByOne", name := "list", desc := "(II)I" } : Jvm.MethodName)) ∈ lw_all := lw_g (lw_at lw_m5 152 rfl) rfl
theorem q1187 : (Jvm.Cond.selects "SeenByOne" ({ cls := "SeenByOne", name := "list", desc := "(II)I" } : Jvm.MethodName) ({ cls := "SeenByOne", name := "list", desc := "(II)I" } : Jvm.MethodName)) ∈ lw_all := lw_g (lw_at lw_m5 153 rfl) rfl
theorem q1188 : (Jvm.Cond.codeWith ({ cls := "SeenByOne", name := "list", desc := "(II)I" } : Jvm.MethodName) prog_1_method_53_code (8 : Nat) (Option.some Jvm.ClassFile.FieldType.int) [((0 : Nat), (79 : Nat), (179 : Nat), (21 : Nat)), ((80 : Nat), (178 : Nat), (179 : Nat), (21 : Nat))]) ∈ lw_all := lw_g (lw_at lw_m5 154 rfl) rfl
theorem q1189 : (Jvm.Cond.methodLink "SeenByOne" (11 : Nat) ({ cls := "SeenByOne$Row", name := "length", desc := "()I" } : Jvm.MethodName)) ∈ lw_all := lw_g (lw_at lw_m5 155 rfl) rfl
theorem q1190 : (Jvm.Cond.methodLink "SeenByOne" (328 : Nat) ({ cls := "SeenByOne", name := "fitsIn", desc := "(LSeenByOne$Row;Z)Z" } : Jvm.MethodName)) ∈ lw_all := lw_g (lw_at lw_m5 156 rfl) rfl
theorem q1191 : (Jvm.Cond.privateMethod ({ cls := "SeenByOne", name := "fitsIn", desc := "(LSeenByOne$Row;Z)Z" } : Jvm.MethodName)) ∈ lw_tbl := lw_at lw_m5 157 rfl
theorem q1192 : (Jvm.Cond.instanceMethod ({ cls := "SeenByOne", name := "fitsIn", desc := "(LSeenByOne$Row;Z)Z" } : Jvm.MethodName)) ∈ lw_all := lw_g (lw_at lw_m5 158 rfl) rfl
theorem q1193 : (Jvm.Cond.code ({ cls := "SeenByOne", name := "fitsIn", desc := "(LSeenByOne$Row;Z)Z" } : Jvm.MethodName) prog_1_method_52_code (3 : Nat) (Option.some Jvm.ClassFile.FieldType.boolean)) ∈ lw_all := lw_g (lw_at lw_m5 159 rfl) rfl
theorem q1194 : (Jvm.Cond.methodLink "SeenByOne" (324 : Nat) ({ cls := "SeenByOne", name := "isAsTold", desc := "(LSeenByOne$Row;LSeenByOne$Ground;)Z" } : Jvm.MethodName)) ∈ lw_all := lw_g (lw_at lw_m5 160 rfl) rfl
theorem q1195 : (Jvm.Cond.static ({ cls := "SeenByOne", name := "isAsTold", desc := "(LSeenByOne$Row;LSeenByOne$Ground;)Z" } : Jvm.MethodName)) ∈ lw_all := lw_g (lw_at lw_m5 161 rfl) rfl
theorem q1196 : (Jvm.Cond.code ({ cls := "SeenByOne", name := "isAsTold", desc := "(LSeenByOne$Row;LSeenByOne$Ground;)Z" } : Jvm.MethodName) prog_1_method_51_code (3 : Nat) (Option.some Jvm.ClassFile.FieldType.boolean)) ∈ lw_all := lw_g (lw_at lw_m5 162 rfl) rfl
theorem q1197 : (Jvm.Cond.methodLink "SeenByOne" (321 : Nat) ({ cls := "SeenByOne$Row", name := "asInt", desc := "(I)I" } : Jvm.MethodName)) ∈ lw_all := lw_g (lw_at lw_m5 163 rfl) rfl
theorem q1199 : (Jvm.Cond.instanceMethod ({ cls := "SeenByOne", name := "night", desc := "(I)I" } : Jvm.MethodName)) ∈ lw_all := lw_g (lw_at lw_m5 165 rfl) rfl
theorem q1200 : (Jvm.Cond.selects "SeenByOne" ({ cls := "SeenByOne", name := "night", desc := "(I)I" } : Jvm.MethodName) ({ cls := "SeenByOne", name := "night", desc := "(I)I" } : Jvm.MethodName)) ∈ lw_all := lw_g (lw_at lw_m5 166 rfl) rfl
theorem q1201 : (Jvm.Cond.codeWith ({ cls := "SeenByOne", name := "night", desc := "(I)I" } : Jvm.MethodName) prog_1_method_54_code (4 : Nat) (Option.some Jvm.ClassFile.FieldType.int) [((0 : Nat), (100 : Nat), (101 : Nat), (21 : Nat))]) ∈ lw_all := lw_g (lw_at lw_m5 167 rfl) rfl
theorem q1203 : (Jvm.Cond.instanceMethod ({ cls := "SeenByOne", name := "years", desc := "(I)I" } : Jvm.MethodName)) ∈ lw_all := lw_g (lw_at lw_m5 169 rfl) rfl
theorem q1204 : (Jvm.Cond.selects "SeenByOne" ({ cls := "SeenByOne", name := "years", desc := "(I)I" } : Jvm.MethodName) ({ cls := "SeenByOne", name := "years", desc := "(I)I" } : Jvm.MethodName)) ∈ lw_all := lw_g (lw_at lw_m5 170 rfl) rfl
theorem q1205 : (Jvm.Cond.codeWith ({ cls := "SeenByOne", name := "years", desc := "(I)I" } : Jvm.MethodName) prog_1_method_55_code (4 : Nat) (Option.some Jvm.ClassFile.FieldType.int) [((0 : Nat), (40 : Nat), (41 : Nat), (21 : Nat))]) ∈ lw_all := lw_g (lw_at lw_m5 171 rfl) rfl
theorem q1206 : (Jvm.Cond.constantLong "SeenByOne" (332 : Nat) (30 : Int64)) ∈ lw_all := lw_g (lw_at lw_m5 172 rfl) rfl
theorem q1207 : (Jvm.Cond.methodLink "SeenByOne" (334 : Nat) ({ cls := "SeenByOne$Ground", name := "year", desc := "()I" } : Jvm.MethodName)) ∈ lw_all := lw_g (lw_at lw_m5 173 rfl) rfl
theorem q1235 : (Jvm.Cond.instanceMethod ({ cls := "SeenByOne", name := "seed", desc := "(I)I" } : Jvm.MethodName)) ∈ lw_all := lw_g (lw_at lw_m5 201 rfl) rfl
theorem q1236 : (Jvm.Cond.selects "SeenByOne" ({ cls := "SeenByOne", name := "seed", desc := "(I)I" } : Jvm.MethodName) ({ cls := "SeenByOne", name := "seed", desc := "(I)I" } : Jvm.MethodName)) ∈ lw_all := lw_g (lw_at lw_m5 202 rfl) rfl
theorem q1237 : (Jvm.Cond.code ({ cls := "SeenByOne", name := "seed", desc := "(I)I" } : Jvm.MethodName) prog_1_method_56_code (3 : Nat) (Option.some Jvm.ClassFile.FieldType.int)) ∈ lw_all := lw_g (lw_at lw_m5 203 rfl) rfl
theorem q1239 : (Jvm.Cond.instanceMethod ({ cls := "SeenByOne", name := "act", desc := "(III)I" } : Jvm.MethodName)) ∈ lw_all := lw_g (lw_at lw_m5 205 rfl) rfl
theorem q1240 : (Jvm.Cond.selects "SeenByOne" ({ cls := "SeenByOne", name := "act", desc := "(III)I" } : Jvm.MethodName) ({ cls := "SeenByOne", name := "act", desc := "(III)I" } : Jvm.MethodName)) ∈ lw_all := lw_g (lw_at lw_m5 206 rfl) rfl
theorem q1241 : (Jvm.Cond.code ({ cls := "SeenByOne", name := "act", desc := "(III)I" } : Jvm.MethodName) prog_1_method_57_code (5 : Nat) (Option.some Jvm.ClassFile.FieldType.int)) ∈ lw_all := lw_g (lw_at lw_m5 207 rfl) rfl
theorem q1242 : (Jvm.Cond.methodLink "SeenByOne" (341 : Nat) ({ cls := "SeenByOne$Thing", name := "standing", desc := "(ILSeenByOne$Trace;)I" } : Jvm.MethodName)) ∈ lw_all := lw_g (lw_at lw_m5 208 rfl) rfl
theorem q1271 : (Jvm.Cond.methodLink "SeenByOne" (345 : Nat) ({ cls := "SeenByOne$Thing", name := "looking", desc := "(ILSeenByOne$Trace;)I" } : Jvm.MethodName)) ∈ lw_all := lw_g (lw_at lw_m5 237 rfl) rfl
theorem q1296 : (Jvm.Cond.methodLink "SeenByOne" (348 : Nat) ({ cls := "SeenByOne$Thing", name := "hiding", desc := "(ILSeenByOne$Trace;)I" } : Jvm.MethodName)) ∈ lw_all := lw_g (lw_at lw_m6 22 rfl) rfl
theorem q1318 : (Jvm.Cond.instanceMethod ({ cls := "SeenByOne", name := "trace", desc := "(I)I" } : Jvm.MethodName)) ∈ lw_all := lw_g (lw_at lw_m6 44 rfl) rfl
theorem q1319 : (Jvm.Cond.selects "SeenByOne" ({ cls := "SeenByOne", name := "trace", desc := "(I)I" } : Jvm.MethodName) ({ cls := "SeenByOne", name := "trace", desc := "(I)I" } : Jvm.MethodName)) ∈ lw_all := lw_g (lw_at lw_m6 45 rfl) rfl
theorem q1320 : (Jvm.Cond.code ({ cls := "SeenByOne", name := "trace", desc := "(I)I" } : Jvm.MethodName) prog_1_method_58_code (2 : Nat) (Option.some Jvm.ClassFile.FieldType.int)) ∈ lw_all := lw_g (lw_at lw_m6 46 rfl) rfl
theorem q1321 : (Jvm.Cond.methodLink "SeenByOne" (351 : Nat) ({ cls := "java/lang/Math", name := "min", desc := "(II)I" } : Jvm.MethodName)) ∈ lw_all := lw_g (lw_at lw_m6 47 rfl) rfl
theorem q1323 : (Jvm.Cond.instanceMethod ({ cls := "SeenByOne", name := "image", desc := "()I" } : Jvm.MethodName)) ∈ lw_all := lw_g (lw_at lw_m6 49 rfl) rfl
theorem q1324 : (Jvm.Cond.selects "SeenByOne" ({ cls := "SeenByOne", name := "image", desc := "()I" } : Jvm.MethodName) ({ cls := "SeenByOne", name := "image", desc := "()I" } : Jvm.MethodName)) ∈ lw_all := lw_g (lw_at lw_m6 50 rfl) rfl
theorem q1325 : (Jvm.Cond.code ({ cls := "SeenByOne", name := "image", desc := "()I" } : Jvm.MethodName) prog_1_method_59_code (1 : Nat) (Option.some Jvm.ClassFile.FieldType.int)) ∈ lw_all := lw_g (lw_at lw_m6 51 rfl) rfl
theorem q1327 : (Jvm.Cond.instanceMethod ({ cls := "SeenByOne", name := "restore", desc := "()I" } : Jvm.MethodName)) ∈ lw_all := lw_g (lw_at lw_m6 53 rfl) rfl
theorem q1328 : (Jvm.Cond.selects "SeenByOne" ({ cls := "SeenByOne", name := "restore", desc := "()I" } : Jvm.MethodName) ({ cls := "SeenByOne", name := "restore", desc := "()I" } : Jvm.MethodName)) ∈ lw_all := lw_g (lw_at lw_m6 54 rfl) rfl
theorem q1329 : (Jvm.Cond.codeWith ({ cls := "SeenByOne", name := "restore", desc := "()I" } : Jvm.MethodName) prog_1_method_60_code (2 : Nat) (Option.some Jvm.ClassFile.FieldType.int) [((0 : Nat), (46 : Nat), (47 : Nat), (21 : Nat))]) ∈ lw_all := lw_g (lw_at lw_m6 55 rfl) rfl
theorem q1330 : (Jvm.Cond.methodLink "SeenByOne" (362 : Nat) ({ cls := "SeenByOne", name := "shelvesFollow", desc := "()V" } : Jvm.MethodName)) ∈ lw_all := lw_g (lw_at lw_m6 56 rfl) rfl
theorem q1331 : (Jvm.Cond.privateMethod ({ cls := "SeenByOne", name := "shelvesFollow", desc := "()V" } : Jvm.MethodName)) ∈ lw_tbl := lw_at lw_m6 57 rfl
theorem q1332 : (Jvm.Cond.instanceMethod ({ cls := "SeenByOne", name := "shelvesFollow", desc := "()V" } : Jvm.MethodName)) ∈ lw_all := lw_g (lw_at lw_m6 58 rfl) rfl
theorem q1333 : (Jvm.Cond.code ({ cls := "SeenByOne", name := "shelvesFollow", desc := "()V" } : Jvm.MethodName) prog_1_method_12_code (6 : Nat) (Option.none : Option Jvm.ClassFile.FieldType)) ∈ lw_all := lw_g (lw_at lw_m6 59 rfl) rfl
theorem q1335 : (Jvm.Cond.instanceMethod ({ cls := "SeenByOne", name := "status", desc := "(I)I" } : Jvm.MethodName)) ∈ lw_all := lw_g (lw_at lw_m6 61 rfl) rfl
theorem q1336 : (Jvm.Cond.selects "SeenByOne" ({ cls := "SeenByOne", name := "status", desc := "(I)I" } : Jvm.MethodName) ({ cls := "SeenByOne", name := "status", desc := "(I)I" } : Jvm.MethodName)) ∈ lw_all := lw_g (lw_at lw_m6 62 rfl) rfl
theorem q1337 : (Jvm.Cond.code ({ cls := "SeenByOne", name := "status", desc := "(I)I" } : Jvm.MethodName) prog_1_method_61_code (2 : Nat) (Option.some Jvm.ClassFile.FieldType.int)) ∈ lw_all := lw_g (lw_at lw_m6 63 rfl) rfl
theorem q1338 : (Jvm.Cond.constantLong "SeenByOne" (368 : Nat) (11 : Int64)) ∈ lw_all := lw_g (lw_at lw_m6 64 rfl) rfl
theorem q1339 : (Jvm.Cond.constantLong "SeenByOne" (370 : Nat) (17 : Int64)) ∈ lw_all := lw_g (lw_at lw_m6 65 rfl) rfl
theorem in_X0 : ∀ w ∈ wsX00, w ∈ lw_all := lw_in wsX00 [203, 205, 207, 209, 211, 213, 215] (by decide +kernel) (by decide +kernel)
