/-! SeenByOne$Trace -/
set_option maxRecDepth 100000
def RX1 : String := "SeenByOne$Trace"
def TX1 : u_T := fun k => match k with
  | 0 => ("SeenByOne$Trace", "bodies", "[I", true)
  | _ => ("SeenByOne$Trace", "many", "I", false)
def tyX1 : Nat → FieldType := fun k => match k with
  | 0 => .array .int
  | _ => .int
abbrev wsX10 : List Cond := u_ws RX1 TX1 2
theorem nmX1 : ∀ a, a < 2 → ∀ b, b < 2 → a ≠ b → (TX1 a).2.1 ≠ (TX1 b).2.1 := by decide +kernel
theorem tyX1_ok : ∀ k, k < 2 → parseFieldDescriptor (TX1 k).2.2.1 = some (tyX1 k) := by decide +kernel
abbrev cX1_init : ByteArray := prog_18_method_1_code
def yX1_init : MethodName := ⟨RX1, "<init>", "()V"⟩
def dkwX1_init_0 : List UInt8 := [42, 183, 0, 3, 42, 16, 20, 188, 10, 181, 0, 9, 177]
abbrev dktX1_init_0 : List UInt8 := dkwX1_init_0 ++ []
theorem dksX1_init_0 : cX1_init.data.toList.drop 0 = dktX1_init_0 := by decide +kernel
theorem dX1_init_0 : decode cX1_init 0 = .ok (.aload_n 0, 1) := dk_42 (dk_at dksX1_init_0 0 rfl rfl)
theorem dX1_init_1 : decode cX1_init 1 = .ok (.invokespecial 3, 3) := dk_183 0 3 (dk_at dksX1_init_0 1 rfl rfl)
theorem dX1_init_4 : decode cX1_init 4 = .ok (.aload_n 0, 1) := dk_42 (dk_at dksX1_init_0 4 rfl rfl)
theorem dX1_init_5 : decode cX1_init 5 = .ok (.bipush 20, 2) := dk_16 20 (dk_at dksX1_init_0 5 rfl rfl)
theorem dX1_init_7 : decode cX1_init 7 = .ok (.newarray .int, 2) := dk_188_10 (dk_at dksX1_init_0 7 rfl rfl)
theorem dX1_init_9 : decode cX1_init 9 = .ok (.putfield 9, 3) := dk_181 0 9 (dk_at dksX1_init_0 9 rfl rfl)
theorem dX1_init_12 : decode cX1_init 12 = .ok (.return_, 1) := dk_177 (dk_at dksX1_init_0 12 rfl rfl)
abbrev cX1_runs : ByteArray := prog_18_method_2_code
def yX1_runs : MethodName := ⟨RX1, "runs", "(I)V"⟩
def dkwX1_runs_1 : List UInt8 := [4, 96, 181, 0, 15, 177]
abbrev dktX1_runs_1 : List UInt8 := dkwX1_runs_1 ++ []
def dkwX1_runs_0 : List UInt8 := [42, 180, 0, 15, 16, 20, 162, 0, 13, 42, 180, 0, 9, 42, 180, 0, 15, 27, 79, 42, 89, 180, 0, 15]
abbrev dktX1_runs_0 : List UInt8 := dkwX1_runs_0 ++ dktX1_runs_1
theorem dksX1_runs_0 : cX1_runs.data.toList.drop 0 = dktX1_runs_0 := by decide +kernel
theorem dksX1_runs_1 : cX1_runs.data.toList.drop 24 = dktX1_runs_1 := dk_seg dksX1_runs_0 24 rfl rfl
theorem dX1_runs_0 : decode cX1_runs 0 = .ok (.aload_n 0, 1) := dk_42 (dk_at dksX1_runs_0 0 rfl rfl)
theorem dX1_runs_1 : decode cX1_runs 1 = .ok (.getfield 15, 3) := dk_180 0 15 (dk_at dksX1_runs_0 1 rfl rfl)
theorem dX1_runs_4 : decode cX1_runs 4 = .ok (.bipush 20, 2) := dk_16 20 (dk_at dksX1_runs_0 4 rfl rfl)
theorem dX1_runs_6 : decode cX1_runs 6 = .ok (.if_icmp .ge 13, 3) := dk_162 0 13 (dk_at dksX1_runs_0 6 rfl rfl)
theorem dX1_runs_9 : decode cX1_runs 9 = .ok (.aload_n 0, 1) := dk_42 (dk_at dksX1_runs_0 9 rfl rfl)
theorem dX1_runs_10 : decode cX1_runs 10 = .ok (.getfield 9, 3) := dk_180 0 9 (dk_at dksX1_runs_0 10 rfl rfl)
theorem dX1_runs_13 : decode cX1_runs 13 = .ok (.aload_n 0, 1) := dk_42 (dk_at dksX1_runs_0 13 rfl rfl)
theorem dX1_runs_14 : decode cX1_runs 14 = .ok (.getfield 15, 3) := dk_180 0 15 (dk_at dksX1_runs_0 14 rfl rfl)
theorem dX1_runs_17 : decode cX1_runs 17 = .ok (.iload_n 1, 1) := dk_27 (dk_at dksX1_runs_0 17 rfl rfl)
theorem dX1_runs_18 : decode cX1_runs 18 = .ok (.iastore, 1) := dk_79 (dk_at dksX1_runs_0 18 rfl rfl)
theorem dX1_runs_19 : decode cX1_runs 19 = .ok (.aload_n 0, 1) := dk_42 (dk_at dksX1_runs_0 19 rfl rfl)
theorem dX1_runs_20 : decode cX1_runs 20 = .ok (.dup, 1) := dk_89 (dk_at dksX1_runs_0 20 rfl rfl)
theorem dX1_runs_21 : decode cX1_runs 21 = .ok (.getfield 15, 3) := dk_180 0 15 (dk_at dksX1_runs_0 21 rfl rfl)
theorem dX1_runs_24 : decode cX1_runs 24 = .ok (.iconst 1, 1) := dk_4 (dk_at dksX1_runs_1 0 rfl rfl)
theorem dX1_runs_25 : decode cX1_runs 25 = .ok (.iadd, 1) := dk_96 (dk_at dksX1_runs_1 1 rfl rfl)
theorem dX1_runs_26 : decode cX1_runs 26 = .ok (.putfield 15, 3) := dk_181 0 15 (dk_at dksX1_runs_1 2 rfl rfl)
theorem dX1_runs_29 : decode cX1_runs 29 = .ok (.return_, 1) := dk_177 (dk_at dksX1_runs_1 5 rfl rfl)
theorem q76 : (Jvm.Cond.initialized "SeenByOne$Trace") ∈ lw_all := lw_g (lw_at lw_m1 2 rfl) rfl
theorem q120 : (Jvm.Cond.instantiable "SeenByOne$Trace" (2 : Nat)) ∈ lw_all := lw_g (lw_at lw_m1 46 rfl) rfl
theorem q122 : (Jvm.Cond.instanceMethod ({ cls := "SeenByOne$Trace", name := "<init>", desc := "()V" } : Jvm.MethodName)) ∈ lw_all := lw_g (lw_at lw_m1 48 rfl) rfl
theorem q123 : (Jvm.Cond.code ({ cls := "SeenByOne$Trace", name := "<init>", desc := "()V" } : Jvm.MethodName) prog_18_method_1_code (1 : Nat) (Option.none : Option Jvm.ClassFile.FieldType)) ∈ lw_all := lw_g (lw_at lw_m1 49 rfl) rfl
theorem q124 : (Jvm.Cond.methodLink "SeenByOne$Trace" (3 : Nat) ({ cls := "java/lang/Object", name := "<init>", desc := "()V" } : Jvm.MethodName)) ∈ lw_all := lw_g (lw_at lw_m1 50 rfl) rfl
theorem q125 : (Jvm.Cond.fieldLink "SeenByOne$Trace" (9 : Nat) "SeenByOne$Trace" "bodies" "[I") ∈ lw_all := lw_g (lw_at lw_m1 51 rfl) rfl
theorem q127 : (Jvm.Cond.fieldLink "SeenByOne$Trace" (15 : Nat) "SeenByOne$Trace" "many" "I") ∈ lw_all := lw_g (lw_at lw_m1 53 rfl) rfl
theorem q129 : (Jvm.Cond.laysFinal "SeenByOne$Trace" "SeenByOne$Trace" "bodies" "[I") ∈ lw_all := lw_g (lw_at lw_m1 55 rfl) rfl
theorem q130 : (Jvm.Cond.soleField "SeenByOne$Trace" "bodies") ∈ lw_all := lw_g (lw_at lw_m1 56 rfl) rfl
theorem q131 : (Jvm.Cond.lays "SeenByOne$Trace" "SeenByOne$Trace" "many" "I") ∈ lw_all := lw_g (lw_at lw_m1 57 rfl) rfl
theorem q132 : (Jvm.Cond.soleField "SeenByOne$Trace" "many") ∈ lw_all := lw_g (lw_at lw_m1 58 rfl) rfl
theorem q133 : (Jvm.Cond.superclass "SeenByOne$Trace" "java/lang/Object") ∈ lw_all := lw_g (lw_at lw_m1 59 rfl) rfl
theorem q1250 : (Jvm.Cond.instanceMethod ({ cls := "SeenByOne$Trace", name := "runs", desc := "(I)V" } : Jvm.MethodName)) ∈ lw_all := lw_g (lw_at lw_m5 216 rfl) rfl
theorem q1251 : (Jvm.Cond.selects "SeenByOne$Trace" ({ cls := "SeenByOne$Trace", name := "runs", desc := "(I)V" } : Jvm.MethodName) ({ cls := "SeenByOne$Trace", name := "runs", desc := "(I)V" } : Jvm.MethodName)) ∈ lw_all := lw_g (lw_at lw_m5 217 rfl) rfl
theorem q1252 : (Jvm.Cond.code ({ cls := "SeenByOne$Trace", name := "runs", desc := "(I)V" } : Jvm.MethodName) prog_18_method_2_code (2 : Nat) (Option.none : Option Jvm.ClassFile.FieldType)) ∈ lw_all := lw_g (lw_at lw_m5 218 rfl) rfl
theorem in_X1 : ∀ w ∈ wsX10, w ∈ lw_all := lw_in wsX10 [129, 131] (by decide +kernel) (by decide +kernel)

/-! SeenByOne$Longs -/
set_option maxRecDepth 100000
def RX10 : String := "SeenByOne$Longs"
def TX10 : u_T := fun k => match k with
  | _ => ("SeenByOne$Longs", "e", "[J", true)
def tyX10 : Nat → FieldType := fun k => match k with
  | _ => .array .long
abbrev wsX100 : List Cond := u_ws RX10 TX10 1
theorem nmX10 : ∀ a, a < 1 → ∀ b, b < 1 → a ≠ b → (TX10 a).2.1 ≠ (TX10 b).2.1 := by decide +kernel
theorem tyX10_ok : ∀ k, k < 1 → parseFieldDescriptor (TX10 k).2.2.1 = some (tyX10 k) := by decide +kernel
abbrev cX10_init : ByteArray := prog_9_method_1_code
def yX10_init : MethodName := ⟨RX10, "<init>", "(I)V"⟩
def dkwX10_init_0 : List UInt8 := [42, 183, 0, 1, 42, 27, 188, 11, 181, 0, 7, 177]
abbrev dktX10_init_0 : List UInt8 := dkwX10_init_0 ++ []
theorem dksX10_init_0 : cX10_init.data.toList.drop 0 = dktX10_init_0 := by decide +kernel
theorem dX10_init_0 : decode cX10_init 0 = .ok (.aload_n 0, 1) := dk_42 (dk_at dksX10_init_0 0 rfl rfl)
theorem dX10_init_1 : decode cX10_init 1 = .ok (.invokespecial 1, 3) := dk_183 0 1 (dk_at dksX10_init_0 1 rfl rfl)
theorem dX10_init_4 : decode cX10_init 4 = .ok (.aload_n 0, 1) := dk_42 (dk_at dksX10_init_0 4 rfl rfl)
theorem dX10_init_5 : decode cX10_init 5 = .ok (.iload_n 1, 1) := dk_27 (dk_at dksX10_init_0 5 rfl rfl)
theorem dX10_init_6 : decode cX10_init 6 = .ok (.newarray .long, 2) := dk_188_11 (dk_at dksX10_init_0 6 rfl rfl)
theorem dX10_init_8 : decode cX10_init 8 = .ok (.putfield 7, 3) := dk_181 0 7 (dk_at dksX10_init_0 8 rfl rfl)
theorem dX10_init_11 : decode cX10_init 11 = .ok (.return_, 1) := dk_177 (dk_at dksX10_init_0 11 rfl rfl)
abbrev cX10_put : ByteArray := prog_9_method_4_code
def yX10_put : MethodName := ⟨RX10, "put", "(IJ)V"⟩
def dkwX10_put_0 : List UInt8 := [42, 180, 0, 7, 27, 32, 80, 177]
abbrev dktX10_put_0 : List UInt8 := dkwX10_put_0 ++ []
theorem dksX10_put_0 : cX10_put.data.toList.drop 0 = dktX10_put_0 := by decide +kernel
theorem dX10_put_0 : decode cX10_put 0 = .ok (.aload_n 0, 1) := dk_42 (dk_at dksX10_put_0 0 rfl rfl)
theorem dX10_put_1 : decode cX10_put 1 = .ok (.getfield 7, 3) := dk_180 0 7 (dk_at dksX10_put_0 1 rfl rfl)
theorem dX10_put_4 : decode cX10_put 4 = .ok (.iload_n 1, 1) := dk_27 (dk_at dksX10_put_0 4 rfl rfl)
theorem dX10_put_5 : decode cX10_put 5 = .ok (.lload_n 2, 1) := dk_32 (dk_at dksX10_put_0 5 rfl rfl)
theorem dX10_put_6 : decode cX10_put 6 = .ok (.lastore, 1) := dk_80 (dk_at dksX10_put_0 6 rfl rfl)
theorem dX10_put_7 : decode cX10_put 7 = .ok (.return_, 1) := dk_177 (dk_at dksX10_put_0 7 rfl rfl)
abbrev cX10_sort : ByteArray := prog_9_method_2_code
def yX10_sort : MethodName := ⟨RX10, "sort", "()I"⟩
theorem dX10_sort_0 : decode cX10_sort 0 = .ok (.iconst 3, 1) := by decide +kernel
theorem dX10_sort_1 : decode cX10_sort 1 = .ok (.ireturn, 1) := by decide +kernel
abbrev cX10_held : ByteArray := prog_9_method_8_code
def yX10_held : MethodName := ⟨RX10, "held", "()Ljava/lang/Object;"⟩
theorem dX10_held_0 : decode cX10_held 0 = .ok (.aload_n 0, 1) := by decide +kernel
theorem dX10_held_1 : decode cX10_held 1 = .ok (.getfield 7, 3) := by decide +kernel
theorem dX10_held_4 : decode cX10_held 4 = .ok (.areturn, 1) := by decide +kernel
abbrev cX10_get : ByteArray := prog_9_method_5_code
def yX10_get : MethodName := ⟨RX10, "get", "(I)J"⟩
def dkwX10_get_0 : List UInt8 := [42, 180, 0, 7, 27, 47, 173]
abbrev dktX10_get_0 : List UInt8 := dkwX10_get_0 ++ []
theorem dksX10_get_0 : cX10_get.data.toList.drop 0 = dktX10_get_0 := by decide +kernel
theorem dX10_get_0 : decode cX10_get 0 = .ok (.aload_n 0, 1) := dk_42 (dk_at dksX10_get_0 0 rfl rfl)
theorem dX10_get_1 : decode cX10_get 1 = .ok (.getfield 7, 3) := dk_180 0 7 (dk_at dksX10_get_0 1 rfl rfl)
theorem dX10_get_4 : decode cX10_get 4 = .ok (.iload_n 1, 1) := dk_27 (dk_at dksX10_get_0 4 rfl rfl)
theorem dX10_get_5 : decode cX10_get 5 = .ok (.laload, 1) := dk_47 (dk_at dksX10_get_0 5 rfl rfl)
theorem dX10_get_6 : decode cX10_get 6 = .ok (.lreturn, 1) := dk_173 (dk_at dksX10_get_0 6 rfl rfl)
abbrev cX10_length : ByteArray := prog_9_method_3_code
def yX10_length : MethodName := ⟨RX10, "length", "()I"⟩
def dkwX10_length_0 : List UInt8 := [42, 180, 0, 7, 190, 172]
abbrev dktX10_length_0 : List UInt8 := dkwX10_length_0 ++ []
theorem dksX10_length_0 : cX10_length.data.toList.drop 0 = dktX10_length_0 := by decide +kernel
theorem dX10_length_0 : decode cX10_length 0 = .ok (.aload_n 0, 1) := dk_42 (dk_at dksX10_length_0 0 rfl rfl)
theorem dX10_length_1 : decode cX10_length 1 = .ok (.getfield 7, 3) := dk_180 0 7 (dk_at dksX10_length_0 1 rfl rfl)
theorem dX10_length_4 : decode cX10_length 4 = .ok (.arraylength, 1) := dk_190 (dk_at dksX10_length_0 4 rfl rfl)
theorem dX10_length_5 : decode cX10_length 5 = .ok (.ireturn, 1) := dk_172 (dk_at dksX10_length_0 5 rfl rfl)
theorem q92 : (Jvm.Cond.initialized "SeenByOne$Longs") ∈ lw_all := lw_g (lw_at lw_m1 18 rfl) rfl
theorem q387 : (Jvm.Cond.instantiable "SeenByOne$Longs" (1 : Nat)) ∈ lw_all := lw_g (lw_at lw_m2 73 rfl) rfl
theorem q389 : (Jvm.Cond.instanceMethod ({ cls := "SeenByOne$Longs", name := "<init>", desc := "(I)V" } : Jvm.MethodName)) ∈ lw_all := lw_g (lw_at lw_m2 75 rfl) rfl
theorem q390 : (Jvm.Cond.code ({ cls := "SeenByOne$Longs", name := "<init>", desc := "(I)V" } : Jvm.MethodName) prog_9_method_1_code (2 : Nat) (Option.none : Option Jvm.ClassFile.FieldType)) ∈ lw_all := lw_g (lw_at lw_m2 76 rfl) rfl
theorem q391 : (Jvm.Cond.methodLink "SeenByOne$Longs" (1 : Nat) ({ cls := "SeenByOne$Row", name := "<init>", desc := "()V" } : Jvm.MethodName)) ∈ lw_all := lw_g (lw_at lw_m2 77 rfl) rfl
theorem q392 : (Jvm.Cond.fieldLink "SeenByOne$Longs" (7 : Nat) "SeenByOne$Longs" "e" "[J") ∈ lw_all := lw_g (lw_at lw_m2 78 rfl) rfl
theorem q393 : (Jvm.Cond.laysFinal "SeenByOne$Longs" "SeenByOne$Longs" "e" "[J") ∈ lw_all := lw_g (lw_at lw_m2 79 rfl) rfl
theorem q394 : (Jvm.Cond.soleField "SeenByOne$Longs" "e") ∈ lw_all := lw_g (lw_at lw_m2 80 rfl) rfl
theorem q395 : (Jvm.Cond.superclass "SeenByOne$Longs" "SeenByOne$Row") ∈ lw_all := lw_g (lw_at lw_m2 81 rfl) rfl
theorem q436 : (Jvm.Cond.selects "SeenByOne$Longs" ({ cls := "SeenByOne$Row", name := "put", desc := "(IJ)V" } : Jvm.MethodName) ({ cls := "SeenByOne$Longs", name := "put", desc := "(IJ)V" } : Jvm.MethodName)) ∈ lw_all := lw_g (lw_at lw_m2 122 rfl) rfl
theorem q437 : (Jvm.Cond.instanceMethod ({ cls := "SeenByOne$Longs", name := "put", desc := "(IJ)V" } : Jvm.MethodName)) ∈ lw_all := lw_g (lw_at lw_m2 123 rfl) rfl
theorem q438 : (Jvm.Cond.code ({ cls := "SeenByOne$Longs", name := "put", desc := "(IJ)V" } : Jvm.MethodName) prog_9_method_4_code (4 : Nat) (Option.none : Option Jvm.ClassFile.FieldType)) ∈ lw_all := lw_g (lw_at lw_m2 124 rfl) rfl
theorem q461 : (Jvm.Cond.selects "SeenByOne$Longs" ({ cls := "SeenByOne$Row", name := "sort", desc := "()I" } : Jvm.MethodName) ({ cls := "SeenByOne$Longs", name := "sort", desc := "()I" } : Jvm.MethodName)) ∈ lw_all := lw_g (lw_at lw_m2 147 rfl) rfl
theorem q462 : (Jvm.Cond.instanceMethod ({ cls := "SeenByOne$Longs", name := "sort", desc := "()I" } : Jvm.MethodName)) ∈ lw_all := lw_g (lw_at lw_m2 148 rfl) rfl
theorem q463 : (Jvm.Cond.code ({ cls := "SeenByOne$Longs", name := "sort", desc := "()I" } : Jvm.MethodName) prog_9_method_2_code (1 : Nat) (Option.some Jvm.ClassFile.FieldType.int)) ∈ lw_all := lw_g (lw_at lw_m2 149 rfl) rfl
theorem q476 : (Jvm.Cond.selects "SeenByOne$Longs" ({ cls := "SeenByOne$Row", name := "held", desc := "()Ljava/lang/Object;" } : Jvm.MethodName) ({ cls := "SeenByOne$Longs", name := "held", desc := "()Ljava/lang/Object;" } : Jvm.MethodName)) ∈ lw_all := lw_g (lw_at lw_m2 162 rfl) rfl
theorem q477 : (Jvm.Cond.instanceMethod ({ cls := "SeenByOne$Longs", name := "held", desc := "()Ljava/lang/Object;" } : Jvm.MethodName)) ∈ lw_all := lw_g (lw_at lw_m2 163 rfl) rfl
theorem q478 : (Jvm.Cond.code ({ cls := "SeenByOne$Longs", name := "held", desc := "()Ljava/lang/Object;" } : Jvm.MethodName) prog_9_method_8_code (1 : Nat) (Option.some (Jvm.ClassFile.FieldType.object "java/lang/Object"))) ∈ lw_all := lw_g (lw_at lw_m2 164 rfl) rfl
theorem q498 : (Jvm.Cond.selects "SeenByOne$Longs" ({ cls := "SeenByOne$Row", name := "get", desc := "(I)J" } : Jvm.MethodName) ({ cls := "SeenByOne$Longs", name := "get", desc := "(I)J" } : Jvm.MethodName)) ∈ lw_all := lw_g (lw_at lw_m2 184 rfl) rfl
theorem q499 : (Jvm.Cond.instanceMethod ({ cls := "SeenByOne$Longs", name := "get", desc := "(I)J" } : Jvm.MethodName)) ∈ lw_all := lw_g (lw_at lw_m2 185 rfl) rfl
theorem q500 : (Jvm.Cond.code ({ cls := "SeenByOne$Longs", name := "get", desc := "(I)J" } : Jvm.MethodName) prog_9_method_5_code (2 : Nat) (Option.some Jvm.ClassFile.FieldType.long)) ∈ lw_all := lw_g (lw_at lw_m2 186 rfl) rfl
theorem q921 : (Jvm.Cond.selects "SeenByOne$Longs" ({ cls := "SeenByOne$Row", name := "length", desc := "()I" } : Jvm.MethodName) ({ cls := "SeenByOne$Longs", name := "length", desc := "()I" } : Jvm.MethodName)) ∈ lw_all := lw_g (lw_at lw_m4 127 rfl) rfl
theorem q922 : (Jvm.Cond.instanceMethod ({ cls := "SeenByOne$Longs", name := "length", desc := "()I" } : Jvm.MethodName)) ∈ lw_all := lw_g (lw_at lw_m4 128 rfl) rfl
theorem q923 : (Jvm.Cond.code ({ cls := "SeenByOne$Longs", name := "length", desc := "()I" } : Jvm.MethodName) prog_9_method_3_code (1 : Nat) (Option.some Jvm.ClassFile.FieldType.int)) ∈ lw_all := lw_g (lw_at lw_m4 129 rfl) rfl
theorem q932 : (Jvm.Cond.selects "SeenByOne$Longs" ({ cls := "SeenByOne$Row", name := "asInt", desc := "(I)I" } : Jvm.MethodName) ({ cls := "SeenByOne$Row", name := "asInt", desc := "(I)I" } : Jvm.MethodName)) ∈ lw_all := lw_g (lw_at lw_m4 138 rfl) rfl
theorem q1840 : (Jvm.Cond.castable "SeenByOne$Longs" "SeenByOne$Row") ∈ lw_tbl := lw_at lw_m8 86 rfl
theorem in_X10 : ∀ w ∈ wsX100, w ∈ lw_all := lw_in wsX100 [393] (by decide +kernel) (by decide +kernel)

/-! SeenByOne$Thing -/
set_option maxRecDepth 100000
def RX11 : String := "SeenByOne$Thing"
def TX11 : u_T := fun k => match k with
  | 0 => ("SeenByOne$Thing", "index", "I", true)
  | 1 => ("SeenByOne$Thing", "x", "I", true)
  | 2 => ("SeenByOne$Thing", "y", "I", true)
  | _ => ("SeenByOne$Thing", "by", "I", true)
def tyX11 : Nat → FieldType := fun k => match k with
  | 0 => .int
  | 1 => .int
  | 2 => .int
  | _ => .int
abbrev wsX110 : List Cond := u_ws RX11 TX11 4
theorem nmX11 : ∀ a, a < 4 → ∀ b, b < 4 → a ≠ b → (TX11 a).2.1 ≠ (TX11 b).2.1 := by decide +kernel
theorem tyX11_ok : ∀ k, k < 4 → parseFieldDescriptor (TX11 k).2.2.1 = some (tyX11 k) := by decide +kernel
abbrev cX11_isHouse : ByteArray := prog_16_method_4_code
def yX11_isHouse : MethodName := ⟨RX11, "isHouse", "()Z"⟩
theorem dX11_isHouse_0 : decode cX11_isHouse 0 = .ok (.iconst 0, 1) := by decide +kernel
theorem dX11_isHouse_1 : decode cX11_isHouse 1 = .ok (.ireturn, 1) := by decide +kernel
abbrev cX11_eyes : ByteArray := prog_16_method_6_code
def yX11_eyes : MethodName := ⟨RX11, "eyes", "(I)I"⟩
theorem dX11_eyes_0 : decode cX11_eyes 0 = .ok (.iconst (-1), 1) := by decide +kernel
theorem dX11_eyes_1 : decode cX11_eyes 1 = .ok (.ireturn, 1) := by decide +kernel
abbrev cX11_tall : ByteArray := prog_16_method_3_code
def yX11_tall : MethodName := ⟨RX11, "tall", "(IZ)I"⟩
theorem dX11_tall_0 : decode cX11_tall 0 = .ok (.iload_n 1, 1) := by decide +kernel
theorem dX11_tall_1 : decode cX11_tall 1 = .ok (.ireturn, 1) := by decide +kernel
abbrev cX11_counts : ByteArray := prog_16_method_7_code
def yX11_counts : MethodName := ⟨RX11, "counts", "()Z"⟩
theorem dX11_counts_0 : decode cX11_counts 0 = .ok (.iconst 1, 1) := by decide +kernel
theorem dX11_counts_1 : decode cX11_counts 1 = .ok (.ireturn, 1) := by decide +kernel
abbrev cX11_wanted : ByteArray := prog_16_method_8_code
def yX11_wanted : MethodName := ⟨RX11, "wanted", "()I"⟩
theorem dX11_wanted_0 : decode cX11_wanted 0 = .ok (.iconst 1, 1) := by decide +kernel
theorem dX11_wanted_1 : decode cX11_wanted 1 = .ok (.ireturn, 1) := by decide +kernel
abbrev cX11_init : ByteArray := prog_16_method_1_code
def yX11_init : MethodName := ⟨RX11, "<init>", "(IIII)V"⟩
def dkwX11_init_1 : List UInt8 := [181, 0, 21, 177]
abbrev dktX11_init_1 : List UInt8 := dkwX11_init_1 ++ []
def dkwX11_init_0 : List UInt8 := [42, 183, 0, 3, 42, 27, 181, 0, 9, 42, 28, 181, 0, 15, 42, 29, 181, 0, 18, 42, 21, 4]
abbrev dktX11_init_0 : List UInt8 := dkwX11_init_0 ++ dktX11_init_1
theorem dksX11_init_0 : cX11_init.data.toList.drop 0 = dktX11_init_0 := by decide +kernel
theorem dksX11_init_1 : cX11_init.data.toList.drop 22 = dktX11_init_1 := dk_seg dksX11_init_0 22 rfl rfl
theorem dX11_init_0 : decode cX11_init 0 = .ok (.aload_n 0, 1) := dk_42 (dk_at dksX11_init_0 0 rfl rfl)
theorem dX11_init_1 : decode cX11_init 1 = .ok (.invokespecial 3, 3) := dk_183 0 3 (dk_at dksX11_init_0 1 rfl rfl)
theorem dX11_init_4 : decode cX11_init 4 = .ok (.aload_n 0, 1) := dk_42 (dk_at dksX11_init_0 4 rfl rfl)
theorem dX11_init_5 : decode cX11_init 5 = .ok (.iload_n 1, 1) := dk_27 (dk_at dksX11_init_0 5 rfl rfl)
theorem dX11_init_6 : decode cX11_init 6 = .ok (.putfield 9, 3) := dk_181 0 9 (dk_at dksX11_init_0 6 rfl rfl)
theorem dX11_init_9 : decode cX11_init 9 = .ok (.aload_n 0, 1) := dk_42 (dk_at dksX11_init_0 9 rfl rfl)
theorem dX11_init_10 : decode cX11_init 10 = .ok (.iload_n 2, 1) := dk_28 (dk_at dksX11_init_0 10 rfl rfl)
theorem dX11_init_11 : decode cX11_init 11 = .ok (.putfield 15, 3) := dk_181 0 15 (dk_at dksX11_init_0 11 rfl rfl)
theorem dX11_init_14 : decode cX11_init 14 = .ok (.aload_n 0, 1) := dk_42 (dk_at dksX11_init_0 14 rfl rfl)
theorem dX11_init_15 : decode cX11_init 15 = .ok (.iload_n 3, 1) := dk_29 (dk_at dksX11_init_0 15 rfl rfl)
theorem dX11_init_16 : decode cX11_init 16 = .ok (.putfield 18, 3) := dk_181 0 18 (dk_at dksX11_init_0 16 rfl rfl)
theorem dX11_init_19 : decode cX11_init 19 = .ok (.aload_n 0, 1) := dk_42 (dk_at dksX11_init_0 19 rfl rfl)
theorem dX11_init_20 : decode cX11_init 20 = .ok (.iload 4, 2) := dk_21 4 (dk_at dksX11_init_0 20 rfl rfl)
theorem dX11_init_22 : decode cX11_init 22 = .ok (.putfield 21, 3) := dk_181 0 21 (dk_at dksX11_init_1 0 rfl rfl)
theorem dX11_init_25 : decode cX11_init 25 = .ok (.return_, 1) := dk_177 (dk_at dksX11_init_1 3 rfl rfl)
abbrev cX11_kind : ByteArray := prog_16_method_2_code
def yX11_kind : MethodName := ⟨RX11, "kind", "()I"⟩
theorem dX11_kind_0 : decode cX11_kind 0 = .ok (.iconst 0, 1) := by decide +kernel
theorem dX11_kind_1 : decode cX11_kind 1 = .ok (.ireturn, 1) := by decide +kernel
abbrev cX11_grows : ByteArray := prog_16_method_5_code
def yX11_grows : MethodName := ⟨RX11, "grows", "()Z"⟩
theorem dX11_grows_0 : decode cX11_grows 0 = .ok (.iconst 0, 1) := by decide +kernel
theorem dX11_grows_1 : decode cX11_grows 1 = .ok (.ireturn, 1) := by decide +kernel
abbrev cX11_standing : ByteArray := prog_16_method_9_code
def yX11_standing : MethodName := ⟨RX11, "standing", "(ILSeenByOne$Trace;)I"⟩
def dkwX11_standing_0 : List UInt8 := [44, 16, 10, 182, 0, 24, 27, 42, 180, 0, 9, 96, 172]
abbrev dktX11_standing_0 : List UInt8 := dkwX11_standing_0 ++ []
theorem dksX11_standing_0 : cX11_standing.data.toList.drop 0 = dktX11_standing_0 := by decide +kernel
theorem dX11_standing_0 : decode cX11_standing 0 = .ok (.aload_n 2, 1) := dk_44 (dk_at dksX11_standing_0 0 rfl rfl)
theorem dX11_standing_1 : decode cX11_standing 1 = .ok (.bipush 10, 2) := dk_16 10 (dk_at dksX11_standing_0 1 rfl rfl)
theorem dX11_standing_3 : decode cX11_standing 3 = .ok (.invokevirtual 24, 3) := dk_182 0 24 (dk_at dksX11_standing_0 3 rfl rfl)
theorem dX11_standing_6 : decode cX11_standing 6 = .ok (.iload_n 1, 1) := dk_27 (dk_at dksX11_standing_0 6 rfl rfl)
theorem dX11_standing_7 : decode cX11_standing 7 = .ok (.aload_n 0, 1) := dk_42 (dk_at dksX11_standing_0 7 rfl rfl)
theorem dX11_standing_8 : decode cX11_standing 8 = .ok (.getfield 9, 3) := dk_180 0 9 (dk_at dksX11_standing_0 8 rfl rfl)
theorem dX11_standing_11 : decode cX11_standing 11 = .ok (.iadd, 1) := dk_96 (dk_at dksX11_standing_0 11 rfl rfl)
theorem dX11_standing_12 : decode cX11_standing 12 = .ok (.ireturn, 1) := dk_172 (dk_at dksX11_standing_0 12 rfl rfl)
abbrev cX11_looking : ByteArray := prog_16_method_10_code
def yX11_looking : MethodName := ⟨RX11, "looking", "(ILSeenByOne$Trace;)I"⟩
def dkwX11_looking_0 : List UInt8 := [44, 16, 11, 182, 0, 24, 42, 27, 44, 182, 0, 30, 5, 104, 172]
abbrev dktX11_looking_0 : List UInt8 := dkwX11_looking_0 ++ []
theorem dksX11_looking_0 : cX11_looking.data.toList.drop 0 = dktX11_looking_0 := by decide +kernel
theorem dX11_looking_0 : decode cX11_looking 0 = .ok (.aload_n 2, 1) := dk_44 (dk_at dksX11_looking_0 0 rfl rfl)
theorem dX11_looking_1 : decode cX11_looking 1 = .ok (.bipush 11, 2) := dk_16 11 (dk_at dksX11_looking_0 1 rfl rfl)
theorem dX11_looking_3 : decode cX11_looking 3 = .ok (.invokevirtual 24, 3) := dk_182 0 24 (dk_at dksX11_looking_0 3 rfl rfl)
theorem dX11_looking_6 : decode cX11_looking 6 = .ok (.aload_n 0, 1) := dk_42 (dk_at dksX11_looking_0 6 rfl rfl)
theorem dX11_looking_7 : decode cX11_looking 7 = .ok (.iload_n 1, 1) := dk_27 (dk_at dksX11_looking_0 7 rfl rfl)
theorem dX11_looking_8 : decode cX11_looking 8 = .ok (.aload_n 2, 1) := dk_44 (dk_at dksX11_looking_0 8 rfl rfl)
theorem dX11_looking_9 : decode cX11_looking 9 = .ok (.invokevirtual 30, 3) := dk_182 0 30 (dk_at dksX11_looking_0 9 rfl rfl)
theorem dX11_looking_12 : decode cX11_looking 12 = .ok (.iconst 2, 1) := dk_5 (dk_at dksX11_looking_0 12 rfl rfl)
theorem dX11_looking_13 : decode cX11_looking 13 = .ok (.imul, 1) := dk_104 (dk_at dksX11_looking_0 13 rfl rfl)
theorem dX11_looking_14 : decode cX11_looking 14 = .ok (.ireturn, 1) := dk_172 (dk_at dksX11_looking_0 14 rfl rfl)
abbrev cX11_hiding : ByteArray := prog_16_method_11_code
def yX11_hiding : MethodName := ⟨RX11, "hiding", "(ILSeenByOne$Trace;)I"⟩
def dkwX11_hiding_1 : List UInt8 := [182, 0, 30, 130, 172]
abbrev dktX11_hiding_1 : List UInt8 := dkwX11_hiding_1 ++ []
def dkwX11_hiding_0 : List UInt8 := [44, 16, 12, 182, 0, 24, 42, 27, 44, 182, 0, 34, 62, 29, 42, 27, 42, 180, 0, 21, 100, 44]
abbrev dktX11_hiding_0 : List UInt8 := dkwX11_hiding_0 ++ dktX11_hiding_1
theorem dksX11_hiding_0 : cX11_hiding.data.toList.drop 0 = dktX11_hiding_0 := by decide +kernel
theorem dksX11_hiding_1 : cX11_hiding.data.toList.drop 22 = dktX11_hiding_1 := dk_seg dksX11_hiding_0 22 rfl rfl
theorem dX11_hiding_0 : decode cX11_hiding 0 = .ok (.aload_n 2, 1) := dk_44 (dk_at dksX11_hiding_0 0 rfl rfl)
theorem dX11_hiding_1 : decode cX11_hiding 1 = .ok (.bipush 12, 2) := dk_16 12 (dk_at dksX11_hiding_0 1 rfl rfl)
theorem dX11_hiding_3 : decode cX11_hiding 3 = .ok (.invokevirtual 24, 3) := dk_182 0 24 (dk_at dksX11_hiding_0 3 rfl rfl)
theorem dX11_hiding_6 : decode cX11_hiding 6 = .ok (.aload_n 0, 1) := dk_42 (dk_at dksX11_hiding_0 6 rfl rfl)
theorem dX11_hiding_7 : decode cX11_hiding 7 = .ok (.iload_n 1, 1) := dk_27 (dk_at dksX11_hiding_0 7 rfl rfl)
theorem dX11_hiding_8 : decode cX11_hiding 8 = .ok (.aload_n 2, 1) := dk_44 (dk_at dksX11_hiding_0 8 rfl rfl)
theorem dX11_hiding_9 : decode cX11_hiding 9 = .ok (.invokevirtual 34, 3) := dk_182 0 34 (dk_at dksX11_hiding_0 9 rfl rfl)
theorem dX11_hiding_12 : decode cX11_hiding 12 = .ok (.istore_n 3, 1) := dk_62 (dk_at dksX11_hiding_0 12 rfl rfl)
theorem dX11_hiding_13 : decode cX11_hiding 13 = .ok (.iload_n 3, 1) := dk_29 (dk_at dksX11_hiding_0 13 rfl rfl)
theorem dX11_hiding_14 : decode cX11_hiding 14 = .ok (.aload_n 0, 1) := dk_42 (dk_at dksX11_hiding_0 14 rfl rfl)
theorem dX11_hiding_15 : decode cX11_hiding 15 = .ok (.iload_n 1, 1) := dk_27 (dk_at dksX11_hiding_0 15 rfl rfl)
theorem dX11_hiding_16 : decode cX11_hiding 16 = .ok (.aload_n 0, 1) := dk_42 (dk_at dksX11_hiding_0 16 rfl rfl)
theorem dX11_hiding_17 : decode cX11_hiding 17 = .ok (.getfield 21, 3) := dk_180 0 21 (dk_at dksX11_hiding_0 17 rfl rfl)
theorem dX11_hiding_20 : decode cX11_hiding 20 = .ok (.isub, 1) := dk_100 (dk_at dksX11_hiding_0 20 rfl rfl)
theorem dX11_hiding_21 : decode cX11_hiding 21 = .ok (.aload_n 2, 1) := dk_44 (dk_at dksX11_hiding_0 21 rfl rfl)
theorem dX11_hiding_22 : decode cX11_hiding 22 = .ok (.invokevirtual 30, 3) := dk_182 0 30 (dk_at dksX11_hiding_1 0 rfl rfl)
theorem dX11_hiding_25 : decode cX11_hiding 25 = .ok (.ixor, 1) := dk_130 (dk_at dksX11_hiding_1 3 rfl rfl)
theorem dX11_hiding_26 : decode cX11_hiding 26 = .ok (.ireturn, 1) := dk_172 (dk_at dksX11_hiding_1 4 rfl rfl)
theorem q97 : (Jvm.Cond.initialized "SeenByOne$Thing") ∈ lw_all := lw_g (lw_at lw_m1 23 rfl) rfl
theorem q547 : (Jvm.Cond.instanceMethod ({ cls := "SeenByOne$Thing", name := "isHouse", desc := "()Z" } : Jvm.MethodName)) ∈ lw_all := lw_g (lw_at lw_m2 233 rfl) rfl
theorem q548 : (Jvm.Cond.selects "SeenByOne$Thing" ({ cls := "SeenByOne$Thing", name := "isHouse", desc := "()Z" } : Jvm.MethodName) ({ cls := "SeenByOne$Thing", name := "isHouse", desc := "()Z" } : Jvm.MethodName)) ∈ lw_all := lw_g (lw_at lw_m2 234 rfl) rfl
theorem q549 : (Jvm.Cond.sameMethod "SeenByOne$Thing" "SeenByOne$Thing" "isHouse" "()Z") ∈ lw_all := lw_g (lw_at lw_m2 235 rfl) rfl
theorem q558 : (Jvm.Cond.code ({ cls := "SeenByOne$Thing", name := "isHouse", desc := "()Z" } : Jvm.MethodName) prog_16_method_4_code (1 : Nat) (Option.some Jvm.ClassFile.FieldType.boolean)) ∈ lw_all := lw_g (lw_at lw_m3 4 rfl) rfl
theorem q568 : (Jvm.Cond.instanceMethod ({ cls := "SeenByOne$Thing", name := "eyes", desc := "(I)I" } : Jvm.MethodName)) ∈ lw_all := lw_g (lw_at lw_m3 14 rfl) rfl
theorem q569 : (Jvm.Cond.selects "SeenByOne$Thing" ({ cls := "SeenByOne$Thing", name := "eyes", desc := "(I)I" } : Jvm.MethodName) ({ cls := "SeenByOne$Thing", name := "eyes", desc := "(I)I" } : Jvm.MethodName)) ∈ lw_all := lw_g (lw_at lw_m3 15 rfl) rfl
theorem q570 : (Jvm.Cond.sameMethod "SeenByOne$Thing" "SeenByOne$Thing" "eyes" "(I)I") ∈ lw_all := lw_g (lw_at lw_m3 16 rfl) rfl
theorem q585 : (Jvm.Cond.code ({ cls := "SeenByOne$Thing", name := "eyes", desc := "(I)I" } : Jvm.MethodName) prog_16_method_6_code (2 : Nat) (Option.some Jvm.ClassFile.FieldType.int)) ∈ lw_all := lw_g (lw_at lw_m3 31 rfl) rfl
theorem q612 : (Jvm.Cond.instanceMethod ({ cls := "SeenByOne$Thing", name := "tall", desc := "(IZ)I" } : Jvm.MethodName)) ∈ lw_all := lw_g (lw_at lw_m3 58 rfl) rfl
theorem q613 : (Jvm.Cond.selects "SeenByOne$Thing" ({ cls := "SeenByOne$Thing", name := "tall", desc := "(IZ)I" } : Jvm.MethodName) ({ cls := "SeenByOne$Thing", name := "tall", desc := "(IZ)I" } : Jvm.MethodName)) ∈ lw_all := lw_g (lw_at lw_m3 59 rfl) rfl
theorem q614 : (Jvm.Cond.sameMethod "SeenByOne$Thing" "SeenByOne$Thing" "tall" "(IZ)I") ∈ lw_all := lw_g (lw_at lw_m3 60 rfl) rfl
theorem q629 : (Jvm.Cond.code ({ cls := "SeenByOne$Thing", name := "tall", desc := "(IZ)I" } : Jvm.MethodName) prog_16_method_3_code (3 : Nat) (Option.some Jvm.ClassFile.FieldType.int)) ∈ lw_all := lw_g (lw_at lw_m3 75 rfl) rfl
theorem q631 : (Jvm.Cond.instanceMethod ({ cls := "SeenByOne$Thing", name := "counts", desc := "()Z" } : Jvm.MethodName)) ∈ lw_all := lw_g (lw_at lw_m3 77 rfl) rfl
theorem q632 : (Jvm.Cond.selects "SeenByOne$Thing" ({ cls := "SeenByOne$Thing", name := "counts", desc := "()Z" } : Jvm.MethodName) ({ cls := "SeenByOne$Thing", name := "counts", desc := "()Z" } : Jvm.MethodName)) ∈ lw_all := lw_g (lw_at lw_m3 78 rfl) rfl
theorem q633 : (Jvm.Cond.sameMethod "SeenByOne$Thing" "SeenByOne$Thing" "counts" "()Z") ∈ lw_all := lw_g (lw_at lw_m3 79 rfl) rfl
theorem q642 : (Jvm.Cond.code ({ cls := "SeenByOne$Thing", name := "counts", desc := "()Z" } : Jvm.MethodName) prog_16_method_7_code (1 : Nat) (Option.some Jvm.ClassFile.FieldType.boolean)) ∈ lw_all := lw_g (lw_at lw_m3 88 rfl) rfl
theorem q662 : (Jvm.Cond.instanceMethod ({ cls := "SeenByOne$Thing", name := "wanted", desc := "()I" } : Jvm.MethodName)) ∈ lw_all := lw_g (lw_at lw_m3 108 rfl) rfl
theorem q663 : (Jvm.Cond.selects "SeenByOne$Thing" ({ cls := "SeenByOne$Thing", name := "wanted", desc := "()I" } : Jvm.MethodName) ({ cls := "SeenByOne$Thing", name := "wanted", desc := "()I" } : Jvm.MethodName)) ∈ lw_all := lw_g (lw_at lw_m3 109 rfl) rfl
theorem q664 : (Jvm.Cond.sameMethod "SeenByOne$Thing" "SeenByOne$Thing" "wanted" "()I") ∈ lw_all := lw_g (lw_at lw_m3 110 rfl) rfl
theorem q673 : (Jvm.Cond.declares ({ cls := "SeenByOne$Thing", name := "wanted", desc := "()I" } : Jvm.MethodName)) ∈ lw_tbl := lw_at lw_m3 119 rfl
theorem q678 : (Jvm.Cond.code ({ cls := "SeenByOne$Thing", name := "wanted", desc := "()I" } : Jvm.MethodName) prog_16_method_8_code (1 : Nat) (Option.some Jvm.ClassFile.FieldType.int)) ∈ lw_all := lw_g (lw_at lw_m3 124 rfl) rfl
theorem q712 : (Jvm.Cond.instanceMethod ({ cls := "SeenByOne$Thing", name := "<init>", desc := "(IIII)V" } : Jvm.MethodName)) ∈ lw_all := lw_g (lw_at lw_m3 158 rfl) rfl
theorem q713 : (Jvm.Cond.code ({ cls := "SeenByOne$Thing", name := "<init>", desc := "(IIII)V" } : Jvm.MethodName) prog_16_method_1_code (5 : Nat) (Option.none : Option Jvm.ClassFile.FieldType)) ∈ lw_all := lw_g (lw_at lw_m3 159 rfl) rfl
theorem q714 : (Jvm.Cond.methodLink "SeenByOne$Thing" (3 : Nat) ({ cls := "java/lang/Object", name := "<init>", desc := "()V" } : Jvm.MethodName)) ∈ lw_all := lw_g (lw_at lw_m3 160 rfl) rfl
theorem q715 : (Jvm.Cond.fieldLink "SeenByOne$Thing" (9 : Nat) "SeenByOne$Thing" "index" "I") ∈ lw_all := lw_g (lw_at lw_m3 161 rfl) rfl
theorem q727 : (Jvm.Cond.fieldLink "SeenByOne$Thing" (15 : Nat) "SeenByOne$Thing" "x" "I") ∈ lw_all := lw_g (lw_at lw_m3 173 rfl) rfl
theorem q730 : (Jvm.Cond.fieldLink "SeenByOne$Thing" (18 : Nat) "SeenByOne$Thing" "y" "I") ∈ lw_all := lw_g (lw_at lw_m3 176 rfl) rfl
theorem q733 : (Jvm.Cond.fieldLink "SeenByOne$Thing" (21 : Nat) "SeenByOne$Thing" "by" "I") ∈ lw_all := lw_g (lw_at lw_m3 179 rfl) rfl
theorem q745 : (Jvm.Cond.soleField "SeenByOne$Thing" "index") ∈ lw_all := lw_g (lw_at lw_m3 191 rfl) rfl
theorem q747 : (Jvm.Cond.soleField "SeenByOne$Thing" "x") ∈ lw_all := lw_g (lw_at lw_m3 193 rfl) rfl
theorem q749 : (Jvm.Cond.soleField "SeenByOne$Thing" "y") ∈ lw_all := lw_g (lw_at lw_m3 195 rfl) rfl
theorem q751 : (Jvm.Cond.soleField "SeenByOne$Thing" "by") ∈ lw_all := lw_g (lw_at lw_m3 197 rfl) rfl
theorem q803 : (Jvm.Cond.instantiable "SeenByOne$Thing" (4 : Nat)) ∈ lw_all := lw_g (lw_at lw_m4 9 rfl) rfl
theorem q805 : (Jvm.Cond.laysFinal "SeenByOne$Thing" "SeenByOne$Thing" "index" "I") ∈ lw_all := lw_g (lw_at lw_m4 11 rfl) rfl
theorem q806 : (Jvm.Cond.laysFinal "SeenByOne$Thing" "SeenByOne$Thing" "x" "I") ∈ lw_all := lw_g (lw_at lw_m4 12 rfl) rfl
theorem q807 : (Jvm.Cond.laysFinal "SeenByOne$Thing" "SeenByOne$Thing" "y" "I") ∈ lw_all := lw_g (lw_at lw_m4 13 rfl) rfl
theorem q808 : (Jvm.Cond.laysFinal "SeenByOne$Thing" "SeenByOne$Thing" "by" "I") ∈ lw_all := lw_g (lw_at lw_m4 14 rfl) rfl
theorem q809 : (Jvm.Cond.superclass "SeenByOne$Thing" "java/lang/Object") ∈ lw_all := lw_g (lw_at lw_m4 15 rfl) rfl
theorem q819 : (Jvm.Cond.instanceMethod ({ cls := "SeenByOne$Thing", name := "kind", desc := "()I" } : Jvm.MethodName)) ∈ lw_all := lw_g (lw_at lw_m4 25 rfl) rfl
theorem q820 : (Jvm.Cond.selects "SeenByOne$Thing" ({ cls := "SeenByOne$Thing", name := "kind", desc := "()I" } : Jvm.MethodName) ({ cls := "SeenByOne$Thing", name := "kind", desc := "()I" } : Jvm.MethodName)) ∈ lw_all := lw_g (lw_at lw_m4 26 rfl) rfl
theorem q821 : (Jvm.Cond.sameMethod "SeenByOne$Thing" "SeenByOne$Thing" "kind" "()I") ∈ lw_all := lw_g (lw_at lw_m4 27 rfl) rfl
theorem q840 : (Jvm.Cond.code ({ cls := "SeenByOne$Thing", name := "kind", desc := "()I" } : Jvm.MethodName) prog_16_method_2_code (1 : Nat) (Option.some Jvm.ClassFile.FieldType.int)) ∈ lw_all := lw_g (lw_at lw_m4 46 rfl) rfl
theorem q1212 : (Jvm.Cond.instanceMethod ({ cls := "SeenByOne$Thing", name := "grows", desc := "()Z" } : Jvm.MethodName)) ∈ lw_all := lw_g (lw_at lw_m5 178 rfl) rfl
theorem q1213 : (Jvm.Cond.selects "SeenByOne$Thing" ({ cls := "SeenByOne$Thing", name := "grows", desc := "()Z" } : Jvm.MethodName) ({ cls := "SeenByOne$Thing", name := "grows", desc := "()Z" } : Jvm.MethodName)) ∈ lw_all := lw_g (lw_at lw_m5 179 rfl) rfl
theorem q1214 : (Jvm.Cond.sameMethod "SeenByOne$Thing" "SeenByOne$Thing" "grows" "()Z") ∈ lw_all := lw_g (lw_at lw_m5 180 rfl) rfl
theorem q1223 : (Jvm.Cond.code ({ cls := "SeenByOne$Thing", name := "grows", desc := "()Z" } : Jvm.MethodName) prog_16_method_5_code (1 : Nat) (Option.some Jvm.ClassFile.FieldType.boolean)) ∈ lw_all := lw_g (lw_at lw_m5 189 rfl) rfl
theorem q1243 : (Jvm.Cond.instanceMethod ({ cls := "SeenByOne$Thing", name := "standing", desc := "(ILSeenByOne$Trace;)I" } : Jvm.MethodName)) ∈ lw_all := lw_g (lw_at lw_m5 209 rfl) rfl
theorem q1244 : (Jvm.Cond.selects "SeenByOne$Thing" ({ cls := "SeenByOne$Thing", name := "standing", desc := "(ILSeenByOne$Trace;)I" } : Jvm.MethodName) ({ cls := "SeenByOne$Thing", name := "standing", desc := "(ILSeenByOne$Trace;)I" } : Jvm.MethodName)) ∈ lw_all := lw_g (lw_at lw_m5 210 rfl) rfl
theorem q1245 : (Jvm.Cond.sameMethod "SeenByOne$Thing" "SeenByOne$Thing" "standing" "(ILSeenByOne$Trace;)I") ∈ lw_all := lw_g (lw_at lw_m5 211 rfl) rfl
theorem q1260 : (Jvm.Cond.declares ({ cls := "SeenByOne$Thing", name := "standing", desc := "(ILSeenByOne$Trace;)I" } : Jvm.MethodName)) ∈ lw_tbl := lw_at lw_m5 226 rfl
theorem q1269 : (Jvm.Cond.code ({ cls := "SeenByOne$Thing", name := "standing", desc := "(ILSeenByOne$Trace;)I" } : Jvm.MethodName) prog_16_method_9_code (3 : Nat) (Option.some Jvm.ClassFile.FieldType.int)) ∈ lw_all := lw_g (lw_at lw_m5 235 rfl) rfl
theorem q1270 : (Jvm.Cond.methodLink "SeenByOne$Thing" (24 : Nat) ({ cls := "SeenByOne$Trace", name := "runs", desc := "(I)V" } : Jvm.MethodName)) ∈ lw_all := lw_g (lw_at lw_m5 236 rfl) rfl
theorem q1272 : (Jvm.Cond.instanceMethod ({ cls := "SeenByOne$Thing", name := "looking", desc := "(ILSeenByOne$Trace;)I" } : Jvm.MethodName)) ∈ lw_all := lw_g (lw_at lw_m5 238 rfl) rfl
theorem q1273 : (Jvm.Cond.selects "SeenByOne$Thing" ({ cls := "SeenByOne$Thing", name := "looking", desc := "(ILSeenByOne$Trace;)I" } : Jvm.MethodName) ({ cls := "SeenByOne$Thing", name := "looking", desc := "(ILSeenByOne$Trace;)I" } : Jvm.MethodName)) ∈ lw_all := lw_g (lw_at lw_m5 239 rfl) rfl
theorem q1274 : (Jvm.Cond.sameMethod "SeenByOne$Thing" "SeenByOne$Thing" "looking" "(ILSeenByOne$Trace;)I") ∈ lw_all := lw_g (lw_at lw_m6 0 rfl) rfl
theorem q1292 : (Jvm.Cond.declares ({ cls := "SeenByOne$Thing", name := "looking", desc := "(ILSeenByOne$Trace;)I" } : Jvm.MethodName)) ∈ lw_tbl := lw_at lw_m6 18 rfl
theorem q1294 : (Jvm.Cond.code ({ cls := "SeenByOne$Thing", name := "looking", desc := "(ILSeenByOne$Trace;)I" } : Jvm.MethodName) prog_16_method_10_code (3 : Nat) (Option.some Jvm.ClassFile.FieldType.int)) ∈ lw_all := lw_g (lw_at lw_m6 20 rfl) rfl
theorem q1295 : (Jvm.Cond.methodLink "SeenByOne$Thing" (30 : Nat) ({ cls := "SeenByOne$Thing", name := "standing", desc := "(ILSeenByOne$Trace;)I" } : Jvm.MethodName)) ∈ lw_all := lw_g (lw_at lw_m6 21 rfl) rfl
theorem q1297 : (Jvm.Cond.instanceMethod ({ cls := "SeenByOne$Thing", name := "hiding", desc := "(ILSeenByOne$Trace;)I" } : Jvm.MethodName)) ∈ lw_all := lw_g (lw_at lw_m6 23 rfl) rfl
theorem q1298 : (Jvm.Cond.selects "SeenByOne$Thing" ({ cls := "SeenByOne$Thing", name := "hiding", desc := "(ILSeenByOne$Trace;)I" } : Jvm.MethodName) ({ cls := "SeenByOne$Thing", name := "hiding", desc := "(ILSeenByOne$Trace;)I" } : Jvm.MethodName)) ∈ lw_all := lw_g (lw_at lw_m6 24 rfl) rfl
theorem q1299 : (Jvm.Cond.sameMethod "SeenByOne$Thing" "SeenByOne$Thing" "hiding" "(ILSeenByOne$Trace;)I") ∈ lw_all := lw_g (lw_at lw_m6 25 rfl) rfl
theorem q1306 : (Jvm.Cond.declares ({ cls := "SeenByOne$Thing", name := "hiding", desc := "(ILSeenByOne$Trace;)I" } : Jvm.MethodName)) ∈ lw_tbl := lw_at lw_m6 32 rfl
theorem q1315 : (Jvm.Cond.code ({ cls := "SeenByOne$Thing", name := "hiding", desc := "(ILSeenByOne$Trace;)I" } : Jvm.MethodName) prog_16_method_11_code (4 : Nat) (Option.some Jvm.ClassFile.FieldType.int)) ∈ lw_all := lw_g (lw_at lw_m6 41 rfl) rfl
theorem q1316 : (Jvm.Cond.methodLink "SeenByOne$Thing" (34 : Nat) ({ cls := "SeenByOne$Thing", name := "looking", desc := "(ILSeenByOne$Trace;)I" } : Jvm.MethodName)) ∈ lw_all := lw_g (lw_at lw_m6 42 rfl) rfl
theorem in_X11 : ∀ w ∈ wsX110, w ∈ lw_all := lw_in wsX110 [805, 806, 807, 808] (by decide +kernel) (by decide +kernel)

/-! SeenByOne$House -/
set_option maxRecDepth 100000
def RX12 : String := "SeenByOne$House"
def TX12 : u_T := fun k => match k with
  | 0 => ("SeenByOne$Thing", "index", "I", true)
  | 1 => ("SeenByOne$Thing", "x", "I", true)
  | 2 => ("SeenByOne$Thing", "y", "I", true)
  | _ => ("SeenByOne$Thing", "by", "I", true)
def tyX12 : Nat → FieldType := fun k => match k with
  | 0 => .int
  | 1 => .int
  | 2 => .int
  | _ => .int
abbrev wsX120 : List Cond := u_ws RX12 TX12 4
theorem nmX12 : ∀ a, a < 4 → ∀ b, b < 4 → a ≠ b → (TX12 a).2.1 ≠ (TX12 b).2.1 := by decide +kernel
theorem tyX12_ok : ∀ k, k < 4 → parseFieldDescriptor (TX12 k).2.2.1 = some (tyX12 k) := by decide +kernel
abbrev cX12_isHouse : ByteArray := prog_7_method_3_code
def yX12_isHouse : MethodName := ⟨RX12, "isHouse", "()Z"⟩
theorem dX12_isHouse_0 : decode cX12_isHouse 0 = .ok (.iconst 1, 1) := by decide +kernel
theorem dX12_isHouse_1 : decode cX12_isHouse 1 = .ok (.ireturn, 1) := by decide +kernel
abbrev cX12_eyes : ByteArray := prog_7_method_4_code
def yX12_eyes : MethodName := ⟨RX12, "eyes", "(I)I"⟩
theorem dX12_eyes_0 : decode cX12_eyes 0 = .ok (.iload_n 1, 1) := by decide +kernel
theorem dX12_eyes_1 : decode cX12_eyes 1 = .ok (.ireturn, 1) := by decide +kernel
abbrev cX12_init : ByteArray := prog_7_method_1_code
def yX12_init : MethodName := ⟨RX12, "<init>", "(IIII)V"⟩
def dkwX12_init_0 : List UInt8 := [42, 27, 28, 29, 21, 4, 183, 0, 3, 177]
abbrev dktX12_init_0 : List UInt8 := dkwX12_init_0 ++ []
theorem dksX12_init_0 : cX12_init.data.toList.drop 0 = dktX12_init_0 := by decide +kernel
theorem dX12_init_0 : decode cX12_init 0 = .ok (.aload_n 0, 1) := dk_42 (dk_at dksX12_init_0 0 rfl rfl)
theorem dX12_init_1 : decode cX12_init 1 = .ok (.iload_n 1, 1) := dk_27 (dk_at dksX12_init_0 1 rfl rfl)
theorem dX12_init_2 : decode cX12_init 2 = .ok (.iload_n 2, 1) := dk_28 (dk_at dksX12_init_0 2 rfl rfl)
theorem dX12_init_3 : decode cX12_init 3 = .ok (.iload_n 3, 1) := dk_29 (dk_at dksX12_init_0 3 rfl rfl)
theorem dX12_init_4 : decode cX12_init 4 = .ok (.iload 4, 2) := dk_21 4 (dk_at dksX12_init_0 4 rfl rfl)
theorem dX12_init_6 : decode cX12_init 6 = .ok (.invokespecial 3, 3) := dk_183 0 3 (dk_at dksX12_init_0 6 rfl rfl)
theorem dX12_init_9 : decode cX12_init 9 = .ok (.return_, 1) := dk_177 (dk_at dksX12_init_0 9 rfl rfl)
abbrev cX12_kind : ByteArray := prog_7_method_2_code
def yX12_kind : MethodName := ⟨RX12, "kind", "()I"⟩
theorem dX12_kind_0 : decode cX12_kind 0 = .ok (.iconst 1, 1) := by decide +kernel
theorem dX12_kind_1 : decode cX12_kind 1 = .ok (.ireturn, 1) := by decide +kernel
abbrev cX12_standing : ByteArray := prog_7_method_5_code
def yX12_standing : MethodName := ⟨RX12, "standing", "(ILSeenByOne$Trace;)I"⟩
def dkwX12_standing_0 : List UInt8 := [44, 16, 20, 182, 0, 9, 42, 27, 44, 183, 0, 15, 42, 180, 0, 19, 96, 172]
abbrev dktX12_standing_0 : List UInt8 := dkwX12_standing_0 ++ []
theorem dksX12_standing_0 : cX12_standing.data.toList.drop 0 = dktX12_standing_0 := by decide +kernel
theorem dX12_standing_0 : decode cX12_standing 0 = .ok (.aload_n 2, 1) := dk_44 (dk_at dksX12_standing_0 0 rfl rfl)
theorem dX12_standing_1 : decode cX12_standing 1 = .ok (.bipush 20, 2) := dk_16 20 (dk_at dksX12_standing_0 1 rfl rfl)
theorem dX12_standing_3 : decode cX12_standing 3 = .ok (.invokevirtual 9, 3) := dk_182 0 9 (dk_at dksX12_standing_0 3 rfl rfl)
theorem dX12_standing_6 : decode cX12_standing 6 = .ok (.aload_n 0, 1) := dk_42 (dk_at dksX12_standing_0 6 rfl rfl)
theorem dX12_standing_7 : decode cX12_standing 7 = .ok (.iload_n 1, 1) := dk_27 (dk_at dksX12_standing_0 7 rfl rfl)
theorem dX12_standing_8 : decode cX12_standing 8 = .ok (.aload_n 2, 1) := dk_44 (dk_at dksX12_standing_0 8 rfl rfl)
theorem dX12_standing_9 : decode cX12_standing 9 = .ok (.invokespecial 15, 3) := dk_183 0 15 (dk_at dksX12_standing_0 9 rfl rfl)
theorem dX12_standing_12 : decode cX12_standing 12 = .ok (.aload_n 0, 1) := dk_42 (dk_at dksX12_standing_0 12 rfl rfl)
theorem dX12_standing_13 : decode cX12_standing 13 = .ok (.getfield 19, 3) := dk_180 0 19 (dk_at dksX12_standing_0 13 rfl rfl)
theorem dX12_standing_16 : decode cX12_standing 16 = .ok (.iadd, 1) := dk_96 (dk_at dksX12_standing_0 16 rfl rfl)
theorem dX12_standing_17 : decode cX12_standing 17 = .ok (.ireturn, 1) := dk_172 (dk_at dksX12_standing_0 17 rfl rfl)
theorem q98 : (Jvm.Cond.initialized "SeenByOne$House") ∈ lw_all := lw_g (lw_at lw_m1 24 rfl) rfl
theorem q551 : (Jvm.Cond.instanceMethod ({ cls := "SeenByOne$House", name := "isHouse", desc := "()Z" } : Jvm.MethodName)) ∈ lw_all := lw_g (lw_at lw_m2 237 rfl) rfl
theorem q552 : (Jvm.Cond.code ({ cls := "SeenByOne$House", name := "isHouse", desc := "()Z" } : Jvm.MethodName) prog_7_method_3_code (1 : Nat) (Option.some Jvm.ClassFile.FieldType.boolean)) ∈ lw_all := lw_g (lw_at lw_m2 238 rfl) rfl
theorem q554 : (Jvm.Cond.selects "SeenByOne$House" ({ cls := "SeenByOne$Thing", name := "isHouse", desc := "()Z" } : Jvm.MethodName) ({ cls := "SeenByOne$House", name := "isHouse", desc := "()Z" } : Jvm.MethodName)) ∈ lw_all := lw_g (lw_at lw_m3 0 rfl) rfl
theorem q575 : (Jvm.Cond.selects "SeenByOne$House" ({ cls := "SeenByOne$Thing", name := "eyes", desc := "(I)I" } : Jvm.MethodName) ({ cls := "SeenByOne$House", name := "eyes", desc := "(I)I" } : Jvm.MethodName)) ∈ lw_all := lw_g (lw_at lw_m3 21 rfl) rfl
theorem q576 : (Jvm.Cond.instanceMethod ({ cls := "SeenByOne$House", name := "eyes", desc := "(I)I" } : Jvm.MethodName)) ∈ lw_all := lw_g (lw_at lw_m3 22 rfl) rfl
theorem q577 : (Jvm.Cond.code ({ cls := "SeenByOne$House", name := "eyes", desc := "(I)I" } : Jvm.MethodName) prog_7_method_4_code (2 : Nat) (Option.some Jvm.ClassFile.FieldType.int)) ∈ lw_all := lw_g (lw_at lw_m3 23 rfl) rfl
theorem q625 : (Jvm.Cond.selects "SeenByOne$House" ({ cls := "SeenByOne$Thing", name := "tall", desc := "(IZ)I" } : Jvm.MethodName) ({ cls := "SeenByOne$Thing", name := "tall", desc := "(IZ)I" } : Jvm.MethodName)) ∈ lw_all := lw_g (lw_at lw_m3 71 rfl) rfl
theorem q636 : (Jvm.Cond.selects "SeenByOne$House" ({ cls := "SeenByOne$Thing", name := "counts", desc := "()Z" } : Jvm.MethodName) ({ cls := "SeenByOne$Thing", name := "counts", desc := "()Z" } : Jvm.MethodName)) ∈ lw_all := lw_g (lw_at lw_m3 82 rfl) rfl
theorem q667 : (Jvm.Cond.selects "SeenByOne$House" ({ cls := "SeenByOne$Thing", name := "wanted", desc := "()I" } : Jvm.MethodName) ({ cls := "SeenByOne$Thing", name := "wanted", desc := "()I" } : Jvm.MethodName)) ∈ lw_all := lw_g (lw_at lw_m3 113 rfl) rfl
theorem q672 : (Jvm.Cond.sameMethod "SeenByOne$House" "SeenByOne$Thing" "wanted" "()I") ∈ lw_all := lw_g (lw_at lw_m3 118 rfl) rfl
theorem q675 : (Jvm.Cond.superclass "SeenByOne$House" "SeenByOne$Thing") ∈ lw_all := lw_g (lw_at lw_m3 121 rfl) rfl
theorem q707 : (Jvm.Cond.instantiable "SeenByOne$House" (4 : Nat)) ∈ lw_all := lw_g (lw_at lw_m3 153 rfl) rfl
theorem q709 : (Jvm.Cond.instanceMethod ({ cls := "SeenByOne$House", name := "<init>", desc := "(IIII)V" } : Jvm.MethodName)) ∈ lw_all := lw_g (lw_at lw_m3 155 rfl) rfl
theorem q710 : (Jvm.Cond.code ({ cls := "SeenByOne$House", name := "<init>", desc := "(IIII)V" } : Jvm.MethodName) prog_7_method_1_code (5 : Nat) (Option.none : Option Jvm.ClassFile.FieldType)) ∈ lw_all := lw_g (lw_at lw_m3 156 rfl) rfl
theorem q711 : (Jvm.Cond.methodLink "SeenByOne$House" (3 : Nat) ({ cls := "SeenByOne$Thing", name := "<init>", desc := "(IIII)V" } : Jvm.MethodName)) ∈ lw_all := lw_g (lw_at lw_m3 157 rfl) rfl
theorem q717 : (Jvm.Cond.sameField "SeenByOne$House" "SeenByOne$Thing" "index" "I") ∈ lw_all := lw_g (lw_at lw_m3 163 rfl) rfl
theorem q740 : (Jvm.Cond.fieldLink "SeenByOne$House" (19 : Nat) "SeenByOne$House" "by" "I") ∈ lw_all := lw_g (lw_at lw_m3 186 rfl) rfl
theorem q741 : (Jvm.Cond.sameField "SeenByOne$House" "SeenByOne$Thing" "by" "I") ∈ lw_all := lw_g (lw_at lw_m3 187 rfl) rfl
theorem q744 : (Jvm.Cond.laysFinal "SeenByOne$House" "SeenByOne$Thing" "index" "I") ∈ lw_all := lw_g (lw_at lw_m3 190 rfl) rfl
theorem q746 : (Jvm.Cond.laysFinal "SeenByOne$House" "SeenByOne$Thing" "x" "I") ∈ lw_all := lw_g (lw_at lw_m3 192 rfl) rfl
theorem q748 : (Jvm.Cond.laysFinal "SeenByOne$House" "SeenByOne$Thing" "y" "I") ∈ lw_all := lw_g (lw_at lw_m3 194 rfl) rfl
theorem q750 : (Jvm.Cond.laysFinal "SeenByOne$House" "SeenByOne$Thing" "by" "I") ∈ lw_all := lw_g (lw_at lw_m3 196 rfl) rfl
theorem q828 : (Jvm.Cond.selects "SeenByOne$House" ({ cls := "SeenByOne$Thing", name := "kind", desc := "()I" } : Jvm.MethodName) ({ cls := "SeenByOne$House", name := "kind", desc := "()I" } : Jvm.MethodName)) ∈ lw_all := lw_g (lw_at lw_m4 34 rfl) rfl
theorem q829 : (Jvm.Cond.instanceMethod ({ cls := "SeenByOne$House", name := "kind", desc := "()I" } : Jvm.MethodName)) ∈ lw_all := lw_g (lw_at lw_m4 35 rfl) rfl
theorem q830 : (Jvm.Cond.code ({ cls := "SeenByOne$House", name := "kind", desc := "()I" } : Jvm.MethodName) prog_7_method_2_code (1 : Nat) (Option.some Jvm.ClassFile.FieldType.int)) ∈ lw_all := lw_g (lw_at lw_m4 36 rfl) rfl
theorem q1219 : (Jvm.Cond.selects "SeenByOne$House" ({ cls := "SeenByOne$Thing", name := "grows", desc := "()Z" } : Jvm.MethodName) ({ cls := "SeenByOne$Thing", name := "grows", desc := "()Z" } : Jvm.MethodName)) ∈ lw_all := lw_g (lw_at lw_m5 185 rfl) rfl
theorem q1247 : (Jvm.Cond.instanceMethod ({ cls := "SeenByOne$House", name := "standing", desc := "(ILSeenByOne$Trace;)I" } : Jvm.MethodName)) ∈ lw_all := lw_g (lw_at lw_m5 213 rfl) rfl
theorem q1248 : (Jvm.Cond.code ({ cls := "SeenByOne$House", name := "standing", desc := "(ILSeenByOne$Trace;)I" } : Jvm.MethodName) prog_7_method_5_code (3 : Nat) (Option.some Jvm.ClassFile.FieldType.int)) ∈ lw_all := lw_g (lw_at lw_m5 214 rfl) rfl
theorem q1249 : (Jvm.Cond.methodLink "SeenByOne$House" (9 : Nat) ({ cls := "SeenByOne$Trace", name := "runs", desc := "(I)V" } : Jvm.MethodName)) ∈ lw_all := lw_g (lw_at lw_m5 215 rfl) rfl
theorem q1253 : (Jvm.Cond.methodLink "SeenByOne$House" (15 : Nat) ({ cls := "SeenByOne$Thing", name := "standing", desc := "(ILSeenByOne$Trace;)I" } : Jvm.MethodName)) ∈ lw_all := lw_g (lw_at lw_m5 219 rfl) rfl
theorem q1261 : (Jvm.Cond.selects "SeenByOne$House" ({ cls := "SeenByOne$Thing", name := "standing", desc := "(ILSeenByOne$Trace;)I" } : Jvm.MethodName) ({ cls := "SeenByOne$House", name := "standing", desc := "(ILSeenByOne$Trace;)I" } : Jvm.MethodName)) ∈ lw_all := lw_g (lw_at lw_m5 227 rfl) rfl
theorem q1284 : (Jvm.Cond.selects "SeenByOne$House" ({ cls := "SeenByOne$Thing", name := "looking", desc := "(ILSeenByOne$Trace;)I" } : Jvm.MethodName) ({ cls := "SeenByOne$Thing", name := "looking", desc := "(ILSeenByOne$Trace;)I" } : Jvm.MethodName)) ∈ lw_all := lw_g (lw_at lw_m6 10 rfl) rfl
theorem q1291 : (Jvm.Cond.sameMethod "SeenByOne$House" "SeenByOne$Thing" "looking" "(ILSeenByOne$Trace;)I") ∈ lw_all := lw_g (lw_at lw_m6 17 rfl) rfl
theorem q1305 : (Jvm.Cond.sameMethod "SeenByOne$House" "SeenByOne$Thing" "hiding" "(ILSeenByOne$Trace;)I") ∈ lw_all := lw_g (lw_at lw_m6 31 rfl) rfl
theorem q1308 : (Jvm.Cond.selects "SeenByOne$House" ({ cls := "SeenByOne$Thing", name := "hiding", desc := "(ILSeenByOne$Trace;)I" } : Jvm.MethodName) ({ cls := "SeenByOne$Thing", name := "hiding", desc := "(ILSeenByOne$Trace;)I" } : Jvm.MethodName)) ∈ lw_all := lw_g (lw_at lw_m6 34 rfl) rfl
theorem q1832 : (Jvm.Cond.sameMethod "SeenByOne$House" "SeenByOne$House" "eyes" "(I)I") ∈ lw_all := lw_g (lw_at lw_m8 78 rfl) rfl
theorem q1835 : (Jvm.Cond.sameMethod "SeenByOne$House" "SeenByOne$House" "standing" "(ILSeenByOne$Trace;)I") ∈ lw_all := lw_g (lw_at lw_m8 81 rfl) rfl
theorem q1844 : (Jvm.Cond.castable "SeenByOne$House" "SeenByOne$Thing") ∈ lw_tbl := lw_at lw_m8 90 rfl
theorem in_X12 : ∀ w ∈ wsX120, w ∈ lw_all := lw_in wsX120 [744, 746, 748, 750] (by decide +kernel) (by decide +kernel)

/-! SeenByOne$Tree -/
set_option maxRecDepth 100000
def RX13 : String := "SeenByOne$Tree"
def TX13 : u_T := fun k => match k with
  | 0 => ("SeenByOne$Thing", "index", "I", true)
  | 1 => ("SeenByOne$Thing", "x", "I", true)
  | 2 => ("SeenByOne$Thing", "y", "I", true)
  | _ => ("SeenByOne$Thing", "by", "I", true)
def tyX13 : Nat → FieldType := fun k => match k with
  | 0 => .int
  | 1 => .int
  | 2 => .int
  | _ => .int
abbrev wsX130 : List Cond := u_ws RX13 TX13 4
theorem nmX13 : ∀ a, a < 4 → ∀ b, b < 4 → a ≠ b → (TX13 a).2.1 ≠ (TX13 b).2.1 := by decide +kernel
theorem tyX13_ok : ∀ k, k < 4 → parseFieldDescriptor (TX13 k).2.2.1 = some (tyX13 k) := by decide +kernel
abbrev cX13_tall : ByteArray := prog_19_method_4_code
def yX13_tall : MethodName := ⟨RX13, "tall", "(IZ)I"⟩
def dkwX13_tall_0 : List UInt8 := [28, 153, 0, 17, 42, 27, 4, 183, 0, 9, 42, 180, 0, 13, 96, 167, 0, 4, 3, 172]
abbrev dktX13_tall_0 : List UInt8 := dkwX13_tall_0 ++ []
theorem dksX13_tall_0 : cX13_tall.data.toList.drop 0 = dktX13_tall_0 := by decide +kernel
theorem dX13_tall_0 : decode cX13_tall 0 = .ok (.iload_n 2, 1) := dk_28 (dk_at dksX13_tall_0 0 rfl rfl)
theorem dX13_tall_1 : decode cX13_tall 1 = .ok (.ifCond .eq 17, 3) := dk_153 0 17 (dk_at dksX13_tall_0 1 rfl rfl)
theorem dX13_tall_4 : decode cX13_tall 4 = .ok (.aload_n 0, 1) := dk_42 (dk_at dksX13_tall_0 4 rfl rfl)
theorem dX13_tall_5 : decode cX13_tall 5 = .ok (.iload_n 1, 1) := dk_27 (dk_at dksX13_tall_0 5 rfl rfl)
theorem dX13_tall_6 : decode cX13_tall 6 = .ok (.iconst 1, 1) := dk_4 (dk_at dksX13_tall_0 6 rfl rfl)
theorem dX13_tall_7 : decode cX13_tall 7 = .ok (.invokespecial 9, 3) := dk_183 0 9 (dk_at dksX13_tall_0 7 rfl rfl)
theorem dX13_tall_10 : decode cX13_tall 10 = .ok (.aload_n 0, 1) := dk_42 (dk_at dksX13_tall_0 10 rfl rfl)
theorem dX13_tall_11 : decode cX13_tall 11 = .ok (.getfield 13, 3) := dk_180 0 13 (dk_at dksX13_tall_0 11 rfl rfl)
theorem dX13_tall_14 : decode cX13_tall 14 = .ok (.iadd, 1) := dk_96 (dk_at dksX13_tall_0 14 rfl rfl)
theorem dX13_tall_15 : decode cX13_tall 15 = .ok (.goto 4, 3) := dk_167 0 4 (dk_at dksX13_tall_0 15 rfl rfl)
theorem dX13_tall_18 : decode cX13_tall 18 = .ok (.iconst 0, 1) := dk_3 (dk_at dksX13_tall_0 18 rfl rfl)
theorem dX13_tall_19 : decode cX13_tall 19 = .ok (.ireturn, 1) := dk_172 (dk_at dksX13_tall_0 19 rfl rfl)
abbrev cX13_init : ByteArray := prog_19_method_1_code
def yX13_init : MethodName := ⟨RX13, "<init>", "(IIII)V"⟩
def dkwX13_init_0 : List UInt8 := [42, 27, 28, 29, 21, 4, 183, 0, 3, 177]
abbrev dktX13_init_0 : List UInt8 := dkwX13_init_0 ++ []
theorem dksX13_init_0 : cX13_init.data.toList.drop 0 = dktX13_init_0 := by decide +kernel
theorem dX13_init_0 : decode cX13_init 0 = .ok (.aload_n 0, 1) := dk_42 (dk_at dksX13_init_0 0 rfl rfl)
theorem dX13_init_1 : decode cX13_init 1 = .ok (.iload_n 1, 1) := dk_27 (dk_at dksX13_init_0 1 rfl rfl)
theorem dX13_init_2 : decode cX13_init 2 = .ok (.iload_n 2, 1) := dk_28 (dk_at dksX13_init_0 2 rfl rfl)
theorem dX13_init_3 : decode cX13_init 3 = .ok (.iload_n 3, 1) := dk_29 (dk_at dksX13_init_0 3 rfl rfl)
theorem dX13_init_4 : decode cX13_init 4 = .ok (.iload 4, 2) := dk_21 4 (dk_at dksX13_init_0 4 rfl rfl)
theorem dX13_init_6 : decode cX13_init 6 = .ok (.invokespecial 3, 3) := dk_183 0 3 (dk_at dksX13_init_0 6 rfl rfl)
theorem dX13_init_9 : decode cX13_init 9 = .ok (.return_, 1) := dk_177 (dk_at dksX13_init_0 9 rfl rfl)
abbrev cX13_kind : ByteArray := prog_19_method_2_code
def yX13_kind : MethodName := ⟨RX13, "kind", "()I"⟩
theorem dX13_kind_0 : decode cX13_kind 0 = .ok (.iconst 2, 1) := by decide +kernel
theorem dX13_kind_1 : decode cX13_kind 1 = .ok (.ireturn, 1) := by decide +kernel
abbrev cX13_grows : ByteArray := prog_19_method_3_code
def yX13_grows : MethodName := ⟨RX13, "grows", "()Z"⟩
theorem dX13_grows_0 : decode cX13_grows 0 = .ok (.iconst 1, 1) := by decide +kernel
theorem dX13_grows_1 : decode cX13_grows 1 = .ok (.ireturn, 1) := by decide +kernel
abbrev cX13_looking : ByteArray := prog_19_method_5_code
def yX13_looking : MethodName := ⟨RX13, "looking", "(ILSeenByOne$Trace;)I"⟩
def dkwX13_looking_0 : List UInt8 := [44, 16, 30, 182, 0, 19, 42, 27, 44, 183, 0, 25, 6, 104, 172]
abbrev dktX13_looking_0 : List UInt8 := dkwX13_looking_0 ++ []
theorem dksX13_looking_0 : cX13_looking.data.toList.drop 0 = dktX13_looking_0 := by decide +kernel
theorem dX13_looking_0 : decode cX13_looking 0 = .ok (.aload_n 2, 1) := dk_44 (dk_at dksX13_looking_0 0 rfl rfl)
theorem dX13_looking_1 : decode cX13_looking 1 = .ok (.bipush 30, 2) := dk_16 30 (dk_at dksX13_looking_0 1 rfl rfl)
theorem dX13_looking_3 : decode cX13_looking 3 = .ok (.invokevirtual 19, 3) := dk_182 0 19 (dk_at dksX13_looking_0 3 rfl rfl)
theorem dX13_looking_6 : decode cX13_looking 6 = .ok (.aload_n 0, 1) := dk_42 (dk_at dksX13_looking_0 6 rfl rfl)
theorem dX13_looking_7 : decode cX13_looking 7 = .ok (.iload_n 1, 1) := dk_27 (dk_at dksX13_looking_0 7 rfl rfl)
theorem dX13_looking_8 : decode cX13_looking 8 = .ok (.aload_n 2, 1) := dk_44 (dk_at dksX13_looking_0 8 rfl rfl)
theorem dX13_looking_9 : decode cX13_looking 9 = .ok (.invokespecial 25, 3) := dk_183 0 25 (dk_at dksX13_looking_0 9 rfl rfl)
theorem dX13_looking_12 : decode cX13_looking 12 = .ok (.iconst 3, 1) := dk_6 (dk_at dksX13_looking_0 12 rfl rfl)
theorem dX13_looking_13 : decode cX13_looking 13 = .ok (.imul, 1) := dk_104 (dk_at dksX13_looking_0 13 rfl rfl)
theorem dX13_looking_14 : decode cX13_looking 14 = .ok (.ireturn, 1) := dk_172 (dk_at dksX13_looking_0 14 rfl rfl)
theorem q99 : (Jvm.Cond.initialized "SeenByOne$Tree") ∈ lw_all := lw_g (lw_at lw_m1 25 rfl) rfl
theorem q557 : (Jvm.Cond.selects "SeenByOne$Tree" ({ cls := "SeenByOne$Thing", name := "isHouse", desc := "()Z" } : Jvm.MethodName) ({ cls := "SeenByOne$Thing", name := "isHouse", desc := "()Z" } : Jvm.MethodName)) ∈ lw_all := lw_g (lw_at lw_m3 3 rfl) rfl
theorem q584 : (Jvm.Cond.selects "SeenByOne$Tree" ({ cls := "SeenByOne$Thing", name := "eyes", desc := "(I)I" } : Jvm.MethodName) ({ cls := "SeenByOne$Thing", name := "eyes", desc := "(I)I" } : Jvm.MethodName)) ∈ lw_all := lw_g (lw_at lw_m3 30 rfl) rfl
theorem q621 : (Jvm.Cond.instanceMethod ({ cls := "SeenByOne$Tree", name := "tall", desc := "(IZ)I" } : Jvm.MethodName)) ∈ lw_all := lw_g (lw_at lw_m3 67 rfl) rfl
theorem q622 : (Jvm.Cond.code ({ cls := "SeenByOne$Tree", name := "tall", desc := "(IZ)I" } : Jvm.MethodName) prog_19_method_4_code (3 : Nat) (Option.some Jvm.ClassFile.FieldType.int)) ∈ lw_all := lw_g (lw_at lw_m3 68 rfl) rfl
theorem q623 : (Jvm.Cond.methodLink "SeenByOne$Tree" (9 : Nat) ({ cls := "SeenByOne$Thing", name := "tall", desc := "(IZ)I" } : Jvm.MethodName)) ∈ lw_all := lw_g (lw_at lw_m3 69 rfl) rfl
theorem q624 : (Jvm.Cond.superclass "SeenByOne$Tree" "SeenByOne$Thing") ∈ lw_all := lw_g (lw_at lw_m3 70 rfl) rfl
theorem q628 : (Jvm.Cond.selects "SeenByOne$Tree" ({ cls := "SeenByOne$Thing", name := "tall", desc := "(IZ)I" } : Jvm.MethodName) ({ cls := "SeenByOne$Tree", name := "tall", desc := "(IZ)I" } : Jvm.MethodName)) ∈ lw_all := lw_g (lw_at lw_m3 74 rfl) rfl
theorem q641 : (Jvm.Cond.selects "SeenByOne$Tree" ({ cls := "SeenByOne$Thing", name := "counts", desc := "()Z" } : Jvm.MethodName) ({ cls := "SeenByOne$Thing", name := "counts", desc := "()Z" } : Jvm.MethodName)) ∈ lw_all := lw_g (lw_at lw_m3 87 rfl) rfl
theorem q677 : (Jvm.Cond.selects "SeenByOne$Tree" ({ cls := "SeenByOne$Thing", name := "wanted", desc := "()I" } : Jvm.MethodName) ({ cls := "SeenByOne$Thing", name := "wanted", desc := "()I" } : Jvm.MethodName)) ∈ lw_all := lw_g (lw_at lw_m3 123 rfl) rfl
theorem q719 : (Jvm.Cond.sameField "SeenByOne$Tree" "SeenByOne$Thing" "index" "I") ∈ lw_all := lw_g (lw_at lw_m3 165 rfl) rfl
theorem q738 : (Jvm.Cond.fieldLink "SeenByOne$Tree" (13 : Nat) "SeenByOne$Tree" "by" "I") ∈ lw_all := lw_g (lw_at lw_m3 184 rfl) rfl
theorem q739 : (Jvm.Cond.sameField "SeenByOne$Tree" "SeenByOne$Thing" "by" "I") ∈ lw_all := lw_g (lw_at lw_m3 185 rfl) rfl
theorem q753 : (Jvm.Cond.instantiable "SeenByOne$Tree" (4 : Nat)) ∈ lw_all := lw_g (lw_at lw_m3 199 rfl) rfl
theorem q755 : (Jvm.Cond.instanceMethod ({ cls := "SeenByOne$Tree", name := "<init>", desc := "(IIII)V" } : Jvm.MethodName)) ∈ lw_all := lw_g (lw_at lw_m3 201 rfl) rfl
theorem q756 : (Jvm.Cond.code ({ cls := "SeenByOne$Tree", name := "<init>", desc := "(IIII)V" } : Jvm.MethodName) prog_19_method_1_code (5 : Nat) (Option.none : Option Jvm.ClassFile.FieldType)) ∈ lw_all := lw_g (lw_at lw_m3 202 rfl) rfl
theorem q757 : (Jvm.Cond.methodLink "SeenByOne$Tree" (3 : Nat) ({ cls := "SeenByOne$Thing", name := "<init>", desc := "(IIII)V" } : Jvm.MethodName)) ∈ lw_all := lw_g (lw_at lw_m3 203 rfl) rfl
theorem q758 : (Jvm.Cond.laysFinal "SeenByOne$Tree" "SeenByOne$Thing" "index" "I") ∈ lw_all := lw_g (lw_at lw_m3 204 rfl) rfl
theorem q759 : (Jvm.Cond.laysFinal "SeenByOne$Tree" "SeenByOne$Thing" "x" "I") ∈ lw_all := lw_g (lw_at lw_m3 205 rfl) rfl
theorem q760 : (Jvm.Cond.laysFinal "SeenByOne$Tree" "SeenByOne$Thing" "y" "I") ∈ lw_all := lw_g (lw_at lw_m3 206 rfl) rfl
theorem q761 : (Jvm.Cond.laysFinal "SeenByOne$Tree" "SeenByOne$Thing" "by" "I") ∈ lw_all := lw_g (lw_at lw_m3 207 rfl) rfl
theorem q837 : (Jvm.Cond.selects "SeenByOne$Tree" ({ cls := "SeenByOne$Thing", name := "kind", desc := "()I" } : Jvm.MethodName) ({ cls := "SeenByOne$Tree", name := "kind", desc := "()I" } : Jvm.MethodName)) ∈ lw_all := lw_g (lw_at lw_m4 43 rfl) rfl
theorem q838 : (Jvm.Cond.instanceMethod ({ cls := "SeenByOne$Tree", name := "kind", desc := "()I" } : Jvm.MethodName)) ∈ lw_all := lw_g (lw_at lw_m4 44 rfl) rfl
theorem q839 : (Jvm.Cond.code ({ cls := "SeenByOne$Tree", name := "kind", desc := "()I" } : Jvm.MethodName) prog_19_method_2_code (1 : Nat) (Option.some Jvm.ClassFile.FieldType.int)) ∈ lw_all := lw_g (lw_at lw_m4 45 rfl) rfl
theorem q1217 : (Jvm.Cond.instanceMethod ({ cls := "SeenByOne$Tree", name := "grows", desc := "()Z" } : Jvm.MethodName)) ∈ lw_all := lw_g (lw_at lw_m5 183 rfl) rfl
theorem q1218 : (Jvm.Cond.code ({ cls := "SeenByOne$Tree", name := "grows", desc := "()Z" } : Jvm.MethodName) prog_19_method_3_code (1 : Nat) (Option.some Jvm.ClassFile.FieldType.boolean)) ∈ lw_all := lw_g (lw_at lw_m5 184 rfl) rfl
theorem q1222 : (Jvm.Cond.selects "SeenByOne$Tree" ({ cls := "SeenByOne$Thing", name := "grows", desc := "()Z" } : Jvm.MethodName) ({ cls := "SeenByOne$Tree", name := "grows", desc := "()Z" } : Jvm.MethodName)) ∈ lw_all := lw_g (lw_at lw_m5 188 rfl) rfl
theorem q1259 : (Jvm.Cond.sameMethod "SeenByOne$Tree" "SeenByOne$Thing" "standing" "(ILSeenByOne$Trace;)I") ∈ lw_all := lw_g (lw_at lw_m5 225 rfl) rfl
theorem q1268 : (Jvm.Cond.selects "SeenByOne$Tree" ({ cls := "SeenByOne$Thing", name := "standing", desc := "(ILSeenByOne$Trace;)I" } : Jvm.MethodName) ({ cls := "SeenByOne$Thing", name := "standing", desc := "(ILSeenByOne$Trace;)I" } : Jvm.MethodName)) ∈ lw_all := lw_g (lw_at lw_m5 234 rfl) rfl
theorem q1280 : (Jvm.Cond.instanceMethod ({ cls := "SeenByOne$Tree", name := "looking", desc := "(ILSeenByOne$Trace;)I" } : Jvm.MethodName)) ∈ lw_all := lw_g (lw_at lw_m6 6 rfl) rfl
theorem q1281 : (Jvm.Cond.code ({ cls := "SeenByOne$Tree", name := "looking", desc := "(ILSeenByOne$Trace;)I" } : Jvm.MethodName) prog_19_method_5_code (3 : Nat) (Option.some Jvm.ClassFile.FieldType.int)) ∈ lw_all := lw_g (lw_at lw_m6 7 rfl) rfl
theorem q1282 : (Jvm.Cond.methodLink "SeenByOne$Tree" (19 : Nat) ({ cls := "SeenByOne$Trace", name := "runs", desc := "(I)V" } : Jvm.MethodName)) ∈ lw_all := lw_g (lw_at lw_m6 8 rfl) rfl
theorem q1283 : (Jvm.Cond.methodLink "SeenByOne$Tree" (25 : Nat) ({ cls := "SeenByOne$Thing", name := "looking", desc := "(ILSeenByOne$Trace;)I" } : Jvm.MethodName)) ∈ lw_all := lw_g (lw_at lw_m6 9 rfl) rfl
theorem q1293 : (Jvm.Cond.selects "SeenByOne$Tree" ({ cls := "SeenByOne$Thing", name := "looking", desc := "(ILSeenByOne$Trace;)I" } : Jvm.MethodName) ({ cls := "SeenByOne$Tree", name := "looking", desc := "(ILSeenByOne$Trace;)I" } : Jvm.MethodName)) ∈ lw_all := lw_g (lw_at lw_m6 19 rfl) rfl
theorem q1314 : (Jvm.Cond.selects "SeenByOne$Tree" ({ cls := "SeenByOne$Thing", name := "hiding", desc := "(ILSeenByOne$Trace;)I" } : Jvm.MethodName) ({ cls := "SeenByOne$Thing", name := "hiding", desc := "(ILSeenByOne$Trace;)I" } : Jvm.MethodName)) ∈ lw_all := lw_g (lw_at lw_m6 40 rfl) rfl
theorem q1833 : (Jvm.Cond.sameMethod "SeenByOne$Tree" "SeenByOne$Tree" "tall" "(IZ)I") ∈ lw_all := lw_g (lw_at lw_m8 79 rfl) rfl
theorem q1836 : (Jvm.Cond.sameMethod "SeenByOne$Tree" "SeenByOne$Tree" "looking" "(ILSeenByOne$Trace;)I") ∈ lw_all := lw_g (lw_at lw_m8 82 rfl) rfl
theorem q1847 : (Jvm.Cond.castable "SeenByOne$Tree" "SeenByOne$Thing") ∈ lw_tbl := lw_at lw_m8 93 rfl
theorem in_X13 : ∀ w ∈ wsX130, w ∈ lw_all := lw_in wsX130 [758, 759, 760, 761] (by decide +kernel) (by decide +kernel)

/-! SeenByOne$Tower -/
set_option maxRecDepth 100000
def RX14 : String := "SeenByOne$Tower"
def TX14 : u_T := fun k => match k with
  | 0 => ("SeenByOne$Thing", "index", "I", true)
  | 1 => ("SeenByOne$Thing", "x", "I", true)
  | 2 => ("SeenByOne$Thing", "y", "I", true)
  | _ => ("SeenByOne$Thing", "by", "I", true)
def tyX14 : Nat → FieldType := fun k => match k with
  | 0 => .int
  | 1 => .int
  | 2 => .int
  | _ => .int
abbrev wsX140 : List Cond := u_ws RX14 TX14 4
theorem nmX14 : ∀ a, a < 4 → ∀ b, b < 4 → a ≠ b → (TX14 a).2.1 ≠ (TX14 b).2.1 := by decide +kernel
theorem tyX14_ok : ∀ k, k < 4 → parseFieldDescriptor (TX14 k).2.2.1 = some (tyX14 k) := by decide +kernel
abbrev cX14_eyes : ByteArray := prog_17_method_3_code
def yX14_eyes : MethodName := ⟨RX14, "eyes", "(I)I"⟩
def dkwX14_eyes_0 : List UInt8 := [42, 27, 183, 0, 9, 42, 180, 0, 13, 96, 172]
abbrev dktX14_eyes_0 : List UInt8 := dkwX14_eyes_0 ++ []
theorem dksX14_eyes_0 : cX14_eyes.data.toList.drop 0 = dktX14_eyes_0 := by decide +kernel
theorem dX14_eyes_0 : decode cX14_eyes 0 = .ok (.aload_n 0, 1) := dk_42 (dk_at dksX14_eyes_0 0 rfl rfl)
theorem dX14_eyes_1 : decode cX14_eyes 1 = .ok (.iload_n 1, 1) := dk_27 (dk_at dksX14_eyes_0 1 rfl rfl)
theorem dX14_eyes_2 : decode cX14_eyes 2 = .ok (.invokespecial 9, 3) := dk_183 0 9 (dk_at dksX14_eyes_0 2 rfl rfl)
theorem dX14_eyes_5 : decode cX14_eyes 5 = .ok (.aload_n 0, 1) := dk_42 (dk_at dksX14_eyes_0 5 rfl rfl)
theorem dX14_eyes_6 : decode cX14_eyes 6 = .ok (.getfield 13, 3) := dk_180 0 13 (dk_at dksX14_eyes_0 6 rfl rfl)
theorem dX14_eyes_9 : decode cX14_eyes 9 = .ok (.iadd, 1) := dk_96 (dk_at dksX14_eyes_0 9 rfl rfl)
theorem dX14_eyes_10 : decode cX14_eyes 10 = .ok (.ireturn, 1) := dk_172 (dk_at dksX14_eyes_0 10 rfl rfl)
abbrev cX14_counts : ByteArray := prog_17_method_4_code
def yX14_counts : MethodName := ⟨RX14, "counts", "()Z"⟩
theorem dX14_counts_0 : decode cX14_counts 0 = .ok (.iconst 0, 1) := by decide +kernel
theorem dX14_counts_1 : decode cX14_counts 1 = .ok (.ireturn, 1) := by decide +kernel
abbrev cX14_init : ByteArray := prog_17_method_1_code
def yX14_init : MethodName := ⟨RX14, "<init>", "(IIII)V"⟩
def dkwX14_init_0 : List UInt8 := [42, 27, 28, 29, 21, 4, 183, 0, 3, 177]
abbrev dktX14_init_0 : List UInt8 := dkwX14_init_0 ++ []
theorem dksX14_init_0 : cX14_init.data.toList.drop 0 = dktX14_init_0 := by decide +kernel
theorem dX14_init_0 : decode cX14_init 0 = .ok (.aload_n 0, 1) := dk_42 (dk_at dksX14_init_0 0 rfl rfl)
theorem dX14_init_1 : decode cX14_init 1 = .ok (.iload_n 1, 1) := dk_27 (dk_at dksX14_init_0 1 rfl rfl)
theorem dX14_init_2 : decode cX14_init 2 = .ok (.iload_n 2, 1) := dk_28 (dk_at dksX14_init_0 2 rfl rfl)
theorem dX14_init_3 : decode cX14_init 3 = .ok (.iload_n 3, 1) := dk_29 (dk_at dksX14_init_0 3 rfl rfl)
theorem dX14_init_4 : decode cX14_init 4 = .ok (.iload 4, 2) := dk_21 4 (dk_at dksX14_init_0 4 rfl rfl)
theorem dX14_init_6 : decode cX14_init 6 = .ok (.invokespecial 3, 3) := dk_183 0 3 (dk_at dksX14_init_0 6 rfl rfl)
theorem dX14_init_9 : decode cX14_init 9 = .ok (.return_, 1) := dk_177 (dk_at dksX14_init_0 9 rfl rfl)
abbrev cX14_kind : ByteArray := prog_17_method_2_code
def yX14_kind : MethodName := ⟨RX14, "kind", "()I"⟩
theorem dX14_kind_0 : decode cX14_kind 0 = .ok (.iconst 3, 1) := by decide +kernel
theorem dX14_kind_1 : decode cX14_kind 1 = .ok (.ireturn, 1) := by decide +kernel
abbrev cX14_looking : ByteArray := prog_17_method_5_code
def yX14_looking : MethodName := ⟨RX14, "looking", "(ILSeenByOne$Trace;)I"⟩
def dkwX14_looking_0 : List UInt8 := [44, 16, 40, 182, 0, 19, 42, 27, 4, 96, 44, 183, 0, 25, 172]
abbrev dktX14_looking_0 : List UInt8 := dkwX14_looking_0 ++ []
theorem dksX14_looking_0 : cX14_looking.data.toList.drop 0 = dktX14_looking_0 := by decide +kernel
theorem dX14_looking_0 : decode cX14_looking 0 = .ok (.aload_n 2, 1) := dk_44 (dk_at dksX14_looking_0 0 rfl rfl)
theorem dX14_looking_1 : decode cX14_looking 1 = .ok (.bipush 40, 2) := dk_16 40 (dk_at dksX14_looking_0 1 rfl rfl)
theorem dX14_looking_3 : decode cX14_looking 3 = .ok (.invokevirtual 19, 3) := dk_182 0 19 (dk_at dksX14_looking_0 3 rfl rfl)
theorem dX14_looking_6 : decode cX14_looking 6 = .ok (.aload_n 0, 1) := dk_42 (dk_at dksX14_looking_0 6 rfl rfl)
theorem dX14_looking_7 : decode cX14_looking 7 = .ok (.iload_n 1, 1) := dk_27 (dk_at dksX14_looking_0 7 rfl rfl)
theorem dX14_looking_8 : decode cX14_looking 8 = .ok (.iconst 1, 1) := dk_4 (dk_at dksX14_looking_0 8 rfl rfl)
theorem dX14_looking_9 : decode cX14_looking 9 = .ok (.iadd, 1) := dk_96 (dk_at dksX14_looking_0 9 rfl rfl)
theorem dX14_looking_10 : decode cX14_looking 10 = .ok (.aload_n 2, 1) := dk_44 (dk_at dksX14_looking_0 10 rfl rfl)
theorem dX14_looking_11 : decode cX14_looking 11 = .ok (.invokespecial 25, 3) := dk_183 0 25 (dk_at dksX14_looking_0 11 rfl rfl)
theorem dX14_looking_14 : decode cX14_looking 14 = .ok (.ireturn, 1) := dk_172 (dk_at dksX14_looking_0 14 rfl rfl)
theorem q100 : (Jvm.Cond.initialized "SeenByOne$Tower") ∈ lw_all := lw_g (lw_at lw_m1 26 rfl) rfl
theorem q556 : (Jvm.Cond.selects "SeenByOne$Tower" ({ cls := "SeenByOne$Thing", name := "isHouse", desc := "()Z" } : Jvm.MethodName) ({ cls := "SeenByOne$House", name := "isHouse", desc := "()Z" } : Jvm.MethodName)) ∈ lw_all := lw_g (lw_at lw_m3 2 rfl) rfl
theorem q579 : (Jvm.Cond.selects "SeenByOne$Tower" ({ cls := "SeenByOne$Thing", name := "eyes", desc := "(I)I" } : Jvm.MethodName) ({ cls := "SeenByOne$Tower", name := "eyes", desc := "(I)I" } : Jvm.MethodName)) ∈ lw_all := lw_g (lw_at lw_m3 25 rfl) rfl
theorem q580 : (Jvm.Cond.instanceMethod ({ cls := "SeenByOne$Tower", name := "eyes", desc := "(I)I" } : Jvm.MethodName)) ∈ lw_all := lw_g (lw_at lw_m3 26 rfl) rfl
theorem q581 : (Jvm.Cond.code ({ cls := "SeenByOne$Tower", name := "eyes", desc := "(I)I" } : Jvm.MethodName) prog_17_method_3_code (2 : Nat) (Option.some Jvm.ClassFile.FieldType.int)) ∈ lw_all := lw_g (lw_at lw_m3 27 rfl) rfl
theorem q582 : (Jvm.Cond.methodLink "SeenByOne$Tower" (9 : Nat) ({ cls := "SeenByOne$House", name := "eyes", desc := "(I)I" } : Jvm.MethodName)) ∈ lw_all := lw_g (lw_at lw_m3 28 rfl) rfl
theorem q583 : (Jvm.Cond.superclass "SeenByOne$Tower" "SeenByOne$House") ∈ lw_all := lw_g (lw_at lw_m3 29 rfl) rfl
theorem q627 : (Jvm.Cond.selects "SeenByOne$Tower" ({ cls := "SeenByOne$Thing", name := "tall", desc := "(IZ)I" } : Jvm.MethodName) ({ cls := "SeenByOne$Thing", name := "tall", desc := "(IZ)I" } : Jvm.MethodName)) ∈ lw_all := lw_g (lw_at lw_m3 73 rfl) rfl
theorem q638 : (Jvm.Cond.selects "SeenByOne$Tower" ({ cls := "SeenByOne$Thing", name := "counts", desc := "()Z" } : Jvm.MethodName) ({ cls := "SeenByOne$Tower", name := "counts", desc := "()Z" } : Jvm.MethodName)) ∈ lw_all := lw_g (lw_at lw_m3 84 rfl) rfl
theorem q639 : (Jvm.Cond.instanceMethod ({ cls := "SeenByOne$Tower", name := "counts", desc := "()Z" } : Jvm.MethodName)) ∈ lw_all := lw_g (lw_at lw_m3 85 rfl) rfl
theorem q640 : (Jvm.Cond.code ({ cls := "SeenByOne$Tower", name := "counts", desc := "()Z" } : Jvm.MethodName) prog_17_method_4_code (1 : Nat) (Option.some Jvm.ClassFile.FieldType.boolean)) ∈ lw_all := lw_g (lw_at lw_m3 86 rfl) rfl
theorem q676 : (Jvm.Cond.selects "SeenByOne$Tower" ({ cls := "SeenByOne$Thing", name := "wanted", desc := "()I" } : Jvm.MethodName) ({ cls := "SeenByOne$Thing", name := "wanted", desc := "()I" } : Jvm.MethodName)) ∈ lw_all := lw_g (lw_at lw_m3 122 rfl) rfl
theorem q721 : (Jvm.Cond.sameField "SeenByOne$Tower" "SeenByOne$Thing" "index" "I") ∈ lw_all := lw_g (lw_at lw_m3 167 rfl) rfl
theorem q734 : (Jvm.Cond.fieldLink "SeenByOne$Tower" (13 : Nat) "SeenByOne$Tower" "by" "I") ∈ lw_all := lw_g (lw_at lw_m3 180 rfl) rfl
theorem q735 : (Jvm.Cond.sameField "SeenByOne$Tower" "SeenByOne$Thing" "by" "I") ∈ lw_all := lw_g (lw_at lw_m3 181 rfl) rfl
theorem q763 : (Jvm.Cond.instantiable "SeenByOne$Tower" (4 : Nat)) ∈ lw_all := lw_g (lw_at lw_m3 209 rfl) rfl
theorem q765 : (Jvm.Cond.instanceMethod ({ cls := "SeenByOne$Tower", name := "<init>", desc := "(IIII)V" } : Jvm.MethodName)) ∈ lw_all := lw_g (lw_at lw_m3 211 rfl) rfl
theorem q766 : (Jvm.Cond.code ({ cls := "SeenByOne$Tower", name := "<init>", desc := "(IIII)V" } : Jvm.MethodName) prog_17_method_1_code (5 : Nat) (Option.none : Option Jvm.ClassFile.FieldType)) ∈ lw_all := lw_g (lw_at lw_m3 212 rfl) rfl
theorem q767 : (Jvm.Cond.methodLink "SeenByOne$Tower" (3 : Nat) ({ cls := "SeenByOne$House", name := "<init>", desc := "(IIII)V" } : Jvm.MethodName)) ∈ lw_all := lw_g (lw_at lw_m3 213 rfl) rfl
theorem q768 : (Jvm.Cond.laysFinal "SeenByOne$Tower" "SeenByOne$Thing" "index" "I") ∈ lw_all := lw_g (lw_at lw_m3 214 rfl) rfl
theorem q769 : (Jvm.Cond.laysFinal "SeenByOne$Tower" "SeenByOne$Thing" "x" "I") ∈ lw_all := lw_g (lw_at lw_m3 215 rfl) rfl
theorem q770 : (Jvm.Cond.laysFinal "SeenByOne$Tower" "SeenByOne$Thing" "y" "I") ∈ lw_all := lw_g (lw_at lw_m3 216 rfl) rfl
theorem q771 : (Jvm.Cond.laysFinal "SeenByOne$Tower" "SeenByOne$Thing" "by" "I") ∈ lw_all := lw_g (lw_at lw_m3 217 rfl) rfl
theorem q834 : (Jvm.Cond.selects "SeenByOne$Tower" ({ cls := "SeenByOne$Thing", name := "kind", desc := "()I" } : Jvm.MethodName) ({ cls := "SeenByOne$Tower", name := "kind", desc := "()I" } : Jvm.MethodName)) ∈ lw_all := lw_g (lw_at lw_m4 40 rfl) rfl
theorem q835 : (Jvm.Cond.instanceMethod ({ cls := "SeenByOne$Tower", name := "kind", desc := "()I" } : Jvm.MethodName)) ∈ lw_all := lw_g (lw_at lw_m4 41 rfl) rfl
theorem q836 : (Jvm.Cond.code ({ cls := "SeenByOne$Tower", name := "kind", desc := "()I" } : Jvm.MethodName) prog_17_method_2_code (1 : Nat) (Option.some Jvm.ClassFile.FieldType.int)) ∈ lw_all := lw_g (lw_at lw_m4 42 rfl) rfl
theorem q1221 : (Jvm.Cond.selects "SeenByOne$Tower" ({ cls := "SeenByOne$Thing", name := "grows", desc := "()Z" } : Jvm.MethodName) ({ cls := "SeenByOne$Thing", name := "grows", desc := "()Z" } : Jvm.MethodName)) ∈ lw_all := lw_g (lw_at lw_m5 187 rfl) rfl
theorem q1267 : (Jvm.Cond.selects "SeenByOne$Tower" ({ cls := "SeenByOne$Thing", name := "standing", desc := "(ILSeenByOne$Trace;)I" } : Jvm.MethodName) ({ cls := "SeenByOne$House", name := "standing", desc := "(ILSeenByOne$Trace;)I" } : Jvm.MethodName)) ∈ lw_all := lw_g (lw_at lw_m5 233 rfl) rfl
theorem q1286 : (Jvm.Cond.selects "SeenByOne$Tower" ({ cls := "SeenByOne$Thing", name := "looking", desc := "(ILSeenByOne$Trace;)I" } : Jvm.MethodName) ({ cls := "SeenByOne$Tower", name := "looking", desc := "(ILSeenByOne$Trace;)I" } : Jvm.MethodName)) ∈ lw_all := lw_g (lw_at lw_m6 12 rfl) rfl
theorem q1287 : (Jvm.Cond.instanceMethod ({ cls := "SeenByOne$Tower", name := "looking", desc := "(ILSeenByOne$Trace;)I" } : Jvm.MethodName)) ∈ lw_all := lw_g (lw_at lw_m6 13 rfl) rfl
theorem q1288 : (Jvm.Cond.code ({ cls := "SeenByOne$Tower", name := "looking", desc := "(ILSeenByOne$Trace;)I" } : Jvm.MethodName) prog_17_method_5_code (3 : Nat) (Option.some Jvm.ClassFile.FieldType.int)) ∈ lw_all := lw_g (lw_at lw_m6 14 rfl) rfl
theorem q1289 : (Jvm.Cond.methodLink "SeenByOne$Tower" (19 : Nat) ({ cls := "SeenByOne$Trace", name := "runs", desc := "(I)V" } : Jvm.MethodName)) ∈ lw_all := lw_g (lw_at lw_m6 15 rfl) rfl
theorem q1290 : (Jvm.Cond.methodLink "SeenByOne$Tower" (25 : Nat) ({ cls := "SeenByOne$House", name := "looking", desc := "(ILSeenByOne$Trace;)I" } : Jvm.MethodName)) ∈ lw_all := lw_g (lw_at lw_m6 16 rfl) rfl
theorem q1313 : (Jvm.Cond.selects "SeenByOne$Tower" ({ cls := "SeenByOne$Thing", name := "hiding", desc := "(ILSeenByOne$Trace;)I" } : Jvm.MethodName) ({ cls := "SeenByOne$Thing", name := "hiding", desc := "(ILSeenByOne$Trace;)I" } : Jvm.MethodName)) ∈ lw_all := lw_g (lw_at lw_m6 39 rfl) rfl
theorem q1834 : (Jvm.Cond.selects "SeenByOne$Tower" ({ cls := "SeenByOne$Tower", name := "eyes", desc := "(I)I" } : Jvm.MethodName) ({ cls := "SeenByOne$Tower", name := "eyes", desc := "(I)I" } : Jvm.MethodName)) ∈ lw_all := lw_g (lw_at lw_m8 80 rfl) rfl
theorem q1846 : (Jvm.Cond.castable "SeenByOne$Tower" "SeenByOne$Thing") ∈ lw_tbl := lw_at lw_m8 92 rfl
theorem q1850 : (Jvm.Cond.castable "SeenByOne$Tower" "SeenByOne$House") ∈ lw_tbl := lw_at lw_m8 96 rfl
theorem in_X14 : ∀ w ∈ wsX140, w ∈ lw_all := lw_in wsX140 [768, 769, 770, 771] (by decide +kernel) (by decide +kernel)

/-! SeenByOne$Shy -/
set_option maxRecDepth 100000
def RX15 : String := "SeenByOne$Shy"
def TX15 : u_T := fun k => match k with
  | 0 => ("SeenByOne$Thing", "index", "I", true)
  | 1 => ("SeenByOne$Thing", "x", "I", true)
  | 2 => ("SeenByOne$Thing", "y", "I", true)
  | _ => ("SeenByOne$Thing", "by", "I", true)
def tyX15 : Nat → FieldType := fun k => match k with
  | 0 => .int
  | 1 => .int
  | 2 => .int
  | _ => .int
abbrev wsX150 : List Cond := u_ws RX15 TX15 4
theorem nmX15 : ∀ a, a < 4 → ∀ b, b < 4 → a ≠ b → (TX15 a).2.1 ≠ (TX15 b).2.1 := by decide +kernel
theorem tyX15_ok : ∀ k, k < 4 → parseFieldDescriptor (TX15 k).2.2.1 = some (tyX15 k) := by decide +kernel
abbrev cX15_wanted : ByteArray := prog_15_method_3_code
def yX15_wanted : MethodName := ⟨RX15, "wanted", "()I"⟩
def dkwX15_wanted_0 : List UInt8 := [42, 183, 0, 9, 4, 100, 172]
abbrev dktX15_wanted_0 : List UInt8 := dkwX15_wanted_0 ++ []
theorem dksX15_wanted_0 : cX15_wanted.data.toList.drop 0 = dktX15_wanted_0 := by decide +kernel
theorem dX15_wanted_0 : decode cX15_wanted 0 = .ok (.aload_n 0, 1) := dk_42 (dk_at dksX15_wanted_0 0 rfl rfl)
theorem dX15_wanted_1 : decode cX15_wanted 1 = .ok (.invokespecial 9, 3) := dk_183 0 9 (dk_at dksX15_wanted_0 1 rfl rfl)
theorem dX15_wanted_4 : decode cX15_wanted 4 = .ok (.iconst 1, 1) := dk_4 (dk_at dksX15_wanted_0 4 rfl rfl)
theorem dX15_wanted_5 : decode cX15_wanted 5 = .ok (.isub, 1) := dk_100 (dk_at dksX15_wanted_0 5 rfl rfl)
theorem dX15_wanted_6 : decode cX15_wanted 6 = .ok (.ireturn, 1) := dk_172 (dk_at dksX15_wanted_0 6 rfl rfl)
abbrev cX15_init : ByteArray := prog_15_method_1_code
def yX15_init : MethodName := ⟨RX15, "<init>", "(IIII)V"⟩
def dkwX15_init_0 : List UInt8 := [42, 27, 28, 29, 21, 4, 183, 0, 3, 177]
abbrev dktX15_init_0 : List UInt8 := dkwX15_init_0 ++ []
theorem dksX15_init_0 : cX15_init.data.toList.drop 0 = dktX15_init_0 := by decide +kernel
theorem dX15_init_0 : decode cX15_init 0 = .ok (.aload_n 0, 1) := dk_42 (dk_at dksX15_init_0 0 rfl rfl)
theorem dX15_init_1 : decode cX15_init 1 = .ok (.iload_n 1, 1) := dk_27 (dk_at dksX15_init_0 1 rfl rfl)
theorem dX15_init_2 : decode cX15_init 2 = .ok (.iload_n 2, 1) := dk_28 (dk_at dksX15_init_0 2 rfl rfl)
theorem dX15_init_3 : decode cX15_init 3 = .ok (.iload_n 3, 1) := dk_29 (dk_at dksX15_init_0 3 rfl rfl)
theorem dX15_init_4 : decode cX15_init 4 = .ok (.iload 4, 2) := dk_21 4 (dk_at dksX15_init_0 4 rfl rfl)
theorem dX15_init_6 : decode cX15_init 6 = .ok (.invokespecial 3, 3) := dk_183 0 3 (dk_at dksX15_init_0 6 rfl rfl)
theorem dX15_init_9 : decode cX15_init 9 = .ok (.return_, 1) := dk_177 (dk_at dksX15_init_0 9 rfl rfl)
abbrev cX15_kind : ByteArray := prog_15_method_2_code
def yX15_kind : MethodName := ⟨RX15, "kind", "()I"⟩
theorem dX15_kind_0 : decode cX15_kind 0 = .ok (.iconst 4, 1) := by decide +kernel
theorem dX15_kind_1 : decode cX15_kind 1 = .ok (.ireturn, 1) := by decide +kernel
abbrev cX15_standing : ByteArray := prog_15_method_5_code
def yX15_standing : MethodName := ⟨RX15, "standing", "(ILSeenByOne$Trace;)I"⟩
def dkwX15_standing_0 : List UInt8 := [44, 16, 51, 182, 0, 13, 42, 27, 44, 183, 0, 23, 42, 180, 0, 26, 100, 172]
abbrev dktX15_standing_0 : List UInt8 := dkwX15_standing_0 ++ []
theorem dksX15_standing_0 : cX15_standing.data.toList.drop 0 = dktX15_standing_0 := by decide +kernel
theorem dX15_standing_0 : decode cX15_standing 0 = .ok (.aload_n 2, 1) := dk_44 (dk_at dksX15_standing_0 0 rfl rfl)
theorem dX15_standing_1 : decode cX15_standing 1 = .ok (.bipush 51, 2) := dk_16 51 (dk_at dksX15_standing_0 1 rfl rfl)
theorem dX15_standing_3 : decode cX15_standing 3 = .ok (.invokevirtual 13, 3) := dk_182 0 13 (dk_at dksX15_standing_0 3 rfl rfl)
theorem dX15_standing_6 : decode cX15_standing 6 = .ok (.aload_n 0, 1) := dk_42 (dk_at dksX15_standing_0 6 rfl rfl)
theorem dX15_standing_7 : decode cX15_standing 7 = .ok (.iload_n 1, 1) := dk_27 (dk_at dksX15_standing_0 7 rfl rfl)
theorem dX15_standing_8 : decode cX15_standing 8 = .ok (.aload_n 2, 1) := dk_44 (dk_at dksX15_standing_0 8 rfl rfl)
theorem dX15_standing_9 : decode cX15_standing 9 = .ok (.invokespecial 23, 3) := dk_183 0 23 (dk_at dksX15_standing_0 9 rfl rfl)
theorem dX15_standing_12 : decode cX15_standing 12 = .ok (.aload_n 0, 1) := dk_42 (dk_at dksX15_standing_0 12 rfl rfl)
theorem dX15_standing_13 : decode cX15_standing 13 = .ok (.getfield 26, 3) := dk_180 0 26 (dk_at dksX15_standing_0 13 rfl rfl)
theorem dX15_standing_16 : decode cX15_standing 16 = .ok (.isub, 1) := dk_100 (dk_at dksX15_standing_0 16 rfl rfl)
theorem dX15_standing_17 : decode cX15_standing 17 = .ok (.ireturn, 1) := dk_172 (dk_at dksX15_standing_0 17 rfl rfl)
abbrev cX15_hiding : ByteArray := prog_15_method_4_code
def yX15_hiding : MethodName := ⟨RX15, "hiding", "(ILSeenByOne$Trace;)I"⟩
def dkwX15_hiding_0 : List UInt8 := [44, 16, 50, 182, 0, 13, 42, 27, 44, 183, 0, 19, 116, 172]
abbrev dktX15_hiding_0 : List UInt8 := dkwX15_hiding_0 ++ []
theorem dksX15_hiding_0 : cX15_hiding.data.toList.drop 0 = dktX15_hiding_0 := by decide +kernel
theorem dX15_hiding_0 : decode cX15_hiding 0 = .ok (.aload_n 2, 1) := dk_44 (dk_at dksX15_hiding_0 0 rfl rfl)
theorem dX15_hiding_1 : decode cX15_hiding 1 = .ok (.bipush 50, 2) := dk_16 50 (dk_at dksX15_hiding_0 1 rfl rfl)
theorem dX15_hiding_3 : decode cX15_hiding 3 = .ok (.invokevirtual 13, 3) := dk_182 0 13 (dk_at dksX15_hiding_0 3 rfl rfl)
theorem dX15_hiding_6 : decode cX15_hiding 6 = .ok (.aload_n 0, 1) := dk_42 (dk_at dksX15_hiding_0 6 rfl rfl)
theorem dX15_hiding_7 : decode cX15_hiding 7 = .ok (.iload_n 1, 1) := dk_27 (dk_at dksX15_hiding_0 7 rfl rfl)
theorem dX15_hiding_8 : decode cX15_hiding 8 = .ok (.aload_n 2, 1) := dk_44 (dk_at dksX15_hiding_0 8 rfl rfl)
theorem dX15_hiding_9 : decode cX15_hiding 9 = .ok (.invokespecial 19, 3) := dk_183 0 19 (dk_at dksX15_hiding_0 9 rfl rfl)
theorem dX15_hiding_12 : decode cX15_hiding 12 = .ok (.ineg, 1) := dk_116 (dk_at dksX15_hiding_0 12 rfl rfl)
theorem dX15_hiding_13 : decode cX15_hiding 13 = .ok (.ireturn, 1) := dk_172 (dk_at dksX15_hiding_0 13 rfl rfl)
theorem q101 : (Jvm.Cond.initialized "SeenByOne$Shy") ∈ lw_all := lw_g (lw_at lw_m1 27 rfl) rfl
theorem q555 : (Jvm.Cond.selects "SeenByOne$Shy" ({ cls := "SeenByOne$Thing", name := "isHouse", desc := "()Z" } : Jvm.MethodName) ({ cls := "SeenByOne$House", name := "isHouse", desc := "()Z" } : Jvm.MethodName)) ∈ lw_all := lw_g (lw_at lw_m3 1 rfl) rfl
theorem q578 : (Jvm.Cond.selects "SeenByOne$Shy" ({ cls := "SeenByOne$Thing", name := "eyes", desc := "(I)I" } : Jvm.MethodName) ({ cls := "SeenByOne$House", name := "eyes", desc := "(I)I" } : Jvm.MethodName)) ∈ lw_all := lw_g (lw_at lw_m3 24 rfl) rfl
theorem q626 : (Jvm.Cond.selects "SeenByOne$Shy" ({ cls := "SeenByOne$Thing", name := "tall", desc := "(IZ)I" } : Jvm.MethodName) ({ cls := "SeenByOne$Thing", name := "tall", desc := "(IZ)I" } : Jvm.MethodName)) ∈ lw_all := lw_g (lw_at lw_m3 72 rfl) rfl
theorem q637 : (Jvm.Cond.selects "SeenByOne$Shy" ({ cls := "SeenByOne$Thing", name := "counts", desc := "()Z" } : Jvm.MethodName) ({ cls := "SeenByOne$Thing", name := "counts", desc := "()Z" } : Jvm.MethodName)) ∈ lw_all := lw_g (lw_at lw_m3 83 rfl) rfl
theorem q668 : (Jvm.Cond.selects "SeenByOne$Shy" ({ cls := "SeenByOne$Thing", name := "wanted", desc := "()I" } : Jvm.MethodName) ({ cls := "SeenByOne$Shy", name := "wanted", desc := "()I" } : Jvm.MethodName)) ∈ lw_all := lw_g (lw_at lw_m3 114 rfl) rfl
theorem q669 : (Jvm.Cond.instanceMethod ({ cls := "SeenByOne$Shy", name := "wanted", desc := "()I" } : Jvm.MethodName)) ∈ lw_all := lw_g (lw_at lw_m3 115 rfl) rfl
theorem q670 : (Jvm.Cond.code ({ cls := "SeenByOne$Shy", name := "wanted", desc := "()I" } : Jvm.MethodName) prog_15_method_3_code (1 : Nat) (Option.some Jvm.ClassFile.FieldType.int)) ∈ lw_all := lw_g (lw_at lw_m3 116 rfl) rfl
theorem q671 : (Jvm.Cond.methodLink "SeenByOne$Shy" (9 : Nat) ({ cls := "SeenByOne$House", name := "wanted", desc := "()I" } : Jvm.MethodName)) ∈ lw_all := lw_g (lw_at lw_m3 117 rfl) rfl
theorem q674 : (Jvm.Cond.superclass "SeenByOne$Shy" "SeenByOne$House") ∈ lw_all := lw_g (lw_at lw_m3 120 rfl) rfl
theorem q723 : (Jvm.Cond.sameField "SeenByOne$Shy" "SeenByOne$Thing" "index" "I") ∈ lw_all := lw_g (lw_at lw_m3 169 rfl) rfl
theorem q725 : (Jvm.Cond.fieldLink "SeenByOne$Shy" (26 : Nat) "SeenByOne$Shy" "index" "I") ∈ lw_all := lw_g (lw_at lw_m3 171 rfl) rfl
theorem q773 : (Jvm.Cond.instantiable "SeenByOne$Shy" (4 : Nat)) ∈ lw_all := lw_g (lw_at lw_m3 219 rfl) rfl
theorem q775 : (Jvm.Cond.instanceMethod ({ cls := "SeenByOne$Shy", name := "<init>", desc := "(IIII)V" } : Jvm.MethodName)) ∈ lw_all := lw_g (lw_at lw_m3 221 rfl) rfl
theorem q776 : (Jvm.Cond.code ({ cls := "SeenByOne$Shy", name := "<init>", desc := "(IIII)V" } : Jvm.MethodName) prog_15_method_1_code (5 : Nat) (Option.none : Option Jvm.ClassFile.FieldType)) ∈ lw_all := lw_g (lw_at lw_m3 222 rfl) rfl
theorem q777 : (Jvm.Cond.methodLink "SeenByOne$Shy" (3 : Nat) ({ cls := "SeenByOne$House", name := "<init>", desc := "(IIII)V" } : Jvm.MethodName)) ∈ lw_all := lw_g (lw_at lw_m3 223 rfl) rfl
theorem q778 : (Jvm.Cond.laysFinal "SeenByOne$Shy" "SeenByOne$Thing" "index" "I") ∈ lw_all := lw_g (lw_at lw_m3 224 rfl) rfl
theorem q779 : (Jvm.Cond.laysFinal "SeenByOne$Shy" "SeenByOne$Thing" "x" "I") ∈ lw_all := lw_g (lw_at lw_m3 225 rfl) rfl
theorem q780 : (Jvm.Cond.laysFinal "SeenByOne$Shy" "SeenByOne$Thing" "y" "I") ∈ lw_all := lw_g (lw_at lw_m3 226 rfl) rfl
theorem q781 : (Jvm.Cond.laysFinal "SeenByOne$Shy" "SeenByOne$Thing" "by" "I") ∈ lw_all := lw_g (lw_at lw_m3 227 rfl) rfl
theorem q831 : (Jvm.Cond.selects "SeenByOne$Shy" ({ cls := "SeenByOne$Thing", name := "kind", desc := "()I" } : Jvm.MethodName) ({ cls := "SeenByOne$Shy", name := "kind", desc := "()I" } : Jvm.MethodName)) ∈ lw_all := lw_g (lw_at lw_m4 37 rfl) rfl
theorem q832 : (Jvm.Cond.instanceMethod ({ cls := "SeenByOne$Shy", name := "kind", desc := "()I" } : Jvm.MethodName)) ∈ lw_all := lw_g (lw_at lw_m4 38 rfl) rfl
theorem q833 : (Jvm.Cond.code ({ cls := "SeenByOne$Shy", name := "kind", desc := "()I" } : Jvm.MethodName) prog_15_method_2_code (1 : Nat) (Option.some Jvm.ClassFile.FieldType.int)) ∈ lw_all := lw_g (lw_at lw_m4 39 rfl) rfl
theorem q1220 : (Jvm.Cond.selects "SeenByOne$Shy" ({ cls := "SeenByOne$Thing", name := "grows", desc := "()Z" } : Jvm.MethodName) ({ cls := "SeenByOne$Thing", name := "grows", desc := "()Z" } : Jvm.MethodName)) ∈ lw_all := lw_g (lw_at lw_m5 186 rfl) rfl
theorem q1262 : (Jvm.Cond.selects "SeenByOne$Shy" ({ cls := "SeenByOne$Thing", name := "standing", desc := "(ILSeenByOne$Trace;)I" } : Jvm.MethodName) ({ cls := "SeenByOne$Shy", name := "standing", desc := "(ILSeenByOne$Trace;)I" } : Jvm.MethodName)) ∈ lw_all := lw_g (lw_at lw_m5 228 rfl) rfl
theorem q1263 : (Jvm.Cond.instanceMethod ({ cls := "SeenByOne$Shy", name := "standing", desc := "(ILSeenByOne$Trace;)I" } : Jvm.MethodName)) ∈ lw_all := lw_g (lw_at lw_m5 229 rfl) rfl
theorem q1264 : (Jvm.Cond.code ({ cls := "SeenByOne$Shy", name := "standing", desc := "(ILSeenByOne$Trace;)I" } : Jvm.MethodName) prog_15_method_5_code (3 : Nat) (Option.some Jvm.ClassFile.FieldType.int)) ∈ lw_all := lw_g (lw_at lw_m5 230 rfl) rfl
theorem q1265 : (Jvm.Cond.methodLink "SeenByOne$Shy" (13 : Nat) ({ cls := "SeenByOne$Trace", name := "runs", desc := "(I)V" } : Jvm.MethodName)) ∈ lw_all := lw_g (lw_at lw_m5 231 rfl) rfl
theorem q1266 : (Jvm.Cond.methodLink "SeenByOne$Shy" (23 : Nat) ({ cls := "SeenByOne$House", name := "standing", desc := "(ILSeenByOne$Trace;)I" } : Jvm.MethodName)) ∈ lw_all := lw_g (lw_at lw_m5 232 rfl) rfl
theorem q1285 : (Jvm.Cond.selects "SeenByOne$Shy" ({ cls := "SeenByOne$Thing", name := "looking", desc := "(ILSeenByOne$Trace;)I" } : Jvm.MethodName) ({ cls := "SeenByOne$Thing", name := "looking", desc := "(ILSeenByOne$Trace;)I" } : Jvm.MethodName)) ∈ lw_all := lw_g (lw_at lw_m6 11 rfl) rfl
theorem q1309 : (Jvm.Cond.selects "SeenByOne$Shy" ({ cls := "SeenByOne$Thing", name := "hiding", desc := "(ILSeenByOne$Trace;)I" } : Jvm.MethodName) ({ cls := "SeenByOne$Shy", name := "hiding", desc := "(ILSeenByOne$Trace;)I" } : Jvm.MethodName)) ∈ lw_all := lw_g (lw_at lw_m6 35 rfl) rfl
theorem q1310 : (Jvm.Cond.instanceMethod ({ cls := "SeenByOne$Shy", name := "hiding", desc := "(ILSeenByOne$Trace;)I" } : Jvm.MethodName)) ∈ lw_all := lw_g (lw_at lw_m6 36 rfl) rfl
theorem q1311 : (Jvm.Cond.code ({ cls := "SeenByOne$Shy", name := "hiding", desc := "(ILSeenByOne$Trace;)I" } : Jvm.MethodName) prog_15_method_4_code (3 : Nat) (Option.some Jvm.ClassFile.FieldType.int)) ∈ lw_all := lw_g (lw_at lw_m6 37 rfl) rfl
theorem q1312 : (Jvm.Cond.methodLink "SeenByOne$Shy" (19 : Nat) ({ cls := "SeenByOne$House", name := "hiding", desc := "(ILSeenByOne$Trace;)I" } : Jvm.MethodName)) ∈ lw_all := lw_g (lw_at lw_m6 38 rfl) rfl
theorem q1845 : (Jvm.Cond.castable "SeenByOne$Shy" "SeenByOne$Thing") ∈ lw_tbl := lw_at lw_m8 91 rfl
theorem q1849 : (Jvm.Cond.castable "SeenByOne$Shy" "SeenByOne$House") ∈ lw_tbl := lw_at lw_m8 95 rfl
theorem in_X15 : ∀ w ∈ wsX150, w ∈ lw_all := lw_in wsX150 [778, 779, 780, 781] (by decide +kernel) (by decide +kernel)

/-! SeenByOne$Blind -/
set_option maxRecDepth 100000
def RX16 : String := "SeenByOne$Blind"
def TX16 : u_T := fun k => match k with
  | 0 => ("SeenByOne$Thing", "index", "I", true)
  | 1 => ("SeenByOne$Thing", "x", "I", true)
  | 2 => ("SeenByOne$Thing", "y", "I", true)
  | _ => ("SeenByOne$Thing", "by", "I", true)
def tyX16 : Nat → FieldType := fun k => match k with
  | 0 => .int
  | 1 => .int
  | 2 => .int
  | _ => .int
abbrev wsX160 : List Cond := u_ws RX16 TX16 4
theorem nmX16 : ∀ a, a < 4 → ∀ b, b < 4 → a ≠ b → (TX16 a).2.1 ≠ (TX16 b).2.1 := by decide +kernel
theorem tyX16_ok : ∀ k, k < 4 → parseFieldDescriptor (TX16 k).2.2.1 = some (tyX16 k) := by decide +kernel
abbrev cX16_eyes : ByteArray := prog_2_method_3_code
def yX16_eyes : MethodName := ⟨RX16, "eyes", "(I)I"⟩
theorem dX16_eyes_0 : decode cX16_eyes 0 = .ok (.iconst (-1), 1) := by decide +kernel
theorem dX16_eyes_1 : decode cX16_eyes 1 = .ok (.ireturn, 1) := by decide +kernel
abbrev cX16_sight : ByteArray := prog_2_method_4_code
def yX16_sight : MethodName := ⟨RX16, "sight", "()I"⟩
theorem dX16_sight_0 : decode cX16_sight 0 = .ok (.iconst 0, 1) := by decide +kernel
theorem dX16_sight_1 : decode cX16_sight 1 = .ok (.ireturn, 1) := by decide +kernel
abbrev cX16_init : ByteArray := prog_2_method_1_code
def yX16_init : MethodName := ⟨RX16, "<init>", "(IIII)V"⟩
def dkwX16_init_0 : List UInt8 := [42, 27, 28, 29, 21, 4, 183, 0, 3, 177]
abbrev dktX16_init_0 : List UInt8 := dkwX16_init_0 ++ []
theorem dksX16_init_0 : cX16_init.data.toList.drop 0 = dktX16_init_0 := by decide +kernel
theorem dX16_init_0 : decode cX16_init 0 = .ok (.aload_n 0, 1) := dk_42 (dk_at dksX16_init_0 0 rfl rfl)
theorem dX16_init_1 : decode cX16_init 1 = .ok (.iload_n 1, 1) := dk_27 (dk_at dksX16_init_0 1 rfl rfl)
theorem dX16_init_2 : decode cX16_init 2 = .ok (.iload_n 2, 1) := dk_28 (dk_at dksX16_init_0 2 rfl rfl)
theorem dX16_init_3 : decode cX16_init 3 = .ok (.iload_n 3, 1) := dk_29 (dk_at dksX16_init_0 3 rfl rfl)
theorem dX16_init_4 : decode cX16_init 4 = .ok (.iload 4, 2) := dk_21 4 (dk_at dksX16_init_0 4 rfl rfl)
theorem dX16_init_6 : decode cX16_init 6 = .ok (.invokespecial 3, 3) := dk_183 0 3 (dk_at dksX16_init_0 6 rfl rfl)
theorem dX16_init_9 : decode cX16_init 9 = .ok (.return_, 1) := dk_177 (dk_at dksX16_init_0 9 rfl rfl)
abbrev cX16_kind : ByteArray := prog_2_method_2_code
def yX16_kind : MethodName := ⟨RX16, "kind", "()I"⟩
theorem dX16_kind_0 : decode cX16_kind 0 = .ok (.iconst 5, 1) := by decide +kernel
theorem dX16_kind_1 : decode cX16_kind 1 = .ok (.ireturn, 1) := by decide +kernel
abbrev cX16_hiding : ByteArray := prog_2_method_5_code
def yX16_hiding : MethodName := ⟨RX16, "hiding", "(ILSeenByOne$Trace;)I"⟩
def dkwX16_hiding_0 : List UInt8 := [44, 16, 60, 182, 0, 9, 42, 27, 44, 183, 0, 15, 8, 130, 172]
abbrev dktX16_hiding_0 : List UInt8 := dkwX16_hiding_0 ++ []
theorem dksX16_hiding_0 : cX16_hiding.data.toList.drop 0 = dktX16_hiding_0 := by decide +kernel
theorem dX16_hiding_0 : decode cX16_hiding 0 = .ok (.aload_n 2, 1) := dk_44 (dk_at dksX16_hiding_0 0 rfl rfl)
theorem dX16_hiding_1 : decode cX16_hiding 1 = .ok (.bipush 60, 2) := dk_16 60 (dk_at dksX16_hiding_0 1 rfl rfl)
theorem dX16_hiding_3 : decode cX16_hiding 3 = .ok (.invokevirtual 9, 3) := dk_182 0 9 (dk_at dksX16_hiding_0 3 rfl rfl)
theorem dX16_hiding_6 : decode cX16_hiding 6 = .ok (.aload_n 0, 1) := dk_42 (dk_at dksX16_hiding_0 6 rfl rfl)
theorem dX16_hiding_7 : decode cX16_hiding 7 = .ok (.iload_n 1, 1) := dk_27 (dk_at dksX16_hiding_0 7 rfl rfl)
theorem dX16_hiding_8 : decode cX16_hiding 8 = .ok (.aload_n 2, 1) := dk_44 (dk_at dksX16_hiding_0 8 rfl rfl)
theorem dX16_hiding_9 : decode cX16_hiding 9 = .ok (.invokespecial 15, 3) := dk_183 0 15 (dk_at dksX16_hiding_0 9 rfl rfl)
theorem dX16_hiding_12 : decode cX16_hiding 12 = .ok (.iconst 5, 1) := dk_8 (dk_at dksX16_hiding_0 12 rfl rfl)
theorem dX16_hiding_13 : decode cX16_hiding 13 = .ok (.ixor, 1) := dk_130 (dk_at dksX16_hiding_0 13 rfl rfl)
theorem dX16_hiding_14 : decode cX16_hiding 14 = .ok (.ireturn, 1) := dk_172 (dk_at dksX16_hiding_0 14 rfl rfl)
theorem q102 : (Jvm.Cond.initialized "SeenByOne$Blind") ∈ lw_all := lw_g (lw_at lw_m1 28 rfl) rfl
theorem q550 : (Jvm.Cond.selects "SeenByOne$Blind" ({ cls := "SeenByOne$Thing", name := "isHouse", desc := "()Z" } : Jvm.MethodName) ({ cls := "SeenByOne$House", name := "isHouse", desc := "()Z" } : Jvm.MethodName)) ∈ lw_all := lw_g (lw_at lw_m2 236 rfl) rfl
theorem q571 : (Jvm.Cond.selects "SeenByOne$Blind" ({ cls := "SeenByOne$Thing", name := "eyes", desc := "(I)I" } : Jvm.MethodName) ({ cls := "SeenByOne$Blind", name := "eyes", desc := "(I)I" } : Jvm.MethodName)) ∈ lw_all := lw_g (lw_at lw_m3 17 rfl) rfl
theorem q572 : (Jvm.Cond.instanceMethod ({ cls := "SeenByOne$Blind", name := "eyes", desc := "(I)I" } : Jvm.MethodName)) ∈ lw_all := lw_g (lw_at lw_m3 18 rfl) rfl
theorem q573 : (Jvm.Cond.code ({ cls := "SeenByOne$Blind", name := "eyes", desc := "(I)I" } : Jvm.MethodName) prog_2_method_3_code (2 : Nat) (Option.some Jvm.ClassFile.FieldType.int)) ∈ lw_all := lw_g (lw_at lw_m3 19 rfl) rfl
theorem q615 : (Jvm.Cond.selects "SeenByOne$Blind" ({ cls := "SeenByOne$Thing", name := "tall", desc := "(IZ)I" } : Jvm.MethodName) ({ cls := "SeenByOne$Thing", name := "tall", desc := "(IZ)I" } : Jvm.MethodName)) ∈ lw_all := lw_g (lw_at lw_m3 61 rfl) rfl
theorem q634 : (Jvm.Cond.selects "SeenByOne$Blind" ({ cls := "SeenByOne$Thing", name := "counts", desc := "()Z" } : Jvm.MethodName) ({ cls := "SeenByOne$Thing", name := "counts", desc := "()Z" } : Jvm.MethodName)) ∈ lw_all := lw_g (lw_at lw_m3 80 rfl) rfl
theorem q665 : (Jvm.Cond.selects "SeenByOne$Blind" ({ cls := "SeenByOne$Thing", name := "wanted", desc := "()I" } : Jvm.MethodName) ({ cls := "SeenByOne$Thing", name := "wanted", desc := "()I" } : Jvm.MethodName)) ∈ lw_all := lw_g (lw_at lw_m3 111 rfl) rfl
theorem q681 : (Jvm.Cond.instanceMethod ({ cls := "SeenByOne$Blind", name := "sight", desc := "()I" } : Jvm.MethodName)) ∈ lw_all := lw_g (lw_at lw_m3 127 rfl) rfl
theorem q682 : (Jvm.Cond.selects "SeenByOne$Blind" ({ cls := "SeenByOne$Blind", name := "sight", desc := "()I" } : Jvm.MethodName) ({ cls := "SeenByOne$Blind", name := "sight", desc := "()I" } : Jvm.MethodName)) ∈ lw_all := lw_g (lw_at lw_m3 128 rfl) rfl
theorem q683 : (Jvm.Cond.code ({ cls := "SeenByOne$Blind", name := "sight", desc := "()I" } : Jvm.MethodName) prog_2_method_4_code (1 : Nat) (Option.some Jvm.ClassFile.FieldType.int)) ∈ lw_all := lw_g (lw_at lw_m3 129 rfl) rfl
theorem q783 : (Jvm.Cond.instantiable "SeenByOne$Blind" (4 : Nat)) ∈ lw_all := lw_g (lw_at lw_m3 229 rfl) rfl
theorem q785 : (Jvm.Cond.instanceMethod ({ cls := "SeenByOne$Blind", name := "<init>", desc := "(IIII)V" } : Jvm.MethodName)) ∈ lw_all := lw_g (lw_at lw_m3 231 rfl) rfl
theorem q786 : (Jvm.Cond.code ({ cls := "SeenByOne$Blind", name := "<init>", desc := "(IIII)V" } : Jvm.MethodName) prog_2_method_1_code (5 : Nat) (Option.none : Option Jvm.ClassFile.FieldType)) ∈ lw_all := lw_g (lw_at lw_m3 232 rfl) rfl
theorem q787 : (Jvm.Cond.methodLink "SeenByOne$Blind" (3 : Nat) ({ cls := "SeenByOne$House", name := "<init>", desc := "(IIII)V" } : Jvm.MethodName)) ∈ lw_all := lw_g (lw_at lw_m3 233 rfl) rfl
theorem q788 : (Jvm.Cond.laysFinal "SeenByOne$Blind" "SeenByOne$Thing" "index" "I") ∈ lw_all := lw_g (lw_at lw_m3 234 rfl) rfl
theorem q789 : (Jvm.Cond.laysFinal "SeenByOne$Blind" "SeenByOne$Thing" "x" "I") ∈ lw_all := lw_g (lw_at lw_m3 235 rfl) rfl
theorem q790 : (Jvm.Cond.laysFinal "SeenByOne$Blind" "SeenByOne$Thing" "y" "I") ∈ lw_all := lw_g (lw_at lw_m3 236 rfl) rfl
theorem q791 : (Jvm.Cond.laysFinal "SeenByOne$Blind" "SeenByOne$Thing" "by" "I") ∈ lw_all := lw_g (lw_at lw_m3 237 rfl) rfl
theorem q792 : (Jvm.Cond.superclass "SeenByOne$Blind" "SeenByOne$House") ∈ lw_all := lw_g (lw_at lw_m3 238 rfl) rfl
theorem q822 : (Jvm.Cond.selects "SeenByOne$Blind" ({ cls := "SeenByOne$Thing", name := "kind", desc := "()I" } : Jvm.MethodName) ({ cls := "SeenByOne$Blind", name := "kind", desc := "()I" } : Jvm.MethodName)) ∈ lw_all := lw_g (lw_at lw_m4 28 rfl) rfl
theorem q823 : (Jvm.Cond.instanceMethod ({ cls := "SeenByOne$Blind", name := "kind", desc := "()I" } : Jvm.MethodName)) ∈ lw_all := lw_g (lw_at lw_m4 29 rfl) rfl
theorem q824 : (Jvm.Cond.code ({ cls := "SeenByOne$Blind", name := "kind", desc := "()I" } : Jvm.MethodName) prog_2_method_2_code (1 : Nat) (Option.some Jvm.ClassFile.FieldType.int)) ∈ lw_all := lw_g (lw_at lw_m4 30 rfl) rfl
theorem q1215 : (Jvm.Cond.selects "SeenByOne$Blind" ({ cls := "SeenByOne$Thing", name := "grows", desc := "()Z" } : Jvm.MethodName) ({ cls := "SeenByOne$Thing", name := "grows", desc := "()Z" } : Jvm.MethodName)) ∈ lw_all := lw_g (lw_at lw_m5 181 rfl) rfl
theorem q1246 : (Jvm.Cond.selects "SeenByOne$Blind" ({ cls := "SeenByOne$Thing", name := "standing", desc := "(ILSeenByOne$Trace;)I" } : Jvm.MethodName) ({ cls := "SeenByOne$House", name := "standing", desc := "(ILSeenByOne$Trace;)I" } : Jvm.MethodName)) ∈ lw_all := lw_g (lw_at lw_m5 212 rfl) rfl
theorem q1275 : (Jvm.Cond.selects "SeenByOne$Blind" ({ cls := "SeenByOne$Thing", name := "looking", desc := "(ILSeenByOne$Trace;)I" } : Jvm.MethodName) ({ cls := "SeenByOne$Thing", name := "looking", desc := "(ILSeenByOne$Trace;)I" } : Jvm.MethodName)) ∈ lw_all := lw_g (lw_at lw_m6 1 rfl) rfl
theorem q1300 : (Jvm.Cond.selects "SeenByOne$Blind" ({ cls := "SeenByOne$Thing", name := "hiding", desc := "(ILSeenByOne$Trace;)I" } : Jvm.MethodName) ({ cls := "SeenByOne$Blind", name := "hiding", desc := "(ILSeenByOne$Trace;)I" } : Jvm.MethodName)) ∈ lw_all := lw_g (lw_at lw_m6 26 rfl) rfl
theorem q1301 : (Jvm.Cond.instanceMethod ({ cls := "SeenByOne$Blind", name := "hiding", desc := "(ILSeenByOne$Trace;)I" } : Jvm.MethodName)) ∈ lw_all := lw_g (lw_at lw_m6 27 rfl) rfl
theorem q1302 : (Jvm.Cond.code ({ cls := "SeenByOne$Blind", name := "hiding", desc := "(ILSeenByOne$Trace;)I" } : Jvm.MethodName) prog_2_method_5_code (3 : Nat) (Option.some Jvm.ClassFile.FieldType.int)) ∈ lw_all := lw_g (lw_at lw_m6 28 rfl) rfl
theorem q1303 : (Jvm.Cond.methodLink "SeenByOne$Blind" (9 : Nat) ({ cls := "SeenByOne$Trace", name := "runs", desc := "(I)V" } : Jvm.MethodName)) ∈ lw_all := lw_g (lw_at lw_m6 29 rfl) rfl
theorem q1304 : (Jvm.Cond.methodLink "SeenByOne$Blind" (15 : Nat) ({ cls := "SeenByOne$House", name := "hiding", desc := "(ILSeenByOne$Trace;)I" } : Jvm.MethodName)) ∈ lw_all := lw_g (lw_at lw_m6 30 rfl) rfl
theorem q1842 : (Jvm.Cond.castable "SeenByOne$Blind" "SeenByOne$Thing") ∈ lw_tbl := lw_at lw_m8 88 rfl
theorem q1848 : (Jvm.Cond.castable "SeenByOne$Blind" "SeenByOne$House") ∈ lw_tbl := lw_at lw_m8 94 rfl
theorem in_X16 : ∀ w ∈ wsX160, w ∈ lw_all := lw_in wsX160 [788, 789, 790, 791] (by decide +kernel) (by decide +kernel)

/-! SeenByOne$Fir -/
set_option maxRecDepth 100000
def RX17 : String := "SeenByOne$Fir"
def TX17 : u_T := fun k => match k with
  | 0 => ("SeenByOne$Thing", "index", "I", true)
  | 1 => ("SeenByOne$Thing", "x", "I", true)
  | 2 => ("SeenByOne$Thing", "y", "I", true)
  | _ => ("SeenByOne$Thing", "by", "I", true)
def tyX17 : Nat → FieldType := fun k => match k with
  | 0 => .int
  | 1 => .int
  | 2 => .int
  | _ => .int
abbrev wsX170 : List Cond := u_ws RX17 TX17 4
theorem nmX17 : ∀ a, a < 4 → ∀ b, b < 4 → a ≠ b → (TX17 a).2.1 ≠ (TX17 b).2.1 := by decide +kernel
theorem tyX17_ok : ∀ k, k < 4 → parseFieldDescriptor (TX17 k).2.2.1 = some (tyX17 k) := by decide +kernel
abbrev cX17_tall : ByteArray := prog_5_method_3_code
def yX17_tall : MethodName := ⟨RX17, "tall", "(IZ)I"⟩
def dkwX17_tall_0 : List UInt8 := [42, 27, 4, 183, 0, 9, 172]
abbrev dktX17_tall_0 : List UInt8 := dkwX17_tall_0 ++ []
theorem dksX17_tall_0 : cX17_tall.data.toList.drop 0 = dktX17_tall_0 := by decide +kernel
theorem dX17_tall_0 : decode cX17_tall 0 = .ok (.aload_n 0, 1) := dk_42 (dk_at dksX17_tall_0 0 rfl rfl)
theorem dX17_tall_1 : decode cX17_tall 1 = .ok (.iload_n 1, 1) := dk_27 (dk_at dksX17_tall_0 1 rfl rfl)
theorem dX17_tall_2 : decode cX17_tall 2 = .ok (.iconst 1, 1) := dk_4 (dk_at dksX17_tall_0 2 rfl rfl)
theorem dX17_tall_3 : decode cX17_tall 3 = .ok (.invokespecial 9, 3) := dk_183 0 9 (dk_at dksX17_tall_0 3 rfl rfl)
theorem dX17_tall_6 : decode cX17_tall 6 = .ok (.ireturn, 1) := dk_172 (dk_at dksX17_tall_0 6 rfl rfl)
abbrev cX17_leaves : ByteArray := prog_5_method_4_code
def yX17_leaves : MethodName := ⟨RX17, "leaves", "()I"⟩
theorem dX17_leaves_0 : decode cX17_leaves 0 = .ok (.aload_n 0, 1) := by decide +kernel
theorem dX17_leaves_1 : decode cX17_leaves 1 = .ok (.getfield 13, 3) := by decide +kernel
theorem dX17_leaves_4 : decode cX17_leaves 4 = .ok (.ireturn, 1) := by decide +kernel
abbrev cX17_init : ByteArray := prog_5_method_1_code
def yX17_init : MethodName := ⟨RX17, "<init>", "(IIII)V"⟩
def dkwX17_init_0 : List UInt8 := [42, 27, 28, 29, 21, 4, 183, 0, 3, 177]
abbrev dktX17_init_0 : List UInt8 := dkwX17_init_0 ++ []
theorem dksX17_init_0 : cX17_init.data.toList.drop 0 = dktX17_init_0 := by decide +kernel
theorem dX17_init_0 : decode cX17_init 0 = .ok (.aload_n 0, 1) := dk_42 (dk_at dksX17_init_0 0 rfl rfl)
theorem dX17_init_1 : decode cX17_init 1 = .ok (.iload_n 1, 1) := dk_27 (dk_at dksX17_init_0 1 rfl rfl)
theorem dX17_init_2 : decode cX17_init 2 = .ok (.iload_n 2, 1) := dk_28 (dk_at dksX17_init_0 2 rfl rfl)
theorem dX17_init_3 : decode cX17_init 3 = .ok (.iload_n 3, 1) := dk_29 (dk_at dksX17_init_0 3 rfl rfl)
theorem dX17_init_4 : decode cX17_init 4 = .ok (.iload 4, 2) := dk_21 4 (dk_at dksX17_init_0 4 rfl rfl)
theorem dX17_init_6 : decode cX17_init 6 = .ok (.invokespecial 3, 3) := dk_183 0 3 (dk_at dksX17_init_0 6 rfl rfl)
theorem dX17_init_9 : decode cX17_init 9 = .ok (.return_, 1) := dk_177 (dk_at dksX17_init_0 9 rfl rfl)
abbrev cX17_kind : ByteArray := prog_5_method_2_code
def yX17_kind : MethodName := ⟨RX17, "kind", "()I"⟩
theorem dX17_kind_0 : decode cX17_kind 0 = .ok (.bipush 6, 2) := by decide +kernel
theorem dX17_kind_2 : decode cX17_kind 2 = .ok (.ireturn, 1) := by decide +kernel
abbrev cX17_standing : ByteArray := prog_5_method_5_code
def yX17_standing : MethodName := ⟨RX17, "standing", "(ILSeenByOne$Trace;)I"⟩
def dkwX17_standing_0 : List UInt8 := [44, 16, 70, 182, 0, 19, 42, 27, 44, 183, 0, 25, 5, 104, 172]
abbrev dktX17_standing_0 : List UInt8 := dkwX17_standing_0 ++ []
theorem dksX17_standing_0 : cX17_standing.data.toList.drop 0 = dktX17_standing_0 := by decide +kernel
theorem dX17_standing_0 : decode cX17_standing 0 = .ok (.aload_n 2, 1) := dk_44 (dk_at dksX17_standing_0 0 rfl rfl)
theorem dX17_standing_1 : decode cX17_standing 1 = .ok (.bipush 70, 2) := dk_16 70 (dk_at dksX17_standing_0 1 rfl rfl)
theorem dX17_standing_3 : decode cX17_standing 3 = .ok (.invokevirtual 19, 3) := dk_182 0 19 (dk_at dksX17_standing_0 3 rfl rfl)
theorem dX17_standing_6 : decode cX17_standing 6 = .ok (.aload_n 0, 1) := dk_42 (dk_at dksX17_standing_0 6 rfl rfl)
theorem dX17_standing_7 : decode cX17_standing 7 = .ok (.iload_n 1, 1) := dk_27 (dk_at dksX17_standing_0 7 rfl rfl)
theorem dX17_standing_8 : decode cX17_standing 8 = .ok (.aload_n 2, 1) := dk_44 (dk_at dksX17_standing_0 8 rfl rfl)
theorem dX17_standing_9 : decode cX17_standing 9 = .ok (.invokespecial 25, 3) := dk_183 0 25 (dk_at dksX17_standing_0 9 rfl rfl)
theorem dX17_standing_12 : decode cX17_standing 12 = .ok (.iconst 2, 1) := dk_5 (dk_at dksX17_standing_0 12 rfl rfl)
theorem dX17_standing_13 : decode cX17_standing 13 = .ok (.imul, 1) := dk_104 (dk_at dksX17_standing_0 13 rfl rfl)
theorem dX17_standing_14 : decode cX17_standing 14 = .ok (.ireturn, 1) := dk_172 (dk_at dksX17_standing_0 14 rfl rfl)
abbrev cX17_looking : ByteArray := prog_5_method_6_code
def yX17_looking : MethodName := ⟨RX17, "looking", "(ILSeenByOne$Trace;)I"⟩
def dkwX17_looking_0 : List UInt8 := [44, 16, 71, 182, 0, 19, 42, 27, 42, 180, 0, 13, 100, 44, 183, 0, 29, 172]
abbrev dktX17_looking_0 : List UInt8 := dkwX17_looking_0 ++ []
theorem dksX17_looking_0 : cX17_looking.data.toList.drop 0 = dktX17_looking_0 := by decide +kernel
theorem dX17_looking_0 : decode cX17_looking 0 = .ok (.aload_n 2, 1) := dk_44 (dk_at dksX17_looking_0 0 rfl rfl)
theorem dX17_looking_1 : decode cX17_looking 1 = .ok (.bipush 71, 2) := dk_16 71 (dk_at dksX17_looking_0 1 rfl rfl)
theorem dX17_looking_3 : decode cX17_looking 3 = .ok (.invokevirtual 19, 3) := dk_182 0 19 (dk_at dksX17_looking_0 3 rfl rfl)
theorem dX17_looking_6 : decode cX17_looking 6 = .ok (.aload_n 0, 1) := dk_42 (dk_at dksX17_looking_0 6 rfl rfl)
theorem dX17_looking_7 : decode cX17_looking 7 = .ok (.iload_n 1, 1) := dk_27 (dk_at dksX17_looking_0 7 rfl rfl)
theorem dX17_looking_8 : decode cX17_looking 8 = .ok (.aload_n 0, 1) := dk_42 (dk_at dksX17_looking_0 8 rfl rfl)
theorem dX17_looking_9 : decode cX17_looking 9 = .ok (.getfield 13, 3) := dk_180 0 13 (dk_at dksX17_looking_0 9 rfl rfl)
theorem dX17_looking_12 : decode cX17_looking 12 = .ok (.isub, 1) := dk_100 (dk_at dksX17_looking_0 12 rfl rfl)
theorem dX17_looking_13 : decode cX17_looking 13 = .ok (.aload_n 2, 1) := dk_44 (dk_at dksX17_looking_0 13 rfl rfl)
theorem dX17_looking_14 : decode cX17_looking 14 = .ok (.invokespecial 29, 3) := dk_183 0 29 (dk_at dksX17_looking_0 14 rfl rfl)
theorem dX17_looking_17 : decode cX17_looking 17 = .ok (.ireturn, 1) := dk_172 (dk_at dksX17_looking_0 17 rfl rfl)
theorem q103 : (Jvm.Cond.initialized "SeenByOne$Fir") ∈ lw_all := lw_g (lw_at lw_m1 29 rfl) rfl
theorem q553 : (Jvm.Cond.selects "SeenByOne$Fir" ({ cls := "SeenByOne$Thing", name := "isHouse", desc := "()Z" } : Jvm.MethodName) ({ cls := "SeenByOne$Thing", name := "isHouse", desc := "()Z" } : Jvm.MethodName)) ∈ lw_all := lw_g (lw_at lw_m2 239 rfl) rfl
theorem q574 : (Jvm.Cond.selects "SeenByOne$Fir" ({ cls := "SeenByOne$Thing", name := "eyes", desc := "(I)I" } : Jvm.MethodName) ({ cls := "SeenByOne$Thing", name := "eyes", desc := "(I)I" } : Jvm.MethodName)) ∈ lw_all := lw_g (lw_at lw_m3 20 rfl) rfl
theorem q616 : (Jvm.Cond.selects "SeenByOne$Fir" ({ cls := "SeenByOne$Thing", name := "tall", desc := "(IZ)I" } : Jvm.MethodName) ({ cls := "SeenByOne$Fir", name := "tall", desc := "(IZ)I" } : Jvm.MethodName)) ∈ lw_all := lw_g (lw_at lw_m3 62 rfl) rfl
theorem q617 : (Jvm.Cond.instanceMethod ({ cls := "SeenByOne$Fir", name := "tall", desc := "(IZ)I" } : Jvm.MethodName)) ∈ lw_all := lw_g (lw_at lw_m3 63 rfl) rfl
theorem q618 : (Jvm.Cond.code ({ cls := "SeenByOne$Fir", name := "tall", desc := "(IZ)I" } : Jvm.MethodName) prog_5_method_3_code (3 : Nat) (Option.some Jvm.ClassFile.FieldType.int)) ∈ lw_all := lw_g (lw_at lw_m3 64 rfl) rfl
theorem q619 : (Jvm.Cond.methodLink "SeenByOne$Fir" (9 : Nat) ({ cls := "SeenByOne$Tree", name := "tall", desc := "(IZ)I" } : Jvm.MethodName)) ∈ lw_all := lw_g (lw_at lw_m3 65 rfl) rfl
theorem q620 : (Jvm.Cond.superclass "SeenByOne$Fir" "SeenByOne$Tree") ∈ lw_all := lw_g (lw_at lw_m3 66 rfl) rfl
theorem q635 : (Jvm.Cond.selects "SeenByOne$Fir" ({ cls := "SeenByOne$Thing", name := "counts", desc := "()Z" } : Jvm.MethodName) ({ cls := "SeenByOne$Thing", name := "counts", desc := "()Z" } : Jvm.MethodName)) ∈ lw_all := lw_g (lw_at lw_m3 81 rfl) rfl
theorem q666 : (Jvm.Cond.selects "SeenByOne$Fir" ({ cls := "SeenByOne$Thing", name := "wanted", desc := "()I" } : Jvm.MethodName) ({ cls := "SeenByOne$Thing", name := "wanted", desc := "()I" } : Jvm.MethodName)) ∈ lw_all := lw_g (lw_at lw_m3 112 rfl) rfl
theorem q686 : (Jvm.Cond.instanceMethod ({ cls := "SeenByOne$Fir", name := "leaves", desc := "()I" } : Jvm.MethodName)) ∈ lw_all := lw_g (lw_at lw_m3 132 rfl) rfl
theorem q687 : (Jvm.Cond.selects "SeenByOne$Fir" ({ cls := "SeenByOne$Fir", name := "leaves", desc := "()I" } : Jvm.MethodName) ({ cls := "SeenByOne$Fir", name := "leaves", desc := "()I" } : Jvm.MethodName)) ∈ lw_all := lw_g (lw_at lw_m3 133 rfl) rfl
theorem q688 : (Jvm.Cond.code ({ cls := "SeenByOne$Fir", name := "leaves", desc := "()I" } : Jvm.MethodName) prog_5_method_4_code (1 : Nat) (Option.some Jvm.ClassFile.FieldType.int)) ∈ lw_all := lw_g (lw_at lw_m3 134 rfl) rfl
theorem q736 : (Jvm.Cond.fieldLink "SeenByOne$Fir" (13 : Nat) "SeenByOne$Fir" "by" "I") ∈ lw_all := lw_g (lw_at lw_m3 182 rfl) rfl
theorem q737 : (Jvm.Cond.sameField "SeenByOne$Fir" "SeenByOne$Thing" "by" "I") ∈ lw_all := lw_g (lw_at lw_m3 183 rfl) rfl
theorem q794 : (Jvm.Cond.instantiable "SeenByOne$Fir" (4 : Nat)) ∈ lw_all := lw_g (lw_at lw_m4 0 rfl) rfl
theorem q796 : (Jvm.Cond.instanceMethod ({ cls := "SeenByOne$Fir", name := "<init>", desc := "(IIII)V" } : Jvm.MethodName)) ∈ lw_all := lw_g (lw_at lw_m4 2 rfl) rfl
theorem q797 : (Jvm.Cond.code ({ cls := "SeenByOne$Fir", name := "<init>", desc := "(IIII)V" } : Jvm.MethodName) prog_5_method_1_code (5 : Nat) (Option.none : Option Jvm.ClassFile.FieldType)) ∈ lw_all := lw_g (lw_at lw_m4 3 rfl) rfl
theorem q798 : (Jvm.Cond.methodLink "SeenByOne$Fir" (3 : Nat) ({ cls := "SeenByOne$Tree", name := "<init>", desc := "(IIII)V" } : Jvm.MethodName)) ∈ lw_all := lw_g (lw_at lw_m4 4 rfl) rfl
theorem q799 : (Jvm.Cond.laysFinal "SeenByOne$Fir" "SeenByOne$Thing" "index" "I") ∈ lw_all := lw_g (lw_at lw_m4 5 rfl) rfl
theorem q800 : (Jvm.Cond.laysFinal "SeenByOne$Fir" "SeenByOne$Thing" "x" "I") ∈ lw_all := lw_g (lw_at lw_m4 6 rfl) rfl
theorem q801 : (Jvm.Cond.laysFinal "SeenByOne$Fir" "SeenByOne$Thing" "y" "I") ∈ lw_all := lw_g (lw_at lw_m4 7 rfl) rfl
theorem q802 : (Jvm.Cond.laysFinal "SeenByOne$Fir" "SeenByOne$Thing" "by" "I") ∈ lw_all := lw_g (lw_at lw_m4 8 rfl) rfl
theorem q825 : (Jvm.Cond.selects "SeenByOne$Fir" ({ cls := "SeenByOne$Thing", name := "kind", desc := "()I" } : Jvm.MethodName) ({ cls := "SeenByOne$Fir", name := "kind", desc := "()I" } : Jvm.MethodName)) ∈ lw_all := lw_g (lw_at lw_m4 31 rfl) rfl
theorem q826 : (Jvm.Cond.instanceMethod ({ cls := "SeenByOne$Fir", name := "kind", desc := "()I" } : Jvm.MethodName)) ∈ lw_all := lw_g (lw_at lw_m4 32 rfl) rfl
theorem q827 : (Jvm.Cond.code ({ cls := "SeenByOne$Fir", name := "kind", desc := "()I" } : Jvm.MethodName) prog_5_method_2_code (1 : Nat) (Option.some Jvm.ClassFile.FieldType.int)) ∈ lw_all := lw_g (lw_at lw_m4 33 rfl) rfl
theorem q1216 : (Jvm.Cond.selects "SeenByOne$Fir" ({ cls := "SeenByOne$Thing", name := "grows", desc := "()Z" } : Jvm.MethodName) ({ cls := "SeenByOne$Tree", name := "grows", desc := "()Z" } : Jvm.MethodName)) ∈ lw_all := lw_g (lw_at lw_m5 182 rfl) rfl
theorem q1254 : (Jvm.Cond.selects "SeenByOne$Fir" ({ cls := "SeenByOne$Thing", name := "standing", desc := "(ILSeenByOne$Trace;)I" } : Jvm.MethodName) ({ cls := "SeenByOne$Fir", name := "standing", desc := "(ILSeenByOne$Trace;)I" } : Jvm.MethodName)) ∈ lw_all := lw_g (lw_at lw_m5 220 rfl) rfl
theorem q1255 : (Jvm.Cond.instanceMethod ({ cls := "SeenByOne$Fir", name := "standing", desc := "(ILSeenByOne$Trace;)I" } : Jvm.MethodName)) ∈ lw_all := lw_g (lw_at lw_m5 221 rfl) rfl
theorem q1256 : (Jvm.Cond.code ({ cls := "SeenByOne$Fir", name := "standing", desc := "(ILSeenByOne$Trace;)I" } : Jvm.MethodName) prog_5_method_5_code (3 : Nat) (Option.some Jvm.ClassFile.FieldType.int)) ∈ lw_all := lw_g (lw_at lw_m5 222 rfl) rfl
theorem q1257 : (Jvm.Cond.methodLink "SeenByOne$Fir" (19 : Nat) ({ cls := "SeenByOne$Trace", name := "runs", desc := "(I)V" } : Jvm.MethodName)) ∈ lw_all := lw_g (lw_at lw_m5 223 rfl) rfl
theorem q1258 : (Jvm.Cond.methodLink "SeenByOne$Fir" (25 : Nat) ({ cls := "SeenByOne$Tree", name := "standing", desc := "(ILSeenByOne$Trace;)I" } : Jvm.MethodName)) ∈ lw_all := lw_g (lw_at lw_m5 224 rfl) rfl
theorem q1276 : (Jvm.Cond.selects "SeenByOne$Fir" ({ cls := "SeenByOne$Thing", name := "looking", desc := "(ILSeenByOne$Trace;)I" } : Jvm.MethodName) ({ cls := "SeenByOne$Fir", name := "looking", desc := "(ILSeenByOne$Trace;)I" } : Jvm.MethodName)) ∈ lw_all := lw_g (lw_at lw_m6 2 rfl) rfl
theorem q1277 : (Jvm.Cond.instanceMethod ({ cls := "SeenByOne$Fir", name := "looking", desc := "(ILSeenByOne$Trace;)I" } : Jvm.MethodName)) ∈ lw_all := lw_g (lw_at lw_m6 3 rfl) rfl
theorem q1278 : (Jvm.Cond.code ({ cls := "SeenByOne$Fir", name := "looking", desc := "(ILSeenByOne$Trace;)I" } : Jvm.MethodName) prog_5_method_6_code (3 : Nat) (Option.some Jvm.ClassFile.FieldType.int)) ∈ lw_all := lw_g (lw_at lw_m6 4 rfl) rfl
theorem q1279 : (Jvm.Cond.methodLink "SeenByOne$Fir" (29 : Nat) ({ cls := "SeenByOne$Tree", name := "looking", desc := "(ILSeenByOne$Trace;)I" } : Jvm.MethodName)) ∈ lw_all := lw_g (lw_at lw_m6 5 rfl) rfl
theorem q1307 : (Jvm.Cond.selects "SeenByOne$Fir" ({ cls := "SeenByOne$Thing", name := "hiding", desc := "(ILSeenByOne$Trace;)I" } : Jvm.MethodName) ({ cls := "SeenByOne$Thing", name := "hiding", desc := "(ILSeenByOne$Trace;)I" } : Jvm.MethodName)) ∈ lw_all := lw_g (lw_at lw_m6 33 rfl) rfl
theorem q1843 : (Jvm.Cond.castable "SeenByOne$Fir" "SeenByOne$Thing") ∈ lw_tbl := lw_at lw_m8 89 rfl
theorem q1851 : (Jvm.Cond.castable "SeenByOne$Fir" "SeenByOne$Tree") ∈ lw_tbl := lw_at lw_m8 97 rfl
theorem in_X17 : ∀ w ∈ wsX170, w ∈ lw_all := lw_in wsX170 [799, 800, 801, 802] (by decide +kernel) (by decide +kernel)

/-! SeenByOne$Reader -/
set_option maxRecDepth 100000
def RX18 : String := "SeenByOne$Reader"
def TX18 : u_T := fun k => match k with
  | 0 => ("SeenByOne$Reader", "text", "LSeenByOne$Row;", true)
  | 1 => ("SeenByOne$Reader", "g", "LSeenByOne$Ground;", true)
  | 2 => ("SeenByOne$Reader", "at", "I", false)
  | _ => ("SeenByOne$Reader", "place", "I", false)
def tyX18 : Nat → FieldType := fun k => match k with
  | 0 => .object "SeenByOne$Row"
  | 1 => .object "SeenByOne$Ground"
  | 2 => .int
  | _ => .int
abbrev wsX180 : List Cond := u_ws RX18 TX18 4
theorem nmX18 : ∀ a, a < 4 → ∀ b, b < 4 → a ≠ b → (TX18 a).2.1 ≠ (TX18 b).2.1 := by decide +kernel
theorem tyX18_ok : ∀ k, k < 4 → parseFieldDescriptor (TX18 k).2.2.1 = some (tyX18 k) := by decide +kernel
abbrev cX18_init : ByteArray := prog_10_method_1_code
def yX18_init : MethodName := ⟨RX18, "<init>", "(LSeenByOne$Row;LSeenByOne$Ground;)V"⟩
def dkwX18_init_0 : List UInt8 := [42, 183, 0, 3, 42, 43, 181, 0, 9, 42, 44, 181, 0, 15, 177]
abbrev dktX18_init_0 : List UInt8 := dkwX18_init_0 ++ []
theorem dksX18_init_0 : cX18_init.data.toList.drop 0 = dktX18_init_0 := by decide +kernel
theorem dX18_init_0 : decode cX18_init 0 = .ok (.aload_n 0, 1) := dk_42 (dk_at dksX18_init_0 0 rfl rfl)
theorem dX18_init_1 : decode cX18_init 1 = .ok (.invokespecial 3, 3) := dk_183 0 3 (dk_at dksX18_init_0 1 rfl rfl)
theorem dX18_init_4 : decode cX18_init 4 = .ok (.aload_n 0, 1) := dk_42 (dk_at dksX18_init_0 4 rfl rfl)
theorem dX18_init_5 : decode cX18_init 5 = .ok (.aload_n 1, 1) := dk_43 (dk_at dksX18_init_0 5 rfl rfl)
theorem dX18_init_6 : decode cX18_init 6 = .ok (.putfield 9, 3) := dk_181 0 9 (dk_at dksX18_init_0 6 rfl rfl)
theorem dX18_init_9 : decode cX18_init 9 = .ok (.aload_n 0, 1) := dk_42 (dk_at dksX18_init_0 9 rfl rfl)
theorem dX18_init_10 : decode cX18_init 10 = .ok (.aload_n 2, 1) := dk_44 (dk_at dksX18_init_0 10 rfl rfl)
theorem dX18_init_11 : decode cX18_init 11 = .ok (.putfield 15, 3) := dk_181 0 15 (dk_at dksX18_init_0 11 rfl rfl)
theorem dX18_init_14 : decode cX18_init 14 = .ok (.return_, 1) := dk_177 (dk_at dksX18_init_0 14 rfl rfl)
abbrev cX18_items : ByteArray := prog_10_method_9_code
def yX18_items : MethodName := ⟨RX18, "items", "()I"⟩
def dkwX18_items_1 : List UInt8 := [132, 1, 1, 167, 255, 236, 27, 172]
abbrev dktX18_items_1 : List UInt8 := dkwX18_items_1 ++ []
def dkwX18_items_0 : List UInt8 := [4, 60, 42, 182, 0, 70, 42, 182, 0, 29, 154, 0, 19, 42, 16, 59, 182, 0, 53, 42, 182, 0, 70]
abbrev dktX18_items_0 : List UInt8 := dkwX18_items_0 ++ dktX18_items_1
theorem dksX18_items_0 : cX18_items.data.toList.drop 0 = dktX18_items_0 := by decide +kernel
theorem dksX18_items_1 : cX18_items.data.toList.drop 23 = dktX18_items_1 := dk_seg dksX18_items_0 23 rfl rfl
theorem dX18_items_0 : decode cX18_items 0 = .ok (.iconst 1, 1) := dk_4 (dk_at dksX18_items_0 0 rfl rfl)
theorem dX18_items_1 : decode cX18_items 1 = .ok (.istore_n 1, 1) := dk_60 (dk_at dksX18_items_0 1 rfl rfl)
theorem dX18_items_2 : decode cX18_items 2 = .ok (.aload_n 0, 1) := dk_42 (dk_at dksX18_items_0 2 rfl rfl)
theorem dX18_items_3 : decode cX18_items 3 = .ok (.invokevirtual 70, 3) := dk_182 0 70 (dk_at dksX18_items_0 3 rfl rfl)
theorem dX18_items_6 : decode cX18_items 6 = .ok (.aload_n 0, 1) := dk_42 (dk_at dksX18_items_0 6 rfl rfl)
theorem dX18_items_7 : decode cX18_items 7 = .ok (.invokevirtual 29, 3) := dk_182 0 29 (dk_at dksX18_items_0 7 rfl rfl)
theorem dX18_items_10 : decode cX18_items 10 = .ok (.ifCond .ne 19, 3) := dk_154 0 19 (dk_at dksX18_items_0 10 rfl rfl)
theorem dX18_items_13 : decode cX18_items 13 = .ok (.aload_n 0, 1) := dk_42 (dk_at dksX18_items_0 13 rfl rfl)
theorem dX18_items_14 : decode cX18_items 14 = .ok (.bipush 59, 2) := dk_16 59 (dk_at dksX18_items_0 14 rfl rfl)
theorem dX18_items_16 : decode cX18_items 16 = .ok (.invokevirtual 53, 3) := dk_182 0 53 (dk_at dksX18_items_0 16 rfl rfl)
theorem dX18_items_19 : decode cX18_items 19 = .ok (.aload_n 0, 1) := dk_42 (dk_at dksX18_items_0 19 rfl rfl)
theorem dX18_items_20 : decode cX18_items 20 = .ok (.invokevirtual 70, 3) := dk_182 0 70 (dk_at dksX18_items_0 20 rfl rfl)
theorem dX18_items_23 : decode cX18_items 23 = .ok (.iinc 1 1, 3) := dk_132 1 1 (dk_at dksX18_items_1 0 rfl rfl)
theorem dX18_items_26 : decode cX18_items 26 = .ok (.goto (-20), 3) := dk_167 255 236 (dk_at dksX18_items_1 3 rfl rfl)
theorem dX18_items_29 : decode cX18_items 29 = .ok (.iload_n 1, 1) := dk_27 (dk_at dksX18_items_1 6 rfl rfl)
theorem dX18_items_30 : decode cX18_items 30 = .ok (.ireturn, 1) := dk_172 (dk_at dksX18_items_1 7 rfl rfl)
abbrev cX18_item : ByteArray := prog_10_method_12_code
def yX18_item : MethodName := ⟨RX18, "item", "()V"⟩
def dkwX18_item_8 : List UInt8 := [181, 0, 122, 177]
abbrev dktX18_item_8 : List UInt8 := dkwX18_item_8 ++ []
def dkwX18_item_7 : List UInt8 := [167, 0, 27, 42, 18, 120, 182, 0, 95, 42, 180, 0, 15, 89, 180, 0, 122, 4, 42, 182, 0, 109, 120, 128]
abbrev dktX18_item_7 : List UInt8 := dkwX18_item_7 ++ dktX18_item_8
def dkwX18_item_6 : List UInt8 := [153, 0, 26, 42, 18, 116, 182, 0, 95, 42, 180, 0, 15, 42, 4, 16, 9, 182, 0, 73, 181, 0, 118]
abbrev dktX18_item_6 : List UInt8 := dkwX18_item_6 ++ dktX18_item_7
def dkwX18_item_5 : List UInt8 := [180, 0, 15, 180, 0, 112, 29, 92, 46, 4, 28, 120, 128, 79, 167, 0, 59, 42, 16, 102, 182, 0, 37]
abbrev dktX18_item_5 : List UInt8 := dkwX18_item_5 ++ dktX18_item_6
def dkwX18_item_4 : List UInt8 := [182, 0, 109, 62, 42, 28, 29, 159, 0, 7, 4, 167, 0, 4, 3, 42, 180, 0, 56, 182, 0, 66, 42]
abbrev dktX18_item_4 : List UInt8 := dkwX18_item_4 ++ dktX18_item_5
def dkwX18_item_3 : List UInt8 := [160, 0, 7, 4, 167, 0, 4, 3, 181, 0, 103, 177, 42, 18, 107, 182, 0, 95, 42, 182, 0, 109, 61, 42]
abbrev dktX18_item_3 : List UInt8 := dkwX18_item_3 ++ dktX18_item_4
def dkwX18_item_2 : List UInt8 := [182, 0, 37, 153, 0, 32, 42, 18, 101, 182, 0, 95, 42, 180, 0, 15, 42, 3, 4, 182, 0, 73, 4]
abbrev dktX18_item_2 : List UInt8 := dkwX18_item_2 ++ dktX18_item_3
def dkwX18_item_1 : List UInt8 := [182, 0, 99, 167, 0, 164, 42, 16, 115, 182, 0, 37, 153, 0, 99, 42, 16, 115, 182, 0, 53, 42, 16, 117]
abbrev dktX18_item_1 : List UInt8 := dkwX18_item_1 ++ dktX18_item_2
def dkwX18_item_0 : List UInt8 := [42, 180, 0, 19, 60, 42, 16, 116, 182, 0, 37, 153, 0, 17, 42, 18, 93, 182, 0, 95, 42, 27]
abbrev dktX18_item_0 : List UInt8 := dkwX18_item_0 ++ dktX18_item_1
theorem dksX18_item_0 : cX18_item.data.toList.drop 0 = dktX18_item_0 := by decide +kernel
theorem dksX18_item_1 : cX18_item.data.toList.drop 22 = dktX18_item_1 := dk_seg dksX18_item_0 22 rfl rfl
theorem dksX18_item_2 : cX18_item.data.toList.drop 46 = dktX18_item_2 := dk_seg dksX18_item_1 24 rfl rfl
theorem dksX18_item_3 : cX18_item.data.toList.drop 69 = dktX18_item_3 := dk_seg dksX18_item_2 23 rfl rfl
theorem dksX18_item_4 : cX18_item.data.toList.drop 93 = dktX18_item_4 := dk_seg dksX18_item_3 24 rfl rfl
theorem dksX18_item_5 : cX18_item.data.toList.drop 116 = dktX18_item_5 := dk_seg dksX18_item_4 23 rfl rfl
theorem dksX18_item_6 : cX18_item.data.toList.drop 139 = dktX18_item_6 := dk_seg dksX18_item_5 23 rfl rfl
theorem dksX18_item_7 : cX18_item.data.toList.drop 162 = dktX18_item_7 := dk_seg dksX18_item_6 23 rfl rfl
theorem dksX18_item_8 : cX18_item.data.toList.drop 186 = dktX18_item_8 := dk_seg dksX18_item_7 24 rfl rfl
theorem dX18_item_0 : decode cX18_item 0 = .ok (.aload_n 0, 1) := dk_42 (dk_at dksX18_item_0 0 rfl rfl)
theorem dX18_item_1 : decode cX18_item 1 = .ok (.getfield 19, 3) := dk_180 0 19 (dk_at dksX18_item_0 1 rfl rfl)
theorem dX18_item_4 : decode cX18_item 4 = .ok (.istore_n 1, 1) := dk_60 (dk_at dksX18_item_0 4 rfl rfl)
theorem dX18_item_5 : decode cX18_item 5 = .ok (.aload_n 0, 1) := dk_42 (dk_at dksX18_item_0 5 rfl rfl)
theorem dX18_item_6 : decode cX18_item 6 = .ok (.bipush 116, 2) := dk_16 116 (dk_at dksX18_item_0 6 rfl rfl)
theorem dX18_item_8 : decode cX18_item 8 = .ok (.invokevirtual 37, 3) := dk_182 0 37 (dk_at dksX18_item_0 8 rfl rfl)
theorem dX18_item_11 : decode cX18_item 11 = .ok (.ifCond .eq 17, 3) := dk_153 0 17 (dk_at dksX18_item_0 11 rfl rfl)
theorem dX18_item_14 : decode cX18_item 14 = .ok (.aload_n 0, 1) := dk_42 (dk_at dksX18_item_0 14 rfl rfl)
theorem dX18_item_15 : decode cX18_item 15 = .ok (.ldc 93, 2) := dk_18 93 (dk_at dksX18_item_0 15 rfl rfl)
theorem dX18_item_17 : decode cX18_item 17 = .ok (.invokevirtual 95, 3) := dk_182 0 95 (dk_at dksX18_item_0 17 rfl rfl)
theorem dX18_item_20 : decode cX18_item 20 = .ok (.aload_n 0, 1) := dk_42 (dk_at dksX18_item_0 20 rfl rfl)
theorem dX18_item_21 : decode cX18_item 21 = .ok (.iload_n 1, 1) := dk_27 (dk_at dksX18_item_0 21 rfl rfl)
theorem dX18_item_22 : decode cX18_item 22 = .ok (.invokevirtual 99, 3) := dk_182 0 99 (dk_at dksX18_item_1 0 rfl rfl)
theorem dX18_item_25 : decode cX18_item 25 = .ok (.goto 164, 3) := dk_167 0 164 (dk_at dksX18_item_1 3 rfl rfl)
theorem dX18_item_28 : decode cX18_item 28 = .ok (.aload_n 0, 1) := dk_42 (dk_at dksX18_item_1 6 rfl rfl)
theorem dX18_item_29 : decode cX18_item 29 = .ok (.bipush 115, 2) := dk_16 115 (dk_at dksX18_item_1 7 rfl rfl)
theorem dX18_item_31 : decode cX18_item 31 = .ok (.invokevirtual 37, 3) := dk_182 0 37 (dk_at dksX18_item_1 9 rfl rfl)
theorem dX18_item_34 : decode cX18_item 34 = .ok (.ifCond .eq 99, 3) := dk_153 0 99 (dk_at dksX18_item_1 12 rfl rfl)
theorem dX18_item_37 : decode cX18_item 37 = .ok (.aload_n 0, 1) := dk_42 (dk_at dksX18_item_1 15 rfl rfl)
theorem dX18_item_38 : decode cX18_item 38 = .ok (.bipush 115, 2) := dk_16 115 (dk_at dksX18_item_1 16 rfl rfl)
theorem dX18_item_40 : decode cX18_item 40 = .ok (.invokevirtual 53, 3) := dk_182 0 53 (dk_at dksX18_item_1 18 rfl rfl)
theorem dX18_item_43 : decode cX18_item 43 = .ok (.aload_n 0, 1) := dk_42 (dk_at dksX18_item_1 21 rfl rfl)
theorem dX18_item_44 : decode cX18_item 44 = .ok (.bipush 117, 2) := dk_16 117 (dk_at dksX18_item_1 22 rfl rfl)
theorem dX18_item_46 : decode cX18_item 46 = .ok (.invokevirtual 37, 3) := dk_182 0 37 (dk_at dksX18_item_2 0 rfl rfl)
theorem dX18_item_49 : decode cX18_item 49 = .ok (.ifCond .eq 32, 3) := dk_153 0 32 (dk_at dksX18_item_2 3 rfl rfl)
theorem dX18_item_52 : decode cX18_item 52 = .ok (.aload_n 0, 1) := dk_42 (dk_at dksX18_item_2 6 rfl rfl)
theorem dX18_item_53 : decode cX18_item 53 = .ok (.ldc 101, 2) := dk_18 101 (dk_at dksX18_item_2 7 rfl rfl)
theorem dX18_item_55 : decode cX18_item 55 = .ok (.invokevirtual 95, 3) := dk_182 0 95 (dk_at dksX18_item_2 9 rfl rfl)
theorem dX18_item_58 : decode cX18_item 58 = .ok (.aload_n 0, 1) := dk_42 (dk_at dksX18_item_2 12 rfl rfl)
theorem dX18_item_59 : decode cX18_item 59 = .ok (.getfield 15, 3) := dk_180 0 15 (dk_at dksX18_item_2 13 rfl rfl)
theorem dX18_item_62 : decode cX18_item 62 = .ok (.aload_n 0, 1) := dk_42 (dk_at dksX18_item_2 16 rfl rfl)
theorem dX18_item_63 : decode cX18_item 63 = .ok (.iconst 0, 1) := dk_3 (dk_at dksX18_item_2 17 rfl rfl)
theorem dX18_item_64 : decode cX18_item 64 = .ok (.iconst 1, 1) := dk_4 (dk_at dksX18_item_2 18 rfl rfl)
theorem dX18_item_65 : decode cX18_item 65 = .ok (.invokevirtual 73, 3) := dk_182 0 73 (dk_at dksX18_item_2 19 rfl rfl)
theorem dX18_item_68 : decode cX18_item 68 = .ok (.iconst 1, 1) := dk_4 (dk_at dksX18_item_2 22 rfl rfl)
theorem dX18_item_69 : decode cX18_item 69 = .ok (.if_icmp .ne 7, 3) := dk_160 0 7 (dk_at dksX18_item_3 0 rfl rfl)
theorem dX18_item_72 : decode cX18_item 72 = .ok (.iconst 1, 1) := dk_4 (dk_at dksX18_item_3 3 rfl rfl)
theorem dX18_item_73 : decode cX18_item 73 = .ok (.goto 4, 3) := dk_167 0 4 (dk_at dksX18_item_3 4 rfl rfl)
theorem dX18_item_76 : decode cX18_item 76 = .ok (.iconst 0, 1) := dk_3 (dk_at dksX18_item_3 7 rfl rfl)
theorem dX18_item_77 : decode cX18_item 77 = .ok (.putfield 103, 3) := dk_181 0 103 (dk_at dksX18_item_3 8 rfl rfl)
theorem dX18_item_80 : decode cX18_item 80 = .ok (.return_, 1) := dk_177 (dk_at dksX18_item_3 11 rfl rfl)
theorem dX18_item_81 : decode cX18_item 81 = .ok (.aload_n 0, 1) := dk_42 (dk_at dksX18_item_3 12 rfl rfl)
theorem dX18_item_82 : decode cX18_item 82 = .ok (.ldc 107, 2) := dk_18 107 (dk_at dksX18_item_3 13 rfl rfl)
theorem dX18_item_84 : decode cX18_item 84 = .ok (.invokevirtual 95, 3) := dk_182 0 95 (dk_at dksX18_item_3 15 rfl rfl)
theorem dX18_item_87 : decode cX18_item 87 = .ok (.aload_n 0, 1) := dk_42 (dk_at dksX18_item_3 18 rfl rfl)
theorem dX18_item_88 : decode cX18_item 88 = .ok (.invokevirtual 109, 3) := dk_182 0 109 (dk_at dksX18_item_3 19 rfl rfl)
theorem dX18_item_91 : decode cX18_item 91 = .ok (.istore_n 2, 1) := dk_61 (dk_at dksX18_item_3 22 rfl rfl)
theorem dX18_item_92 : decode cX18_item 92 = .ok (.aload_n 0, 1) := dk_42 (dk_at dksX18_item_3 23 rfl rfl)
theorem dX18_item_93 : decode cX18_item 93 = .ok (.invokevirtual 109, 3) := dk_182 0 109 (dk_at dksX18_item_4 0 rfl rfl)
theorem dX18_item_96 : decode cX18_item 96 = .ok (.istore_n 3, 1) := dk_62 (dk_at dksX18_item_4 3 rfl rfl)
theorem dX18_item_97 : decode cX18_item 97 = .ok (.aload_n 0, 1) := dk_42 (dk_at dksX18_item_4 4 rfl rfl)
theorem dX18_item_98 : decode cX18_item 98 = .ok (.iload_n 2, 1) := dk_28 (dk_at dksX18_item_4 5 rfl rfl)
theorem dX18_item_99 : decode cX18_item 99 = .ok (.iload_n 3, 1) := dk_29 (dk_at dksX18_item_4 6 rfl rfl)
theorem dX18_item_100 : decode cX18_item 100 = .ok (.if_icmp .eq 7, 3) := dk_159 0 7 (dk_at dksX18_item_4 7 rfl rfl)
theorem dX18_item_103 : decode cX18_item 103 = .ok (.iconst 1, 1) := dk_4 (dk_at dksX18_item_4 10 rfl rfl)
theorem dX18_item_104 : decode cX18_item 104 = .ok (.goto 4, 3) := dk_167 0 4 (dk_at dksX18_item_4 11 rfl rfl)
theorem dX18_item_107 : decode cX18_item 107 = .ok (.iconst 0, 1) := dk_3 (dk_at dksX18_item_4 14 rfl rfl)
theorem dX18_item_108 : decode cX18_item 108 = .ok (.aload_n 0, 1) := dk_42 (dk_at dksX18_item_4 15 rfl rfl)
theorem dX18_item_109 : decode cX18_item 109 = .ok (.getfield 56, 3) := dk_180 0 56 (dk_at dksX18_item_4 16 rfl rfl)
theorem dX18_item_112 : decode cX18_item 112 = .ok (.invokevirtual 66, 3) := dk_182 0 66 (dk_at dksX18_item_4 19 rfl rfl)
theorem dX18_item_115 : decode cX18_item 115 = .ok (.aload_n 0, 1) := dk_42 (dk_at dksX18_item_4 22 rfl rfl)
theorem dX18_item_116 : decode cX18_item 116 = .ok (.getfield 15, 3) := dk_180 0 15 (dk_at dksX18_item_5 0 rfl rfl)
theorem dX18_item_119 : decode cX18_item 119 = .ok (.getfield 112, 3) := dk_180 0 112 (dk_at dksX18_item_5 3 rfl rfl)
theorem dX18_item_122 : decode cX18_item 122 = .ok (.iload_n 3, 1) := dk_29 (dk_at dksX18_item_5 6 rfl rfl)
theorem dX18_item_123 : decode cX18_item 123 = .ok (.dup2, 1) := dk_92 (dk_at dksX18_item_5 7 rfl rfl)
theorem dX18_item_124 : decode cX18_item 124 = .ok (.iaload, 1) := dk_46 (dk_at dksX18_item_5 8 rfl rfl)
theorem dX18_item_125 : decode cX18_item 125 = .ok (.iconst 1, 1) := dk_4 (dk_at dksX18_item_5 9 rfl rfl)
theorem dX18_item_126 : decode cX18_item 126 = .ok (.iload_n 2, 1) := dk_28 (dk_at dksX18_item_5 10 rfl rfl)
theorem dX18_item_127 : decode cX18_item 127 = .ok (.ishl, 1) := dk_120 (dk_at dksX18_item_5 11 rfl rfl)
theorem dX18_item_128 : decode cX18_item 128 = .ok (.ior, 1) := dk_128 (dk_at dksX18_item_5 12 rfl rfl)
theorem dX18_item_129 : decode cX18_item 129 = .ok (.iastore, 1) := dk_79 (dk_at dksX18_item_5 13 rfl rfl)
theorem dX18_item_130 : decode cX18_item 130 = .ok (.goto 59, 3) := dk_167 0 59 (dk_at dksX18_item_5 14 rfl rfl)
theorem dX18_item_133 : decode cX18_item 133 = .ok (.aload_n 0, 1) := dk_42 (dk_at dksX18_item_5 17 rfl rfl)
theorem dX18_item_134 : decode cX18_item 134 = .ok (.bipush 102, 2) := dk_16 102 (dk_at dksX18_item_5 18 rfl rfl)
theorem dX18_item_136 : decode cX18_item 136 = .ok (.invokevirtual 37, 3) := dk_182 0 37 (dk_at dksX18_item_5 20 rfl rfl)
theorem dX18_item_139 : decode cX18_item 139 = .ok (.ifCond .eq 26, 3) := dk_153 0 26 (dk_at dksX18_item_6 0 rfl rfl)
theorem dX18_item_142 : decode cX18_item 142 = .ok (.aload_n 0, 1) := dk_42 (dk_at dksX18_item_6 3 rfl rfl)
theorem dX18_item_143 : decode cX18_item 143 = .ok (.ldc 116, 2) := dk_18 116 (dk_at dksX18_item_6 4 rfl rfl)
theorem dX18_item_145 : decode cX18_item 145 = .ok (.invokevirtual 95, 3) := dk_182 0 95 (dk_at dksX18_item_6 6 rfl rfl)
theorem dX18_item_148 : decode cX18_item 148 = .ok (.aload_n 0, 1) := dk_42 (dk_at dksX18_item_6 9 rfl rfl)
theorem dX18_item_149 : decode cX18_item 149 = .ok (.getfield 15, 3) := dk_180 0 15 (dk_at dksX18_item_6 10 rfl rfl)
theorem dX18_item_152 : decode cX18_item 152 = .ok (.aload_n 0, 1) := dk_42 (dk_at dksX18_item_6 13 rfl rfl)
theorem dX18_item_153 : decode cX18_item 153 = .ok (.iconst 1, 1) := dk_4 (dk_at dksX18_item_6 14 rfl rfl)
theorem dX18_item_154 : decode cX18_item 154 = .ok (.bipush 9, 2) := dk_16 9 (dk_at dksX18_item_6 15 rfl rfl)
theorem dX18_item_156 : decode cX18_item 156 = .ok (.invokevirtual 73, 3) := dk_182 0 73 (dk_at dksX18_item_6 17 rfl rfl)
theorem dX18_item_159 : decode cX18_item 159 = .ok (.putfield 118, 3) := dk_181 0 118 (dk_at dksX18_item_6 20 rfl rfl)
theorem dX18_item_162 : decode cX18_item 162 = .ok (.goto 27, 3) := dk_167 0 27 (dk_at dksX18_item_7 0 rfl rfl)
theorem dX18_item_165 : decode cX18_item 165 = .ok (.aload_n 0, 1) := dk_42 (dk_at dksX18_item_7 3 rfl rfl)
theorem dX18_item_166 : decode cX18_item 166 = .ok (.ldc 120, 2) := dk_18 120 (dk_at dksX18_item_7 4 rfl rfl)
theorem dX18_item_168 : decode cX18_item 168 = .ok (.invokevirtual 95, 3) := dk_182 0 95 (dk_at dksX18_item_7 6 rfl rfl)
theorem dX18_item_171 : decode cX18_item 171 = .ok (.aload_n 0, 1) := dk_42 (dk_at dksX18_item_7 9 rfl rfl)
theorem dX18_item_172 : decode cX18_item 172 = .ok (.getfield 15, 3) := dk_180 0 15 (dk_at dksX18_item_7 10 rfl rfl)
theorem dX18_item_175 : decode cX18_item 175 = .ok (.dup, 1) := dk_89 (dk_at dksX18_item_7 13 rfl rfl)
theorem dX18_item_176 : decode cX18_item 176 = .ok (.getfield 122, 3) := dk_180 0 122 (dk_at dksX18_item_7 14 rfl rfl)
theorem dX18_item_179 : decode cX18_item 179 = .ok (.iconst 1, 1) := dk_4 (dk_at dksX18_item_7 17 rfl rfl)
theorem dX18_item_180 : decode cX18_item 180 = .ok (.aload_n 0, 1) := dk_42 (dk_at dksX18_item_7 18 rfl rfl)
theorem dX18_item_181 : decode cX18_item 181 = .ok (.invokevirtual 109, 3) := dk_182 0 109 (dk_at dksX18_item_7 19 rfl rfl)
theorem dX18_item_184 : decode cX18_item 184 = .ok (.ishl, 1) := dk_120 (dk_at dksX18_item_7 22 rfl rfl)
theorem dX18_item_185 : decode cX18_item 185 = .ok (.ior, 1) := dk_128 (dk_at dksX18_item_7 23 rfl rfl)
theorem dX18_item_186 : decode cX18_item 186 = .ok (.putfield 122, 3) := dk_181 0 122 (dk_at dksX18_item_8 0 rfl rfl)
theorem dX18_item_189 : decode cX18_item 189 = .ok (.return_, 1) := dk_177 (dk_at dksX18_item_8 3 rfl rfl)
abbrev cX18_sees : ByteArray := prog_10_method_3_code
def yX18_sees : MethodName := ⟨RX18, "sees", "(I)Z"⟩
def dkwX18_sees_1 : List UInt8 := [167, 0, 4, 3, 172]
abbrev dktX18_sees_1 : List UInt8 := dkwX18_sees_1 ++ []
def dkwX18_sees_0 : List UInt8 := [42, 182, 0, 29, 154, 0, 22, 42, 180, 0, 9, 42, 180, 0, 19, 182, 0, 33, 27, 160, 0, 7, 4]
abbrev dktX18_sees_0 : List UInt8 := dkwX18_sees_0 ++ dktX18_sees_1
theorem dksX18_sees_0 : cX18_sees.data.toList.drop 0 = dktX18_sees_0 := by decide +kernel
theorem dksX18_sees_1 : cX18_sees.data.toList.drop 23 = dktX18_sees_1 := dk_seg dksX18_sees_0 23 rfl rfl
theorem dX18_sees_0 : decode cX18_sees 0 = .ok (.aload_n 0, 1) := dk_42 (dk_at dksX18_sees_0 0 rfl rfl)
theorem dX18_sees_1 : decode cX18_sees 1 = .ok (.invokevirtual 29, 3) := dk_182 0 29 (dk_at dksX18_sees_0 1 rfl rfl)
theorem dX18_sees_4 : decode cX18_sees 4 = .ok (.ifCond .ne 22, 3) := dk_154 0 22 (dk_at dksX18_sees_0 4 rfl rfl)
theorem dX18_sees_7 : decode cX18_sees 7 = .ok (.aload_n 0, 1) := dk_42 (dk_at dksX18_sees_0 7 rfl rfl)
theorem dX18_sees_8 : decode cX18_sees 8 = .ok (.getfield 9, 3) := dk_180 0 9 (dk_at dksX18_sees_0 8 rfl rfl)
theorem dX18_sees_11 : decode cX18_sees 11 = .ok (.aload_n 0, 1) := dk_42 (dk_at dksX18_sees_0 11 rfl rfl)
theorem dX18_sees_12 : decode cX18_sees 12 = .ok (.getfield 19, 3) := dk_180 0 19 (dk_at dksX18_sees_0 12 rfl rfl)
theorem dX18_sees_15 : decode cX18_sees 15 = .ok (.invokevirtual 33, 3) := dk_182 0 33 (dk_at dksX18_sees_0 15 rfl rfl)
theorem dX18_sees_18 : decode cX18_sees 18 = .ok (.iload_n 1, 1) := dk_27 (dk_at dksX18_sees_0 18 rfl rfl)
theorem dX18_sees_19 : decode cX18_sees 19 = .ok (.if_icmp .ne 7, 3) := dk_160 0 7 (dk_at dksX18_sees_0 19 rfl rfl)
theorem dX18_sees_22 : decode cX18_sees 22 = .ok (.iconst 1, 1) := dk_4 (dk_at dksX18_sees_0 22 rfl rfl)
theorem dX18_sees_23 : decode cX18_sees 23 = .ok (.goto 4, 3) := dk_167 0 4 (dk_at dksX18_sees_1 0 rfl rfl)
theorem dX18_sees_26 : decode cX18_sees 26 = .ok (.iconst 0, 1) := dk_3 (dk_at dksX18_sees_1 3 rfl rfl)
theorem dX18_sees_27 : decode cX18_sees 27 = .ok (.ireturn, 1) := dk_172 (dk_at dksX18_sees_1 4 rfl rfl)
abbrev cX18_ends : ByteArray := prog_10_method_2_code
def yX18_ends : MethodName := ⟨RX18, "ends", "()Z"⟩
def dkwX18_ends_0 : List UInt8 := [42, 180, 0, 19, 42, 180, 0, 9, 182, 0, 23, 160, 0, 7, 4, 167, 0, 4, 3, 172]
abbrev dktX18_ends_0 : List UInt8 := dkwX18_ends_0 ++ []
theorem dksX18_ends_0 : cX18_ends.data.toList.drop 0 = dktX18_ends_0 := by decide +kernel
theorem dX18_ends_0 : decode cX18_ends 0 = .ok (.aload_n 0, 1) := dk_42 (dk_at dksX18_ends_0 0 rfl rfl)
theorem dX18_ends_1 : decode cX18_ends 1 = .ok (.getfield 19, 3) := dk_180 0 19 (dk_at dksX18_ends_0 1 rfl rfl)
theorem dX18_ends_4 : decode cX18_ends 4 = .ok (.aload_n 0, 1) := dk_42 (dk_at dksX18_ends_0 4 rfl rfl)
theorem dX18_ends_5 : decode cX18_ends 5 = .ok (.getfield 9, 3) := dk_180 0 9 (dk_at dksX18_ends_0 5 rfl rfl)
theorem dX18_ends_8 : decode cX18_ends 8 = .ok (.invokevirtual 23, 3) := dk_182 0 23 (dk_at dksX18_ends_0 8 rfl rfl)
theorem dX18_ends_11 : decode cX18_ends 11 = .ok (.if_icmp .ne 7, 3) := dk_160 0 7 (dk_at dksX18_ends_0 11 rfl rfl)
theorem dX18_ends_14 : decode cX18_ends 14 = .ok (.iconst 1, 1) := dk_4 (dk_at dksX18_ends_0 14 rfl rfl)
theorem dX18_ends_15 : decode cX18_ends 15 = .ok (.goto 4, 3) := dk_167 0 4 (dk_at dksX18_ends_0 15 rfl rfl)
theorem dX18_ends_18 : decode cX18_ends 18 = .ok (.iconst 0, 1) := dk_3 (dk_at dksX18_ends_0 18 rfl rfl)
theorem dX18_ends_19 : decode cX18_ends 19 = .ok (.ireturn, 1) := dk_172 (dk_at dksX18_ends_0 19 rfl rfl)
abbrev cX18_word : ByteArray := prog_10_method_5_code
def yX18_word : MethodName := ⟨RX18, "word", "(Ljava/lang/String;)V"⟩
def dkwX18_word_1 : List UInt8 := [167, 255, 236, 177]
abbrev dktX18_word_1 : List UInt8 := dkwX18_word_1 ++ []
def dkwX18_word_0 : List UInt8 := [3, 61, 28, 43, 182, 0, 46, 162, 0, 18, 42, 43, 28, 182, 0, 49, 182, 0, 53, 132, 2, 1]
abbrev dktX18_word_0 : List UInt8 := dkwX18_word_0 ++ dktX18_word_1
theorem dksX18_word_0 : cX18_word.data.toList.drop 0 = dktX18_word_0 := by decide +kernel
theorem dksX18_word_1 : cX18_word.data.toList.drop 22 = dktX18_word_1 := dk_seg dksX18_word_0 22 rfl rfl
theorem dX18_word_0 : decode cX18_word 0 = .ok (.iconst 0, 1) := dk_3 (dk_at dksX18_word_0 0 rfl rfl)
theorem dX18_word_1 : decode cX18_word 1 = .ok (.istore_n 2, 1) := dk_61 (dk_at dksX18_word_0 1 rfl rfl)
theorem dX18_word_2 : decode cX18_word 2 = .ok (.iload_n 2, 1) := dk_28 (dk_at dksX18_word_0 2 rfl rfl)
theorem dX18_word_3 : decode cX18_word 3 = .ok (.aload_n 1, 1) := dk_43 (dk_at dksX18_word_0 3 rfl rfl)
theorem dX18_word_4 : decode cX18_word 4 = .ok (.invokevirtual 46, 3) := dk_182 0 46 (dk_at dksX18_word_0 4 rfl rfl)
theorem dX18_word_7 : decode cX18_word 7 = .ok (.if_icmp .ge 18, 3) := dk_162 0 18 (dk_at dksX18_word_0 7 rfl rfl)
theorem dX18_word_10 : decode cX18_word 10 = .ok (.aload_n 0, 1) := dk_42 (dk_at dksX18_word_0 10 rfl rfl)
theorem dX18_word_11 : decode cX18_word 11 = .ok (.aload_n 1, 1) := dk_43 (dk_at dksX18_word_0 11 rfl rfl)
theorem dX18_word_12 : decode cX18_word 12 = .ok (.iload_n 2, 1) := dk_28 (dk_at dksX18_word_0 12 rfl rfl)
theorem dX18_word_13 : decode cX18_word 13 = .ok (.invokevirtual 49, 3) := dk_182 0 49 (dk_at dksX18_word_0 13 rfl rfl)
theorem dX18_word_16 : decode cX18_word 16 = .ok (.invokevirtual 53, 3) := dk_182 0 53 (dk_at dksX18_word_0 16 rfl rfl)
theorem dX18_word_19 : decode cX18_word 19 = .ok (.iinc 2 1, 3) := dk_132 2 1 (dk_at dksX18_word_0 19 rfl rfl)
theorem dX18_word_22 : decode cX18_word 22 = .ok (.goto (-20), 3) := dk_167 255 236 (dk_at dksX18_word_1 0 rfl rfl)
theorem dX18_word_25 : decode cX18_word 25 = .ok (.return_, 1) := dk_177 (dk_at dksX18_word_1 3 rfl rfl)
abbrev cX18_must : ByteArray := prog_10_method_4_code
def yX18_must : MethodName := ⟨RX18, "must", "(I)V"⟩
def dkwX18_must_1 : List UInt8 := [180, 0, 19, 4, 96, 181, 0, 19, 177]
abbrev dktX18_must_1 : List UInt8 := dkwX18_must_1 ++ []
def dkwX18_must_0 : List UInt8 := [42, 27, 182, 0, 37, 154, 0, 15, 187, 0, 41, 89, 42, 180, 0, 19, 183, 0, 43, 191, 42, 89]
abbrev dktX18_must_0 : List UInt8 := dkwX18_must_0 ++ dktX18_must_1
theorem dksX18_must_0 : cX18_must.data.toList.drop 0 = dktX18_must_0 := by decide +kernel
theorem dksX18_must_1 : cX18_must.data.toList.drop 22 = dktX18_must_1 := dk_seg dksX18_must_0 22 rfl rfl
theorem dX18_must_0 : decode cX18_must 0 = .ok (.aload_n 0, 1) := dk_42 (dk_at dksX18_must_0 0 rfl rfl)
theorem dX18_must_1 : decode cX18_must 1 = .ok (.iload_n 1, 1) := dk_27 (dk_at dksX18_must_0 1 rfl rfl)
theorem dX18_must_2 : decode cX18_must 2 = .ok (.invokevirtual 37, 3) := dk_182 0 37 (dk_at dksX18_must_0 2 rfl rfl)
theorem dX18_must_5 : decode cX18_must 5 = .ok (.ifCond .ne 15, 3) := dk_154 0 15 (dk_at dksX18_must_0 5 rfl rfl)
theorem dX18_must_8 : decode cX18_must 8 = .ok (.new 41, 3) := dk_187 0 41 (dk_at dksX18_must_0 8 rfl rfl)
theorem dX18_must_11 : decode cX18_must 11 = .ok (.dup, 1) := dk_89 (dk_at dksX18_must_0 11 rfl rfl)
theorem dX18_must_12 : decode cX18_must 12 = .ok (.aload_n 0, 1) := dk_42 (dk_at dksX18_must_0 12 rfl rfl)
theorem dX18_must_13 : decode cX18_must 13 = .ok (.getfield 19, 3) := dk_180 0 19 (dk_at dksX18_must_0 13 rfl rfl)
theorem dX18_must_16 : decode cX18_must 16 = .ok (.invokespecial 43, 3) := dk_183 0 43 (dk_at dksX18_must_0 16 rfl rfl)
theorem dX18_must_19 : decode cX18_must 19 = .ok (.athrow, 1) := dk_191 (dk_at dksX18_must_0 19 rfl rfl)
theorem dX18_must_20 : decode cX18_must 20 = .ok (.aload_n 0, 1) := dk_42 (dk_at dksX18_must_0 20 rfl rfl)
theorem dX18_must_21 : decode cX18_must 21 = .ok (.dup, 1) := dk_89 (dk_at dksX18_must_0 21 rfl rfl)
theorem dX18_must_22 : decode cX18_must 22 = .ok (.getfield 19, 3) := dk_180 0 19 (dk_at dksX18_must_1 0 rfl rfl)
theorem dX18_must_25 : decode cX18_must 25 = .ok (.iconst 1, 1) := dk_4 (dk_at dksX18_must_1 3 rfl rfl)
theorem dX18_must_26 : decode cX18_must 26 = .ok (.iadd, 1) := dk_96 (dk_at dksX18_must_1 4 rfl rfl)
theorem dX18_must_27 : decode cX18_must 27 = .ok (.putfield 19, 3) := dk_181 0 19 (dk_at dksX18_must_1 5 rfl rfl)
theorem dX18_must_30 : decode cX18_must 30 = .ok (.return_, 1) := dk_177 (dk_at dksX18_must_1 8 rfl rfl)
abbrev cX18_thing : ByteArray := prog_10_method_11_code
def yX18_thing : MethodName := ⟨RX18, "thing", "(I)V"⟩
def dkwX18_thing_3 : List UInt8 := [54, 5, 42, 180, 0, 15, 28, 29, 21, 4, 21, 5, 42, 3, 16, 9, 182, 0, 73, 182, 0, 89, 87, 177]
abbrev dktX18_thing_3 : List UInt8 := dkwX18_thing_3 ++ []
def dkwX18_thing_2 : List UInt8 := [42, 180, 0, 15, 29, 21, 4, 182, 0, 85, 42, 180, 0, 56, 182, 0, 66, 42, 3, 16, 20, 182, 0, 73]
abbrev dktX18_thing_2 : List UInt8 := dkwX18_thing_2 ++ dktX18_thing_3
def dkwX18_thing_1 : List UInt8 := [16, 6, 182, 0, 73, 61, 42, 3, 16, 9, 182, 0, 73, 62, 42, 3, 16, 9, 182, 0, 73, 54, 4, 42]
abbrev dktX18_thing_1 : List UInt8 := dkwX18_thing_1 ++ dktX18_thing_2
def dkwX18_thing_0 : List UInt8 := [42, 42, 180, 0, 15, 180, 0, 82, 16, 8, 162, 0, 7, 4, 167, 0, 4, 3, 27, 182, 0, 66, 42, 3]
abbrev dktX18_thing_0 : List UInt8 := dkwX18_thing_0 ++ dktX18_thing_1
theorem dksX18_thing_0 : cX18_thing.data.toList.drop 0 = dktX18_thing_0 := by decide +kernel
theorem dksX18_thing_1 : cX18_thing.data.toList.drop 24 = dktX18_thing_1 := dk_seg dksX18_thing_0 24 rfl rfl
theorem dksX18_thing_2 : cX18_thing.data.toList.drop 48 = dktX18_thing_2 := dk_seg dksX18_thing_1 24 rfl rfl
theorem dksX18_thing_3 : cX18_thing.data.toList.drop 72 = dktX18_thing_3 := dk_seg dksX18_thing_2 24 rfl rfl
theorem dX18_thing_0 : decode cX18_thing 0 = .ok (.aload_n 0, 1) := dk_42 (dk_at dksX18_thing_0 0 rfl rfl)
theorem dX18_thing_1 : decode cX18_thing 1 = .ok (.aload_n 0, 1) := dk_42 (dk_at dksX18_thing_0 1 rfl rfl)
theorem dX18_thing_2 : decode cX18_thing 2 = .ok (.getfield 15, 3) := dk_180 0 15 (dk_at dksX18_thing_0 2 rfl rfl)
theorem dX18_thing_5 : decode cX18_thing 5 = .ok (.getfield 82, 3) := dk_180 0 82 (dk_at dksX18_thing_0 5 rfl rfl)
theorem dX18_thing_8 : decode cX18_thing 8 = .ok (.bipush 8, 2) := dk_16 8 (dk_at dksX18_thing_0 8 rfl rfl)
theorem dX18_thing_10 : decode cX18_thing 10 = .ok (.if_icmp .ge 7, 3) := dk_162 0 7 (dk_at dksX18_thing_0 10 rfl rfl)
theorem dX18_thing_13 : decode cX18_thing 13 = .ok (.iconst 1, 1) := dk_4 (dk_at dksX18_thing_0 13 rfl rfl)
theorem dX18_thing_14 : decode cX18_thing 14 = .ok (.goto 4, 3) := dk_167 0 4 (dk_at dksX18_thing_0 14 rfl rfl)
theorem dX18_thing_17 : decode cX18_thing 17 = .ok (.iconst 0, 1) := dk_3 (dk_at dksX18_thing_0 17 rfl rfl)
theorem dX18_thing_18 : decode cX18_thing 18 = .ok (.iload_n 1, 1) := dk_27 (dk_at dksX18_thing_0 18 rfl rfl)
theorem dX18_thing_19 : decode cX18_thing 19 = .ok (.invokevirtual 66, 3) := dk_182 0 66 (dk_at dksX18_thing_0 19 rfl rfl)
theorem dX18_thing_22 : decode cX18_thing 22 = .ok (.aload_n 0, 1) := dk_42 (dk_at dksX18_thing_0 22 rfl rfl)
theorem dX18_thing_23 : decode cX18_thing 23 = .ok (.iconst 0, 1) := dk_3 (dk_at dksX18_thing_0 23 rfl rfl)
theorem dX18_thing_24 : decode cX18_thing 24 = .ok (.bipush 6, 2) := dk_16 6 (dk_at dksX18_thing_1 0 rfl rfl)
theorem dX18_thing_26 : decode cX18_thing 26 = .ok (.invokevirtual 73, 3) := dk_182 0 73 (dk_at dksX18_thing_1 2 rfl rfl)
theorem dX18_thing_29 : decode cX18_thing 29 = .ok (.istore_n 2, 1) := dk_61 (dk_at dksX18_thing_1 5 rfl rfl)
theorem dX18_thing_30 : decode cX18_thing 30 = .ok (.aload_n 0, 1) := dk_42 (dk_at dksX18_thing_1 6 rfl rfl)
theorem dX18_thing_31 : decode cX18_thing 31 = .ok (.iconst 0, 1) := dk_3 (dk_at dksX18_thing_1 7 rfl rfl)
theorem dX18_thing_32 : decode cX18_thing 32 = .ok (.bipush 9, 2) := dk_16 9 (dk_at dksX18_thing_1 8 rfl rfl)
theorem dX18_thing_34 : decode cX18_thing 34 = .ok (.invokevirtual 73, 3) := dk_182 0 73 (dk_at dksX18_thing_1 10 rfl rfl)
theorem dX18_thing_37 : decode cX18_thing 37 = .ok (.istore_n 3, 1) := dk_62 (dk_at dksX18_thing_1 13 rfl rfl)
theorem dX18_thing_38 : decode cX18_thing 38 = .ok (.aload_n 0, 1) := dk_42 (dk_at dksX18_thing_1 14 rfl rfl)
theorem dX18_thing_39 : decode cX18_thing 39 = .ok (.iconst 0, 1) := dk_3 (dk_at dksX18_thing_1 15 rfl rfl)
theorem dX18_thing_40 : decode cX18_thing 40 = .ok (.bipush 9, 2) := dk_16 9 (dk_at dksX18_thing_1 16 rfl rfl)
theorem dX18_thing_42 : decode cX18_thing 42 = .ok (.invokevirtual 73, 3) := dk_182 0 73 (dk_at dksX18_thing_1 18 rfl rfl)
theorem dX18_thing_45 : decode cX18_thing 45 = .ok (.istore 4, 2) := dk_54 4 (dk_at dksX18_thing_1 21 rfl rfl)
theorem dX18_thing_47 : decode cX18_thing 47 = .ok (.aload_n 0, 1) := dk_42 (dk_at dksX18_thing_1 23 rfl rfl)
theorem dX18_thing_48 : decode cX18_thing 48 = .ok (.aload_n 0, 1) := dk_42 (dk_at dksX18_thing_2 0 rfl rfl)
theorem dX18_thing_49 : decode cX18_thing 49 = .ok (.getfield 15, 3) := dk_180 0 15 (dk_at dksX18_thing_2 1 rfl rfl)
theorem dX18_thing_52 : decode cX18_thing 52 = .ok (.iload_n 3, 1) := dk_29 (dk_at dksX18_thing_2 4 rfl rfl)
theorem dX18_thing_53 : decode cX18_thing 53 = .ok (.iload 4, 2) := dk_21 4 (dk_at dksX18_thing_2 5 rfl rfl)
theorem dX18_thing_55 : decode cX18_thing 55 = .ok (.invokevirtual 85, 3) := dk_182 0 85 (dk_at dksX18_thing_2 7 rfl rfl)
theorem dX18_thing_58 : decode cX18_thing 58 = .ok (.aload_n 0, 1) := dk_42 (dk_at dksX18_thing_2 10 rfl rfl)
theorem dX18_thing_59 : decode cX18_thing 59 = .ok (.getfield 56, 3) := dk_180 0 56 (dk_at dksX18_thing_2 11 rfl rfl)
theorem dX18_thing_62 : decode cX18_thing 62 = .ok (.invokevirtual 66, 3) := dk_182 0 66 (dk_at dksX18_thing_2 14 rfl rfl)
theorem dX18_thing_65 : decode cX18_thing 65 = .ok (.aload_n 0, 1) := dk_42 (dk_at dksX18_thing_2 17 rfl rfl)
theorem dX18_thing_66 : decode cX18_thing 66 = .ok (.iconst 0, 1) := dk_3 (dk_at dksX18_thing_2 18 rfl rfl)
theorem dX18_thing_67 : decode cX18_thing 67 = .ok (.bipush 20, 2) := dk_16 20 (dk_at dksX18_thing_2 19 rfl rfl)
theorem dX18_thing_69 : decode cX18_thing 69 = .ok (.invokevirtual 73, 3) := dk_182 0 73 (dk_at dksX18_thing_2 21 rfl rfl)
theorem dX18_thing_72 : decode cX18_thing 72 = .ok (.istore 5, 2) := dk_54 5 (dk_at dksX18_thing_3 0 rfl rfl)
theorem dX18_thing_74 : decode cX18_thing 74 = .ok (.aload_n 0, 1) := dk_42 (dk_at dksX18_thing_3 2 rfl rfl)
theorem dX18_thing_75 : decode cX18_thing 75 = .ok (.getfield 15, 3) := dk_180 0 15 (dk_at dksX18_thing_3 3 rfl rfl)
theorem dX18_thing_78 : decode cX18_thing 78 = .ok (.iload_n 2, 1) := dk_28 (dk_at dksX18_thing_3 6 rfl rfl)
theorem dX18_thing_79 : decode cX18_thing 79 = .ok (.iload_n 3, 1) := dk_29 (dk_at dksX18_thing_3 7 rfl rfl)
theorem dX18_thing_80 : decode cX18_thing 80 = .ok (.iload 4, 2) := dk_21 4 (dk_at dksX18_thing_3 8 rfl rfl)
theorem dX18_thing_82 : decode cX18_thing 82 = .ok (.iload 5, 2) := dk_21 5 (dk_at dksX18_thing_3 10 rfl rfl)
theorem dX18_thing_84 : decode cX18_thing 84 = .ok (.aload_n 0, 1) := dk_42 (dk_at dksX18_thing_3 12 rfl rfl)
theorem dX18_thing_85 : decode cX18_thing 85 = .ok (.iconst 0, 1) := dk_3 (dk_at dksX18_thing_3 13 rfl rfl)
theorem dX18_thing_86 : decode cX18_thing 86 = .ok (.bipush 9, 2) := dk_16 9 (dk_at dksX18_thing_3 14 rfl rfl)
theorem dX18_thing_88 : decode cX18_thing 88 = .ok (.invokevirtual 73, 3) := dk_182 0 73 (dk_at dksX18_thing_3 16 rfl rfl)
theorem dX18_thing_91 : decode cX18_thing 91 = .ok (.invokevirtual 89, 3) := dk_182 0 89 (dk_at dksX18_thing_3 19 rfl rfl)
theorem dX18_thing_94 : decode cX18_thing 94 = .ok (.pop, 1) := dk_87 (dk_at dksX18_thing_3 22 rfl rfl)
theorem dX18_thing_95 : decode cX18_thing 95 = .ok (.return_, 1) := dk_177 (dk_at dksX18_thing_3 23 rfl rfl)
abbrev cX18_hasRoom : ByteArray := prog_10_method_8_code
def yX18_hasRoom : MethodName := ⟨RX18, "hasRoom", "(ZI)V"⟩
def dkwX18_hasRoom_0 : List UInt8 := [27, 154, 0, 12, 187, 0, 41, 89, 28, 183, 0, 43, 191, 177]
abbrev dktX18_hasRoom_0 : List UInt8 := dkwX18_hasRoom_0 ++ []
theorem dksX18_hasRoom_0 : cX18_hasRoom.data.toList.drop 0 = dktX18_hasRoom_0 := by decide +kernel
theorem dX18_hasRoom_0 : decode cX18_hasRoom 0 = .ok (.iload_n 1, 1) := dk_27 (dk_at dksX18_hasRoom_0 0 rfl rfl)
theorem dX18_hasRoom_1 : decode cX18_hasRoom 1 = .ok (.ifCond .ne 12, 3) := dk_154 0 12 (dk_at dksX18_hasRoom_0 1 rfl rfl)
theorem dX18_hasRoom_4 : decode cX18_hasRoom 4 = .ok (.new 41, 3) := dk_187 0 41 (dk_at dksX18_hasRoom_0 4 rfl rfl)
theorem dX18_hasRoom_7 : decode cX18_hasRoom 7 = .ok (.dup, 1) := dk_89 (dk_at dksX18_hasRoom_0 7 rfl rfl)
theorem dX18_hasRoom_8 : decode cX18_hasRoom 8 = .ok (.iload_n 2, 1) := dk_28 (dk_at dksX18_hasRoom_0 8 rfl rfl)
theorem dX18_hasRoom_9 : decode cX18_hasRoom 9 = .ok (.invokespecial 43, 3) := dk_183 0 43 (dk_at dksX18_hasRoom_0 9 rfl rfl)
theorem dX18_hasRoom_12 : decode cX18_hasRoom 12 = .ok (.athrow, 1) := dk_191 (dk_at dksX18_hasRoom_0 12 rfl rfl)
theorem dX18_hasRoom_13 : decode cX18_hasRoom 13 = .ok (.return_, 1) := dk_177 (dk_at dksX18_hasRoom_0 13 rfl rfl)
abbrev cX18_number : ByteArray := prog_10_method_7_code
def yX18_number : MethodName := ⟨RX18, "number", "(II)I"⟩
def dkwX18_number_4 : List UInt8 := [184, 0, 62, 42, 180, 0, 56, 182, 0, 66, 29, 172]
abbrev dktX18_number_4 : List UInt8 := dkwX18_number_4 ++ []
def dkwX18_number_3 : List UInt8 := [180, 0, 19, 90, 4, 96, 181, 0, 19, 182, 0, 33, 96, 16, 48, 100, 62, 42, 29, 133, 27, 133, 28, 133]
abbrev dktX18_number_3 : List UInt8 := dkwX18_number_3 ++ dktX18_number_4
def dkwX18_number_2 : List UInt8 := [182, 0, 33, 16, 48, 100, 62, 42, 182, 0, 59, 153, 0, 30, 16, 10, 29, 104, 42, 180, 0, 9, 42, 89]
abbrev dktX18_number_2 : List UInt8 := dkwX18_number_2 ++ dktX18_number_3
def dkwX18_number_1 : List UInt8 := [89, 42, 180, 0, 19, 183, 0, 43, 191, 42, 180, 0, 9, 42, 89, 180, 0, 19, 90, 4, 96, 181, 0, 19]
abbrev dktX18_number_1 : List UInt8 := dkwX18_number_1 ++ dktX18_number_2
def dkwX18_number_0 : List UInt8 := [42, 16, 32, 182, 0, 53, 42, 42, 180, 0, 19, 181, 0, 56, 42, 182, 0, 59, 154, 0, 15, 187, 0, 41]
abbrev dktX18_number_0 : List UInt8 := dkwX18_number_0 ++ dktX18_number_1
theorem dksX18_number_0 : cX18_number.data.toList.drop 0 = dktX18_number_0 := by decide +kernel
theorem dksX18_number_1 : cX18_number.data.toList.drop 24 = dktX18_number_1 := dk_seg dksX18_number_0 24 rfl rfl
theorem dksX18_number_2 : cX18_number.data.toList.drop 48 = dktX18_number_2 := dk_seg dksX18_number_1 24 rfl rfl
theorem dksX18_number_3 : cX18_number.data.toList.drop 72 = dktX18_number_3 := dk_seg dksX18_number_2 24 rfl rfl
theorem dksX18_number_4 : cX18_number.data.toList.drop 96 = dktX18_number_4 := dk_seg dksX18_number_3 24 rfl rfl
theorem dX18_number_0 : decode cX18_number 0 = .ok (.aload_n 0, 1) := dk_42 (dk_at dksX18_number_0 0 rfl rfl)
theorem dX18_number_1 : decode cX18_number 1 = .ok (.bipush 32, 2) := dk_16 32 (dk_at dksX18_number_0 1 rfl rfl)
theorem dX18_number_3 : decode cX18_number 3 = .ok (.invokevirtual 53, 3) := dk_182 0 53 (dk_at dksX18_number_0 3 rfl rfl)
theorem dX18_number_6 : decode cX18_number 6 = .ok (.aload_n 0, 1) := dk_42 (dk_at dksX18_number_0 6 rfl rfl)
theorem dX18_number_7 : decode cX18_number 7 = .ok (.aload_n 0, 1) := dk_42 (dk_at dksX18_number_0 7 rfl rfl)
theorem dX18_number_8 : decode cX18_number 8 = .ok (.getfield 19, 3) := dk_180 0 19 (dk_at dksX18_number_0 8 rfl rfl)
theorem dX18_number_11 : decode cX18_number 11 = .ok (.putfield 56, 3) := dk_181 0 56 (dk_at dksX18_number_0 11 rfl rfl)
theorem dX18_number_14 : decode cX18_number 14 = .ok (.aload_n 0, 1) := dk_42 (dk_at dksX18_number_0 14 rfl rfl)
theorem dX18_number_15 : decode cX18_number 15 = .ok (.invokevirtual 59, 3) := dk_182 0 59 (dk_at dksX18_number_0 15 rfl rfl)
theorem dX18_number_18 : decode cX18_number 18 = .ok (.ifCond .ne 15, 3) := dk_154 0 15 (dk_at dksX18_number_0 18 rfl rfl)
theorem dX18_number_21 : decode cX18_number 21 = .ok (.new 41, 3) := dk_187 0 41 (dk_at dksX18_number_0 21 rfl rfl)
theorem dX18_number_24 : decode cX18_number 24 = .ok (.dup, 1) := dk_89 (dk_at dksX18_number_1 0 rfl rfl)
theorem dX18_number_25 : decode cX18_number 25 = .ok (.aload_n 0, 1) := dk_42 (dk_at dksX18_number_1 1 rfl rfl)
theorem dX18_number_26 : decode cX18_number 26 = .ok (.getfield 19, 3) := dk_180 0 19 (dk_at dksX18_number_1 2 rfl rfl)
theorem dX18_number_29 : decode cX18_number 29 = .ok (.invokespecial 43, 3) := dk_183 0 43 (dk_at dksX18_number_1 5 rfl rfl)
theorem dX18_number_32 : decode cX18_number 32 = .ok (.athrow, 1) := dk_191 (dk_at dksX18_number_1 8 rfl rfl)
theorem dX18_number_33 : decode cX18_number 33 = .ok (.aload_n 0, 1) := dk_42 (dk_at dksX18_number_1 9 rfl rfl)
theorem dX18_number_34 : decode cX18_number 34 = .ok (.getfield 9, 3) := dk_180 0 9 (dk_at dksX18_number_1 10 rfl rfl)
theorem dX18_number_37 : decode cX18_number 37 = .ok (.aload_n 0, 1) := dk_42 (dk_at dksX18_number_1 13 rfl rfl)
theorem dX18_number_38 : decode cX18_number 38 = .ok (.dup, 1) := dk_89 (dk_at dksX18_number_1 14 rfl rfl)
theorem dX18_number_39 : decode cX18_number 39 = .ok (.getfield 19, 3) := dk_180 0 19 (dk_at dksX18_number_1 15 rfl rfl)
theorem dX18_number_42 : decode cX18_number 42 = .ok (.dup_x1, 1) := dk_90 (dk_at dksX18_number_1 18 rfl rfl)
theorem dX18_number_43 : decode cX18_number 43 = .ok (.iconst 1, 1) := dk_4 (dk_at dksX18_number_1 19 rfl rfl)
theorem dX18_number_44 : decode cX18_number 44 = .ok (.iadd, 1) := dk_96 (dk_at dksX18_number_1 20 rfl rfl)
theorem dX18_number_45 : decode cX18_number 45 = .ok (.putfield 19, 3) := dk_181 0 19 (dk_at dksX18_number_1 21 rfl rfl)
theorem dX18_number_48 : decode cX18_number 48 = .ok (.invokevirtual 33, 3) := dk_182 0 33 (dk_at dksX18_number_2 0 rfl rfl)
theorem dX18_number_51 : decode cX18_number 51 = .ok (.bipush 48, 2) := dk_16 48 (dk_at dksX18_number_2 3 rfl rfl)
theorem dX18_number_53 : decode cX18_number 53 = .ok (.isub, 1) := dk_100 (dk_at dksX18_number_2 5 rfl rfl)
theorem dX18_number_54 : decode cX18_number 54 = .ok (.istore_n 3, 1) := dk_62 (dk_at dksX18_number_2 6 rfl rfl)
theorem dX18_number_55 : decode cX18_number 55 = .ok (.aload_n 0, 1) := dk_42 (dk_at dksX18_number_2 7 rfl rfl)
theorem dX18_number_56 : decode cX18_number 56 = .ok (.invokevirtual 59, 3) := dk_182 0 59 (dk_at dksX18_number_2 8 rfl rfl)
theorem dX18_number_59 : decode cX18_number 59 = .ok (.ifCond .eq 30, 3) := dk_153 0 30 (dk_at dksX18_number_2 11 rfl rfl)
theorem dX18_number_62 : decode cX18_number 62 = .ok (.bipush 10, 2) := dk_16 10 (dk_at dksX18_number_2 14 rfl rfl)
theorem dX18_number_64 : decode cX18_number 64 = .ok (.iload_n 3, 1) := dk_29 (dk_at dksX18_number_2 16 rfl rfl)
theorem dX18_number_65 : decode cX18_number 65 = .ok (.imul, 1) := dk_104 (dk_at dksX18_number_2 17 rfl rfl)
theorem dX18_number_66 : decode cX18_number 66 = .ok (.aload_n 0, 1) := dk_42 (dk_at dksX18_number_2 18 rfl rfl)
theorem dX18_number_67 : decode cX18_number 67 = .ok (.getfield 9, 3) := dk_180 0 9 (dk_at dksX18_number_2 19 rfl rfl)
theorem dX18_number_70 : decode cX18_number 70 = .ok (.aload_n 0, 1) := dk_42 (dk_at dksX18_number_2 22 rfl rfl)
theorem dX18_number_71 : decode cX18_number 71 = .ok (.dup, 1) := dk_89 (dk_at dksX18_number_2 23 rfl rfl)
theorem dX18_number_72 : decode cX18_number 72 = .ok (.getfield 19, 3) := dk_180 0 19 (dk_at dksX18_number_3 0 rfl rfl)
theorem dX18_number_75 : decode cX18_number 75 = .ok (.dup_x1, 1) := dk_90 (dk_at dksX18_number_3 3 rfl rfl)
theorem dX18_number_76 : decode cX18_number 76 = .ok (.iconst 1, 1) := dk_4 (dk_at dksX18_number_3 4 rfl rfl)
theorem dX18_number_77 : decode cX18_number 77 = .ok (.iadd, 1) := dk_96 (dk_at dksX18_number_3 5 rfl rfl)
theorem dX18_number_78 : decode cX18_number 78 = .ok (.putfield 19, 3) := dk_181 0 19 (dk_at dksX18_number_3 6 rfl rfl)
theorem dX18_number_81 : decode cX18_number 81 = .ok (.invokevirtual 33, 3) := dk_182 0 33 (dk_at dksX18_number_3 9 rfl rfl)
theorem dX18_number_84 : decode cX18_number 84 = .ok (.iadd, 1) := dk_96 (dk_at dksX18_number_3 12 rfl rfl)
theorem dX18_number_85 : decode cX18_number 85 = .ok (.bipush 48, 2) := dk_16 48 (dk_at dksX18_number_3 13 rfl rfl)
theorem dX18_number_87 : decode cX18_number 87 = .ok (.isub, 1) := dk_100 (dk_at dksX18_number_3 15 rfl rfl)
theorem dX18_number_88 : decode cX18_number 88 = .ok (.istore_n 3, 1) := dk_62 (dk_at dksX18_number_3 16 rfl rfl)
theorem dX18_number_89 : decode cX18_number 89 = .ok (.aload_n 0, 1) := dk_42 (dk_at dksX18_number_3 17 rfl rfl)
theorem dX18_number_90 : decode cX18_number 90 = .ok (.iload_n 3, 1) := dk_29 (dk_at dksX18_number_3 18 rfl rfl)
theorem dX18_number_91 : decode cX18_number 91 = .ok (.i2l, 1) := dk_133 (dk_at dksX18_number_3 19 rfl rfl)
theorem dX18_number_92 : decode cX18_number 92 = .ok (.iload_n 1, 1) := dk_27 (dk_at dksX18_number_3 20 rfl rfl)
theorem dX18_number_93 : decode cX18_number 93 = .ok (.i2l, 1) := dk_133 (dk_at dksX18_number_3 21 rfl rfl)
theorem dX18_number_94 : decode cX18_number 94 = .ok (.iload_n 2, 1) := dk_28 (dk_at dksX18_number_3 22 rfl rfl)
theorem dX18_number_95 : decode cX18_number 95 = .ok (.i2l, 1) := dk_133 (dk_at dksX18_number_3 23 rfl rfl)
theorem dX18_number_96 : decode cX18_number 96 = .ok (.invokestatic 62, 3) := dk_184 0 62 (dk_at dksX18_number_4 0 rfl rfl)
theorem dX18_number_99 : decode cX18_number 99 = .ok (.aload_n 0, 1) := dk_42 (dk_at dksX18_number_4 3 rfl rfl)
theorem dX18_number_100 : decode cX18_number 100 = .ok (.getfield 56, 3) := dk_180 0 56 (dk_at dksX18_number_4 4 rfl rfl)
theorem dX18_number_103 : decode cX18_number 103 = .ok (.invokevirtual 66, 3) := dk_182 0 66 (dk_at dksX18_number_4 7 rfl rfl)
theorem dX18_number_106 : decode cX18_number 106 = .ok (.iload_n 3, 1) := dk_29 (dk_at dksX18_number_4 10 rfl rfl)
theorem dX18_number_107 : decode cX18_number 107 = .ok (.ireturn, 1) := dk_172 (dk_at dksX18_number_4 11 rfl rfl)
abbrev cX18_digit : ByteArray := prog_10_method_6_code
def yX18_digit : MethodName := ⟨RX18, "digit", "()Z"⟩
def dkwX18_digit_1 : List UInt8 := [180, 0, 9, 42, 180, 0, 19, 182, 0, 33, 16, 57, 163, 0, 7, 4, 167, 0, 4, 3, 172]
abbrev dktX18_digit_1 : List UInt8 := dkwX18_digit_1 ++ []
def dkwX18_digit_0 : List UInt8 := [42, 182, 0, 29, 154, 0, 39, 42, 180, 0, 9, 42, 180, 0, 19, 182, 0, 33, 16, 48, 161, 0, 23, 42]
abbrev dktX18_digit_0 : List UInt8 := dkwX18_digit_0 ++ dktX18_digit_1
theorem dksX18_digit_0 : cX18_digit.data.toList.drop 0 = dktX18_digit_0 := by decide +kernel
theorem dksX18_digit_1 : cX18_digit.data.toList.drop 24 = dktX18_digit_1 := dk_seg dksX18_digit_0 24 rfl rfl
theorem dX18_digit_0 : decode cX18_digit 0 = .ok (.aload_n 0, 1) := dk_42 (dk_at dksX18_digit_0 0 rfl rfl)
theorem dX18_digit_1 : decode cX18_digit 1 = .ok (.invokevirtual 29, 3) := dk_182 0 29 (dk_at dksX18_digit_0 1 rfl rfl)
theorem dX18_digit_4 : decode cX18_digit 4 = .ok (.ifCond .ne 39, 3) := dk_154 0 39 (dk_at dksX18_digit_0 4 rfl rfl)
theorem dX18_digit_7 : decode cX18_digit 7 = .ok (.aload_n 0, 1) := dk_42 (dk_at dksX18_digit_0 7 rfl rfl)
theorem dX18_digit_8 : decode cX18_digit 8 = .ok (.getfield 9, 3) := dk_180 0 9 (dk_at dksX18_digit_0 8 rfl rfl)
theorem dX18_digit_11 : decode cX18_digit 11 = .ok (.aload_n 0, 1) := dk_42 (dk_at dksX18_digit_0 11 rfl rfl)
theorem dX18_digit_12 : decode cX18_digit 12 = .ok (.getfield 19, 3) := dk_180 0 19 (dk_at dksX18_digit_0 12 rfl rfl)
theorem dX18_digit_15 : decode cX18_digit 15 = .ok (.invokevirtual 33, 3) := dk_182 0 33 (dk_at dksX18_digit_0 15 rfl rfl)
theorem dX18_digit_18 : decode cX18_digit 18 = .ok (.bipush 48, 2) := dk_16 48 (dk_at dksX18_digit_0 18 rfl rfl)
theorem dX18_digit_20 : decode cX18_digit 20 = .ok (.if_icmp .lt 23, 3) := dk_161 0 23 (dk_at dksX18_digit_0 20 rfl rfl)
theorem dX18_digit_23 : decode cX18_digit 23 = .ok (.aload_n 0, 1) := dk_42 (dk_at dksX18_digit_0 23 rfl rfl)
theorem dX18_digit_24 : decode cX18_digit 24 = .ok (.getfield 9, 3) := dk_180 0 9 (dk_at dksX18_digit_1 0 rfl rfl)
theorem dX18_digit_27 : decode cX18_digit 27 = .ok (.aload_n 0, 1) := dk_42 (dk_at dksX18_digit_1 3 rfl rfl)
theorem dX18_digit_28 : decode cX18_digit 28 = .ok (.getfield 19, 3) := dk_180 0 19 (dk_at dksX18_digit_1 4 rfl rfl)
theorem dX18_digit_31 : decode cX18_digit 31 = .ok (.invokevirtual 33, 3) := dk_182 0 33 (dk_at dksX18_digit_1 7 rfl rfl)
theorem dX18_digit_34 : decode cX18_digit 34 = .ok (.bipush 57, 2) := dk_16 57 (dk_at dksX18_digit_1 10 rfl rfl)
theorem dX18_digit_36 : decode cX18_digit 36 = .ok (.if_icmp .gt 7, 3) := dk_163 0 7 (dk_at dksX18_digit_1 12 rfl rfl)
theorem dX18_digit_39 : decode cX18_digit 39 = .ok (.iconst 1, 1) := dk_4 (dk_at dksX18_digit_1 15 rfl rfl)
theorem dX18_digit_40 : decode cX18_digit 40 = .ok (.goto 4, 3) := dk_167 0 4 (dk_at dksX18_digit_1 16 rfl rfl)
theorem dX18_digit_43 : decode cX18_digit 43 = .ok (.iconst 0, 1) := dk_3 (dk_at dksX18_digit_1 19 rfl rfl)
theorem dX18_digit_44 : decode cX18_digit 44 = .ok (.ireturn, 1) := dk_172 (dk_at dksX18_digit_1 20 rfl rfl)
abbrev cX18_house : ByteArray := prog_10_method_10_code
def yX18_house : MethodName := ⟨RX18, "house", "()I"⟩
def dkwX18_house_1 : List UInt8 := [27, 172]
abbrev dktX18_house_1 : List UInt8 := dkwX18_house_1 ++ []
def dkwX18_house_0 : List UInt8 := [42, 3, 16, 99, 182, 0, 73, 60, 42, 42, 180, 0, 15, 27, 182, 0, 77, 42, 180, 0, 56, 182, 0, 66]
abbrev dktX18_house_0 : List UInt8 := dkwX18_house_0 ++ dktX18_house_1
theorem dksX18_house_0 : cX18_house.data.toList.drop 0 = dktX18_house_0 := by decide +kernel
theorem dksX18_house_1 : cX18_house.data.toList.drop 24 = dktX18_house_1 := dk_seg dksX18_house_0 24 rfl rfl
theorem dX18_house_0 : decode cX18_house 0 = .ok (.aload_n 0, 1) := dk_42 (dk_at dksX18_house_0 0 rfl rfl)
theorem dX18_house_1 : decode cX18_house 1 = .ok (.iconst 0, 1) := dk_3 (dk_at dksX18_house_0 1 rfl rfl)
theorem dX18_house_2 : decode cX18_house 2 = .ok (.bipush 99, 2) := dk_16 99 (dk_at dksX18_house_0 2 rfl rfl)
theorem dX18_house_4 : decode cX18_house 4 = .ok (.invokevirtual 73, 3) := dk_182 0 73 (dk_at dksX18_house_0 4 rfl rfl)
theorem dX18_house_7 : decode cX18_house 7 = .ok (.istore_n 1, 1) := dk_60 (dk_at dksX18_house_0 7 rfl rfl)
theorem dX18_house_8 : decode cX18_house 8 = .ok (.aload_n 0, 1) := dk_42 (dk_at dksX18_house_0 8 rfl rfl)
theorem dX18_house_9 : decode cX18_house 9 = .ok (.aload_n 0, 1) := dk_42 (dk_at dksX18_house_0 9 rfl rfl)
theorem dX18_house_10 : decode cX18_house 10 = .ok (.getfield 15, 3) := dk_180 0 15 (dk_at dksX18_house_0 10 rfl rfl)
theorem dX18_house_13 : decode cX18_house 13 = .ok (.iload_n 1, 1) := dk_27 (dk_at dksX18_house_0 13 rfl rfl)
theorem dX18_house_14 : decode cX18_house 14 = .ok (.invokevirtual 77, 3) := dk_182 0 77 (dk_at dksX18_house_0 14 rfl rfl)
theorem dX18_house_17 : decode cX18_house 17 = .ok (.aload_n 0, 1) := dk_42 (dk_at dksX18_house_0 17 rfl rfl)
theorem dX18_house_18 : decode cX18_house 18 = .ok (.getfield 56, 3) := dk_180 0 56 (dk_at dksX18_house_0 18 rfl rfl)
theorem dX18_house_21 : decode cX18_house 21 = .ok (.invokevirtual 66, 3) := dk_182 0 66 (dk_at dksX18_house_0 21 rfl rfl)
theorem dX18_house_24 : decode cX18_house 24 = .ok (.iload_n 1, 1) := dk_27 (dk_at dksX18_house_1 0 rfl rfl)
theorem dX18_house_25 : decode cX18_house 25 = .ok (.ireturn, 1) := dk_172 (dk_at dksX18_house_1 1 rfl rfl)
theorem q104 : (Jvm.Cond.initialized "SeenByOne$Reader") ∈ lw_all := lw_g (lw_at lw_m1 30 rfl) rfl
theorem q144 : (Jvm.Cond.fieldLink "SeenByOne$Reader" (82 : Nat) "SeenByOne$Ground" "many" "I") ∈ lw_all := lw_g (lw_at lw_m1 70 rfl) rfl
theorem q147 : (Jvm.Cond.fieldLink "SeenByOne$Reader" (103 : Nat) "SeenByOne$Ground" "summer" "Z") ∈ lw_all := lw_g (lw_at lw_m1 73 rfl) rfl
theorem q150 : (Jvm.Cond.fieldLink "SeenByOne$Reader" (118 : Nat) "SeenByOne$Ground" "far" "I") ∈ lw_all := lw_g (lw_at lw_m1 76 rfl) rfl
theorem q153 : (Jvm.Cond.fieldLink "SeenByOne$Reader" (122 : Nat) "SeenByOne$Ground" "drawn" "I") ∈ lw_all := lw_g (lw_at lw_m1 79 rfl) rfl
theorem q165 : (Jvm.Cond.fieldLink "SeenByOne$Reader" (112 : Nat) "SeenByOne$Ground" "shut" "[I") ∈ lw_all := lw_g (lw_at lw_m1 91 rfl) rfl
theorem q878 : (Jvm.Cond.instantiable "SeenByOne$Reader" (4 : Nat)) ∈ lw_all := lw_g (lw_at lw_m4 84 rfl) rfl
theorem q880 : (Jvm.Cond.instanceMethod ({ cls := "SeenByOne$Reader", name := "<init>", desc := "(LSeenByOne$Row;LSeenByOne$Ground;)V" } : Jvm.MethodName)) ∈ lw_all := lw_g (lw_at lw_m4 86 rfl) rfl
theorem q881 : (Jvm.Cond.code ({ cls := "SeenByOne$Reader", name := "<init>", desc := "(LSeenByOne$Row;LSeenByOne$Ground;)V" } : Jvm.MethodName) prog_10_method_1_code (3 : Nat) (Option.none : Option Jvm.ClassFile.FieldType)) ∈ lw_all := lw_g (lw_at lw_m4 87 rfl) rfl
theorem q882 : (Jvm.Cond.methodLink "SeenByOne$Reader" (3 : Nat) ({ cls := "java/lang/Object", name := "<init>", desc := "()V" } : Jvm.MethodName)) ∈ lw_all := lw_g (lw_at lw_m4 88 rfl) rfl
theorem q883 : (Jvm.Cond.fieldLink "SeenByOne$Reader" (9 : Nat) "SeenByOne$Reader" "text" "LSeenByOne$Row;") ∈ lw_all := lw_g (lw_at lw_m4 89 rfl) rfl
theorem q884 : (Jvm.Cond.fieldLink "SeenByOne$Reader" (15 : Nat) "SeenByOne$Reader" "g" "LSeenByOne$Ground;") ∈ lw_all := lw_g (lw_at lw_m4 90 rfl) rfl
theorem q885 : (Jvm.Cond.fieldLink "SeenByOne$Reader" (19 : Nat) "SeenByOne$Reader" "at" "I") ∈ lw_all := lw_g (lw_at lw_m4 91 rfl) rfl
theorem q886 : (Jvm.Cond.fieldLink "SeenByOne$Reader" (56 : Nat) "SeenByOne$Reader" "place" "I") ∈ lw_all := lw_g (lw_at lw_m4 92 rfl) rfl
theorem q887 : (Jvm.Cond.laysFinal "SeenByOne$Reader" "SeenByOne$Reader" "text" "LSeenByOne$Row;") ∈ lw_all := lw_g (lw_at lw_m4 93 rfl) rfl
theorem q888 : (Jvm.Cond.soleField "SeenByOne$Reader" "text") ∈ lw_all := lw_g (lw_at lw_m4 94 rfl) rfl
theorem q889 : (Jvm.Cond.laysFinal "SeenByOne$Reader" "SeenByOne$Reader" "g" "LSeenByOne$Ground;") ∈ lw_all := lw_g (lw_at lw_m4 95 rfl) rfl
theorem q890 : (Jvm.Cond.soleField "SeenByOne$Reader" "g") ∈ lw_all := lw_g (lw_at lw_m4 96 rfl) rfl
theorem q891 : (Jvm.Cond.lays "SeenByOne$Reader" "SeenByOne$Reader" "at" "I") ∈ lw_all := lw_g (lw_at lw_m4 97 rfl) rfl
theorem q892 : (Jvm.Cond.soleField "SeenByOne$Reader" "at") ∈ lw_all := lw_g (lw_at lw_m4 98 rfl) rfl
theorem q893 : (Jvm.Cond.lays "SeenByOne$Reader" "SeenByOne$Reader" "place" "I") ∈ lw_all := lw_g (lw_at lw_m4 99 rfl) rfl
theorem q894 : (Jvm.Cond.soleField "SeenByOne$Reader" "place") ∈ lw_all := lw_g (lw_at lw_m4 100 rfl) rfl
theorem q895 : (Jvm.Cond.superclass "SeenByOne$Reader" "java/lang/Object") ∈ lw_all := lw_g (lw_at lw_m4 101 rfl) rfl
theorem q897 : (Jvm.Cond.instanceMethod ({ cls := "SeenByOne$Reader", name := "items", desc := "()I" } : Jvm.MethodName)) ∈ lw_all := lw_g (lw_at lw_m4 103 rfl) rfl
theorem q898 : (Jvm.Cond.selects "SeenByOne$Reader" ({ cls := "SeenByOne$Reader", name := "items", desc := "()I" } : Jvm.MethodName) ({ cls := "SeenByOne$Reader", name := "items", desc := "()I" } : Jvm.MethodName)) ∈ lw_all := lw_g (lw_at lw_m4 104 rfl) rfl
theorem q899 : (Jvm.Cond.code ({ cls := "SeenByOne$Reader", name := "items", desc := "()I" } : Jvm.MethodName) prog_10_method_9_code (2 : Nat) (Option.some Jvm.ClassFile.FieldType.int)) ∈ lw_all := lw_g (lw_at lw_m4 105 rfl) rfl
theorem q900 : (Jvm.Cond.methodLink "SeenByOne$Reader" (70 : Nat) ({ cls := "SeenByOne$Reader", name := "item", desc := "()V" } : Jvm.MethodName)) ∈ lw_all := lw_g (lw_at lw_m4 106 rfl) rfl
theorem q901 : (Jvm.Cond.privateMethod ({ cls := "SeenByOne$Reader", name := "item", desc := "()V" } : Jvm.MethodName)) ∈ lw_tbl := lw_at lw_m4 107 rfl
theorem q902 : (Jvm.Cond.instanceMethod ({ cls := "SeenByOne$Reader", name := "item", desc := "()V" } : Jvm.MethodName)) ∈ lw_all := lw_g (lw_at lw_m4 108 rfl) rfl
theorem q903 : (Jvm.Cond.code ({ cls := "SeenByOne$Reader", name := "item", desc := "()V" } : Jvm.MethodName) prog_10_method_12_code (4 : Nat) (Option.none : Option Jvm.ClassFile.FieldType)) ∈ lw_all := lw_g (lw_at lw_m4 109 rfl) rfl
theorem q904 : (Jvm.Cond.methodLink "SeenByOne$Reader" (37 : Nat) ({ cls := "SeenByOne$Reader", name := "sees", desc := "(I)Z" } : Jvm.MethodName)) ∈ lw_all := lw_g (lw_at lw_m4 110 rfl) rfl
theorem q905 : (Jvm.Cond.privateMethod ({ cls := "SeenByOne$Reader", name := "sees", desc := "(I)Z" } : Jvm.MethodName)) ∈ lw_tbl := lw_at lw_m4 111 rfl
theorem q906 : (Jvm.Cond.instanceMethod ({ cls := "SeenByOne$Reader", name := "sees", desc := "(I)Z" } : Jvm.MethodName)) ∈ lw_all := lw_g (lw_at lw_m4 112 rfl) rfl
theorem q907 : (Jvm.Cond.code ({ cls := "SeenByOne$Reader", name := "sees", desc := "(I)Z" } : Jvm.MethodName) prog_10_method_3_code (2 : Nat) (Option.some Jvm.ClassFile.FieldType.boolean)) ∈ lw_all := lw_g (lw_at lw_m4 113 rfl) rfl
theorem q908 : (Jvm.Cond.methodLink "SeenByOne$Reader" (29 : Nat) ({ cls := "SeenByOne$Reader", name := "ends", desc := "()Z" } : Jvm.MethodName)) ∈ lw_all := lw_g (lw_at lw_m4 114 rfl) rfl
theorem q909 : (Jvm.Cond.privateMethod ({ cls := "SeenByOne$Reader", name := "ends", desc := "()Z" } : Jvm.MethodName)) ∈ lw_tbl := lw_at lw_m4 115 rfl
theorem q910 : (Jvm.Cond.instanceMethod ({ cls := "SeenByOne$Reader", name := "ends", desc := "()Z" } : Jvm.MethodName)) ∈ lw_all := lw_g (lw_at lw_m4 116 rfl) rfl
theorem q911 : (Jvm.Cond.code ({ cls := "SeenByOne$Reader", name := "ends", desc := "()Z" } : Jvm.MethodName) prog_10_method_2_code (1 : Nat) (Option.some Jvm.ClassFile.FieldType.boolean)) ∈ lw_all := lw_g (lw_at lw_m4 117 rfl) rfl
theorem q912 : (Jvm.Cond.methodLink "SeenByOne$Reader" (23 : Nat) ({ cls := "SeenByOne$Row", name := "length", desc := "()I" } : Jvm.MethodName)) ∈ lw_all := lw_g (lw_at lw_m4 118 rfl) rfl
theorem q927 : (Jvm.Cond.methodLink "SeenByOne$Reader" (33 : Nat) ({ cls := "SeenByOne$Row", name := "asInt", desc := "(I)I" } : Jvm.MethodName)) ∈ lw_all := lw_g (lw_at lw_m4 133 rfl) rfl
theorem q936 : (Jvm.Cond.stringRef "SeenByOne$Reader" (93 : Nat) "thing") ∈ lw_tbl := lw_at lw_m4 142 rfl
theorem q937 : (Jvm.Cond.methodLink "SeenByOne$Reader" (95 : Nat) ({ cls := "SeenByOne$Reader", name := "word", desc := "(Ljava/lang/String;)V" } : Jvm.MethodName)) ∈ lw_all := lw_g (lw_at lw_m4 143 rfl) rfl
theorem q938 : (Jvm.Cond.privateMethod ({ cls := "SeenByOne$Reader", name := "word", desc := "(Ljava/lang/String;)V" } : Jvm.MethodName)) ∈ lw_tbl := lw_at lw_m4 144 rfl
theorem q939 : (Jvm.Cond.instanceMethod ({ cls := "SeenByOne$Reader", name := "word", desc := "(Ljava/lang/String;)V" } : Jvm.MethodName)) ∈ lw_all := lw_g (lw_at lw_m4 145 rfl) rfl
theorem q940 : (Jvm.Cond.code ({ cls := "SeenByOne$Reader", name := "word", desc := "(Ljava/lang/String;)V" } : Jvm.MethodName) prog_10_method_5_code (3 : Nat) (Option.none : Option Jvm.ClassFile.FieldType)) ∈ lw_all := lw_g (lw_at lw_m4 146 rfl) rfl
theorem q941 : (Jvm.Cond.methodLink "SeenByOne$Reader" (46 : Nat) ({ cls := "java/lang/String", name := "length", desc := "()I" } : Jvm.MethodName)) ∈ lw_all := lw_g (lw_at lw_m4 147 rfl) rfl
theorem q951 : (Jvm.Cond.methodLink "SeenByOne$Reader" (49 : Nat) ({ cls := "java/lang/String", name := "charAt", desc := "(I)C" } : Jvm.MethodName)) ∈ lw_all := lw_g (lw_at lw_m4 157 rfl) rfl
theorem q989 : (Jvm.Cond.methodLink "SeenByOne$Reader" (53 : Nat) ({ cls := "SeenByOne$Reader", name := "must", desc := "(I)V" } : Jvm.MethodName)) ∈ lw_all := lw_g (lw_at lw_m4 195 rfl) rfl
theorem q990 : (Jvm.Cond.privateMethod ({ cls := "SeenByOne$Reader", name := "must", desc := "(I)V" } : Jvm.MethodName)) ∈ lw_tbl := lw_at lw_m4 196 rfl
theorem q991 : (Jvm.Cond.instanceMethod ({ cls := "SeenByOne$Reader", name := "must", desc := "(I)V" } : Jvm.MethodName)) ∈ lw_all := lw_g (lw_at lw_m4 197 rfl) rfl
theorem q992 : (Jvm.Cond.code ({ cls := "SeenByOne$Reader", name := "must", desc := "(I)V" } : Jvm.MethodName) prog_10_method_4_code (2 : Nat) (Option.none : Option Jvm.ClassFile.FieldType)) ∈ lw_all := lw_g (lw_at lw_m4 198 rfl) rfl
theorem q993 : (Jvm.Cond.classLink "SeenByOne$Reader" (41 : Nat) "SeenByOne$Faulty") ∈ lw_all := lw_g (lw_at lw_m4 199 rfl) rfl
theorem q1002 : (Jvm.Cond.methodLink "SeenByOne$Reader" (43 : Nat) ({ cls := "SeenByOne$Faulty", name := "<init>", desc := "(I)V" } : Jvm.MethodName)) ∈ lw_all := lw_g (lw_at lw_m4 208 rfl) rfl
theorem q1012 : (Jvm.Cond.methodLink "SeenByOne$Reader" (99 : Nat) ({ cls := "SeenByOne$Reader", name := "thing", desc := "(I)V" } : Jvm.MethodName)) ∈ lw_all := lw_g (lw_at lw_m4 218 rfl) rfl
theorem q1013 : (Jvm.Cond.privateMethod ({ cls := "SeenByOne$Reader", name := "thing", desc := "(I)V" } : Jvm.MethodName)) ∈ lw_tbl := lw_at lw_m4 219 rfl
theorem q1014 : (Jvm.Cond.instanceMethod ({ cls := "SeenByOne$Reader", name := "thing", desc := "(I)V" } : Jvm.MethodName)) ∈ lw_all := lw_g (lw_at lw_m4 220 rfl) rfl
theorem q1015 : (Jvm.Cond.code ({ cls := "SeenByOne$Reader", name := "thing", desc := "(I)V" } : Jvm.MethodName) prog_10_method_11_code (6 : Nat) (Option.none : Option Jvm.ClassFile.FieldType)) ∈ lw_all := lw_g (lw_at lw_m4 221 rfl) rfl
theorem q1016 : (Jvm.Cond.methodLink "SeenByOne$Reader" (66 : Nat) ({ cls := "SeenByOne$Reader", name := "hasRoom", desc := "(ZI)V" } : Jvm.MethodName)) ∈ lw_all := lw_g (lw_at lw_m4 222 rfl) rfl
theorem q1017 : (Jvm.Cond.privateMethod ({ cls := "SeenByOne$Reader", name := "hasRoom", desc := "(ZI)V" } : Jvm.MethodName)) ∈ lw_tbl := lw_at lw_m4 223 rfl
theorem q1018 : (Jvm.Cond.instanceMethod ({ cls := "SeenByOne$Reader", name := "hasRoom", desc := "(ZI)V" } : Jvm.MethodName)) ∈ lw_all := lw_g (lw_at lw_m4 224 rfl) rfl
theorem q1019 : (Jvm.Cond.code ({ cls := "SeenByOne$Reader", name := "hasRoom", desc := "(ZI)V" } : Jvm.MethodName) prog_10_method_8_code (3 : Nat) (Option.none : Option Jvm.ClassFile.FieldType)) ∈ lw_all := lw_g (lw_at lw_m4 225 rfl) rfl
theorem q1020 : (Jvm.Cond.methodLink "SeenByOne$Reader" (73 : Nat) ({ cls := "SeenByOne$Reader", name := "number", desc := "(II)I" } : Jvm.MethodName)) ∈ lw_all := lw_g (lw_at lw_m4 226 rfl) rfl
theorem q1021 : (Jvm.Cond.privateMethod ({ cls := "SeenByOne$Reader", name := "number", desc := "(II)I" } : Jvm.MethodName)) ∈ lw_tbl := lw_at lw_m4 227 rfl
theorem q1022 : (Jvm.Cond.instanceMethod ({ cls := "SeenByOne$Reader", name := "number", desc := "(II)I" } : Jvm.MethodName)) ∈ lw_all := lw_g (lw_at lw_m4 228 rfl) rfl
theorem q1023 : (Jvm.Cond.code ({ cls := "SeenByOne$Reader", name := "number", desc := "(II)I" } : Jvm.MethodName) prog_10_method_7_code (4 : Nat) (Option.some Jvm.ClassFile.FieldType.int)) ∈ lw_all := lw_g (lw_at lw_m4 229 rfl) rfl
theorem q1024 : (Jvm.Cond.methodLink "SeenByOne$Reader" (59 : Nat) ({ cls := "SeenByOne$Reader", name := "digit", desc := "()Z" } : Jvm.MethodName)) ∈ lw_all := lw_g (lw_at lw_m4 230 rfl) rfl
theorem q1025 : (Jvm.Cond.privateMethod ({ cls := "SeenByOne$Reader", name := "digit", desc := "()Z" } : Jvm.MethodName)) ∈ lw_tbl := lw_at lw_m4 231 rfl
theorem q1026 : (Jvm.Cond.instanceMethod ({ cls := "SeenByOne$Reader", name := "digit", desc := "()Z" } : Jvm.MethodName)) ∈ lw_all := lw_g (lw_at lw_m4 232 rfl) rfl
theorem q1027 : (Jvm.Cond.code ({ cls := "SeenByOne$Reader", name := "digit", desc := "()Z" } : Jvm.MethodName) prog_10_method_6_code (1 : Nat) (Option.some Jvm.ClassFile.FieldType.boolean)) ∈ lw_all := lw_g (lw_at lw_m4 233 rfl) rfl
theorem q1028 : (Jvm.Cond.methodLink "SeenByOne$Reader" (62 : Nat) ({ cls := "SeenByOne", name := "in", desc := "(JJJ)Z" } : Jvm.MethodName)) ∈ lw_all := lw_g (lw_at lw_m4 234 rfl) rfl
theorem q1029 : (Jvm.Cond.methodLink "SeenByOne$Reader" (85 : Nat) ({ cls := "SeenByOne$Ground", name := "isFree", desc := "(II)Z" } : Jvm.MethodName)) ∈ lw_all := lw_g (lw_at lw_m4 235 rfl) rfl
theorem q1030 : (Jvm.Cond.methodLink "SeenByOne$Reader" (89 : Nat) ({ cls := "SeenByOne$Ground", name := "add", desc := "(IIIII)I" } : Jvm.MethodName)) ∈ lw_all := lw_g (lw_at lw_m4 236 rfl) rfl
theorem q1031 : (Jvm.Cond.stringRef "SeenByOne$Reader" (101 : Nat) "ummer") ∈ lw_tbl := lw_at lw_m4 237 rfl
theorem q1032 : (Jvm.Cond.stringRef "SeenByOne$Reader" (107 : Nat) "hut") ∈ lw_tbl := lw_at lw_m4 238 rfl
theorem q1033 : (Jvm.Cond.methodLink "SeenByOne$Reader" (109 : Nat) ({ cls := "SeenByOne$Reader", name := "house", desc := "()I" } : Jvm.MethodName)) ∈ lw_all := lw_g (lw_at lw_m4 239 rfl) rfl
theorem q1034 : (Jvm.Cond.privateMethod ({ cls := "SeenByOne$Reader", name := "house", desc := "()I" } : Jvm.MethodName)) ∈ lw_tbl := lw_at lw_m5 0 rfl
theorem q1035 : (Jvm.Cond.instanceMethod ({ cls := "SeenByOne$Reader", name := "house", desc := "()I" } : Jvm.MethodName)) ∈ lw_all := lw_g (lw_at lw_m5 1 rfl) rfl
theorem q1036 : (Jvm.Cond.code ({ cls := "SeenByOne$Reader", name := "house", desc := "()I" } : Jvm.MethodName) prog_10_method_10_code (2 : Nat) (Option.some Jvm.ClassFile.FieldType.int)) ∈ lw_all := lw_g (lw_at lw_m5 2 rfl) rfl
theorem q1037 : (Jvm.Cond.methodLink "SeenByOne$Reader" (77 : Nat) ({ cls := "SeenByOne$Ground", name := "isHouse", desc := "(I)Z" } : Jvm.MethodName)) ∈ lw_all := lw_g (lw_at lw_m5 3 rfl) rfl
theorem q1038 : (Jvm.Cond.stringRef "SeenByOne$Reader" (116 : Nat) "far") ∈ lw_tbl := lw_at lw_m5 4 rfl
theorem q1039 : (Jvm.Cond.stringRef "SeenByOne$Reader" (120 : Nat) "draw") ∈ lw_tbl := lw_at lw_m5 5 rfl
theorem in_X18 : ∀ w ∈ wsX180, w ∈ lw_all := lw_in wsX180 [887, 889, 891, 893] (by decide +kernel) (by decide +kernel)

/-! SeenByOne$Faulty -/
set_option maxRecDepth 100000
def RX19 : String := "SeenByOne$Faulty"
def TX19 : u_T := fun k => match k with
  | 0 => ("java/lang/Throwable", "cause", "Ljava/lang/Throwable;", false)
  | 1 => ("java/lang/Throwable", "stackTrace", "[Ljava/lang/StackTraceElement;", false)
  | 2 => ("java/lang/Throwable", "suppressedExceptions", "Ljava/util/List;", false)
  | 3 => ("java/lang/Throwable", "detailMessage", "Ljava/lang/String;", false)
  | 4 => ("java/lang/Throwable", "backtrace", "Ljava/lang/Object;", false)
  | 5 => ("java/lang/Throwable", "depth", "I", false)
  | _ => ("SeenByOne$Faulty", "place", "I", true)
def tyX19 : Nat → FieldType := fun k => match k with
  | 0 => .object "java/lang/Throwable"
  | 1 => .array (.object "java/lang/StackTraceElement")
  | 2 => .object "java/util/List"
  | 3 => .object "java/lang/String"
  | 4 => .object "java/lang/Object"
  | 5 => .int
  | _ => .int
abbrev wsX190 : List Cond := u_ws RX19 TX19 7
theorem nmX19 : ∀ a, a < 7 → ∀ b, b < 7 → a ≠ b → (TX19 a).2.1 ≠ (TX19 b).2.1 := by decide +kernel
theorem tyX19_ok : ∀ k, k < 7 → parseFieldDescriptor (TX19 k).2.2.1 = some (tyX19 k) := by decide +kernel
abbrev cX19_init : ByteArray := prog_4_method_1_code
def yX19_init : MethodName := ⟨RX19, "<init>", "(I)V"⟩
def dkwX19_init_0 : List UInt8 := [42, 1, 1, 3, 3, 183, 0, 1, 42, 27, 181, 0, 7, 177]
abbrev dktX19_init_0 : List UInt8 := dkwX19_init_0 ++ []
theorem dksX19_init_0 : cX19_init.data.toList.drop 0 = dktX19_init_0 := by decide +kernel
theorem dX19_init_0 : decode cX19_init 0 = .ok (.aload_n 0, 1) := dk_42 (dk_at dksX19_init_0 0 rfl rfl)
theorem dX19_init_1 : decode cX19_init 1 = .ok (.aconst_null, 1) := dk_1 (dk_at dksX19_init_0 1 rfl rfl)
theorem dX19_init_2 : decode cX19_init 2 = .ok (.aconst_null, 1) := dk_1 (dk_at dksX19_init_0 2 rfl rfl)
theorem dX19_init_3 : decode cX19_init 3 = .ok (.iconst 0, 1) := dk_3 (dk_at dksX19_init_0 3 rfl rfl)
theorem dX19_init_4 : decode cX19_init 4 = .ok (.iconst 0, 1) := dk_3 (dk_at dksX19_init_0 4 rfl rfl)
theorem dX19_init_5 : decode cX19_init 5 = .ok (.invokespecial 1, 3) := dk_183 0 1 (dk_at dksX19_init_0 5 rfl rfl)
theorem dX19_init_8 : decode cX19_init 8 = .ok (.aload_n 0, 1) := dk_42 (dk_at dksX19_init_0 8 rfl rfl)
theorem dX19_init_9 : decode cX19_init 9 = .ok (.iload_n 1, 1) := dk_27 (dk_at dksX19_init_0 9 rfl rfl)
theorem dX19_init_10 : decode cX19_init 10 = .ok (.putfield 7, 3) := dk_181 0 7 (dk_at dksX19_init_0 10 rfl rfl)
theorem dX19_init_13 : decode cX19_init 13 = .ok (.return_, 1) := dk_177 (dk_at dksX19_init_0 13 rfl rfl)
theorem q108 : (Jvm.Cond.initialized "SeenByOne$Faulty") ∈ lw_all := lw_g (lw_at lw_m1 34 rfl) rfl
theorem q251 : (Jvm.Cond.selects "SeenByOne$Faulty" ({ cls := "java/lang/Throwable", name := "fillInStackTrace", desc := "()Ljava/lang/Throwable;" } : Jvm.MethodName) ({ cls := "java/lang/Throwable", name := "fillInStackTrace", desc := "()Ljava/lang/Throwable;" } : Jvm.MethodName)) ∈ lw_all := lw_g (lw_at lw_m1 177 rfl) rfl
theorem q994 : (Jvm.Cond.instantiable "SeenByOne$Faulty" (7 : Nat)) ∈ lw_all := lw_g (lw_at lw_m4 200 rfl) rfl
theorem q995 : (Jvm.Cond.castable "SeenByOne$Faulty" "SeenByOne$Faulty") ∈ lw_tbl := lw_at lw_m4 201 rfl
theorem q996 : (Jvm.Cond.selects "SeenByOne$Faulty" ({ cls := "java/lang/Throwable", name := "fillInStackTrace", desc := "(I)Ljava/lang/Throwable;" } : Jvm.MethodName) ({ cls := "java/lang/Throwable", name := "fillInStackTrace", desc := "(I)Ljava/lang/Throwable;" } : Jvm.MethodName)) ∈ lw_all := lw_g (lw_at lw_m4 202 rfl) rfl
theorem q997 : (Jvm.Cond.lays "SeenByOne$Faulty" "java/lang/Throwable" "cause" "Ljava/lang/Throwable;") ∈ lw_all := lw_g (lw_at lw_m4 203 rfl) rfl
theorem q998 : (Jvm.Cond.lays "SeenByOne$Faulty" "java/lang/Throwable" "stackTrace" "[Ljava/lang/StackTraceElement;") ∈ lw_all := lw_g (lw_at lw_m4 204 rfl) rfl
theorem q999 : (Jvm.Cond.lays "SeenByOne$Faulty" "java/lang/Throwable" "suppressedExceptions" "Ljava/util/List;") ∈ lw_all := lw_g (lw_at lw_m4 205 rfl) rfl
theorem q1000 : (Jvm.Cond.lays "SeenByOne$Faulty" "java/lang/Throwable" "detailMessage" "Ljava/lang/String;") ∈ lw_all := lw_g (lw_at lw_m4 206 rfl) rfl
theorem q1001 : (Jvm.Cond.lays "SeenByOne$Faulty" "java/lang/Throwable" "backtrace" "Ljava/lang/Object;") ∈ lw_all := lw_g (lw_at lw_m4 207 rfl) rfl
theorem q1003 : (Jvm.Cond.instanceMethod ({ cls := "SeenByOne$Faulty", name := "<init>", desc := "(I)V" } : Jvm.MethodName)) ∈ lw_all := lw_g (lw_at lw_m4 209 rfl) rfl
theorem q1004 : (Jvm.Cond.code ({ cls := "SeenByOne$Faulty", name := "<init>", desc := "(I)V" } : Jvm.MethodName) prog_4_method_1_code (2 : Nat) (Option.none : Option Jvm.ClassFile.FieldType)) ∈ lw_all := lw_g (lw_at lw_m4 210 rfl) rfl
theorem q1005 : (Jvm.Cond.methodLink "SeenByOne$Faulty" (1 : Nat) ({ cls := "java/lang/Exception", name := "<init>", desc := "(Ljava/lang/String;Ljava/lang/Throwable;ZZ)V" } : Jvm.MethodName)) ∈ lw_all := lw_g (lw_at lw_m4 211 rfl) rfl
theorem q1006 : (Jvm.Cond.fieldLink "SeenByOne$Faulty" (7 : Nat) "SeenByOne$Faulty" "place" "I") ∈ lw_all := lw_g (lw_at lw_m4 212 rfl) rfl
theorem q1008 : (Jvm.Cond.laysFinal "SeenByOne$Faulty" "SeenByOne$Faulty" "place" "I") ∈ lw_all := lw_g (lw_at lw_m4 214 rfl) rfl
theorem q1009 : (Jvm.Cond.soleField "SeenByOne$Faulty" "place") ∈ lw_all := lw_g (lw_at lw_m4 215 rfl) rfl
theorem q1010 : (Jvm.Cond.lays "SeenByOne$Faulty" "java/lang/Throwable" "depth" "I") ∈ lw_all := lw_g (lw_at lw_m4 216 rfl) rfl
theorem q1011 : (Jvm.Cond.superclass "SeenByOne$Faulty" "java/lang/Exception") ∈ lw_all := lw_g (lw_at lw_m4 217 rfl) rfl
theorem in_X19 : ∀ w ∈ wsX190, w ∈ lw_all := lw_in wsX190 [997, 998, 999, 1000, 1001, 1010, 1008] (by decide +kernel) (by decide +kernel)

/-! SeenByOne$Ground -/
set_option maxRecDepth 100000
def RX2 : String := "SeenByOne$Ground"
def TX2 : u_T := fun k => match k with
  | 0 => ("SeenByOne$Ground", "many", "I", false)
  | 1 => ("SeenByOne$Ground", "summer", "Z", false)
  | 2 => ("SeenByOne$Ground", "far", "I", false)
  | 3 => ("SeenByOne$Ground", "drawn", "I", false)
  | 4 => ("SeenByOne$Ground", "fines", "I", false)
  | 5 => ("SeenByOne$Ground", "seed", "I", false)
  | 6 => ("SeenByOne$Ground", "things", "[LSeenByOne$Thing;", true)
  | 7 => ("SeenByOne$Ground", "height", "[I", true)
  | _ => ("SeenByOne$Ground", "shut", "[I", true)
def tyX2 : Nat → FieldType := fun k => match k with
  | 0 => .int
  | 1 => .boolean
  | 2 => .int
  | 3 => .int
  | 4 => .int
  | 5 => .int
  | 6 => .array (.object "SeenByOne$Thing")
  | 7 => .array .int
  | _ => .array .int
abbrev wsX20 : List Cond := u_ws RX2 TX2 9
theorem nmX2 : ∀ a, a < 9 → ∀ b, b < 9 → a ≠ b → (TX2 a).2.1 ≠ (TX2 b).2.1 := by decide +kernel
theorem tyX2_ok : ∀ k, k < 9 → parseFieldDescriptor (TX2 k).2.2.1 = some (tyX2 k) := by decide +kernel
abbrev cX2_init : ByteArray := prog_6_method_1_code
def yX2_init : MethodName := ⟨RX2, "<init>", "()V"⟩
def dkwX2_init_1 : List UInt8 := [189, 0, 22, 181, 0, 24, 42, 16, 8, 188, 10, 181, 0, 28, 42, 16, 8, 188, 10, 181, 0, 32, 177]
abbrev dktX2_init_1 : List UInt8 := dkwX2_init_1 ++ []
def dkwX2_init_0 : List UInt8 := [42, 183, 0, 3, 42, 4, 181, 0, 9, 42, 16, 9, 181, 0, 15, 42, 4, 181, 0, 19, 42, 16, 8]
abbrev dktX2_init_0 : List UInt8 := dkwX2_init_0 ++ dktX2_init_1
theorem dksX2_init_0 : cX2_init.data.toList.drop 0 = dktX2_init_0 := by decide +kernel
theorem dksX2_init_1 : cX2_init.data.toList.drop 23 = dktX2_init_1 := dk_seg dksX2_init_0 23 rfl rfl
theorem dX2_init_0 : decode cX2_init 0 = .ok (.aload_n 0, 1) := dk_42 (dk_at dksX2_init_0 0 rfl rfl)
theorem dX2_init_1 : decode cX2_init 1 = .ok (.invokespecial 3, 3) := dk_183 0 3 (dk_at dksX2_init_0 1 rfl rfl)
theorem dX2_init_4 : decode cX2_init 4 = .ok (.aload_n 0, 1) := dk_42 (dk_at dksX2_init_0 4 rfl rfl)
theorem dX2_init_5 : decode cX2_init 5 = .ok (.iconst 1, 1) := dk_4 (dk_at dksX2_init_0 5 rfl rfl)
theorem dX2_init_6 : decode cX2_init 6 = .ok (.putfield 9, 3) := dk_181 0 9 (dk_at dksX2_init_0 6 rfl rfl)
theorem dX2_init_9 : decode cX2_init 9 = .ok (.aload_n 0, 1) := dk_42 (dk_at dksX2_init_0 9 rfl rfl)
theorem dX2_init_10 : decode cX2_init 10 = .ok (.bipush 9, 2) := dk_16 9 (dk_at dksX2_init_0 10 rfl rfl)
theorem dX2_init_12 : decode cX2_init 12 = .ok (.putfield 15, 3) := dk_181 0 15 (dk_at dksX2_init_0 12 rfl rfl)
theorem dX2_init_15 : decode cX2_init 15 = .ok (.aload_n 0, 1) := dk_42 (dk_at dksX2_init_0 15 rfl rfl)
theorem dX2_init_16 : decode cX2_init 16 = .ok (.iconst 1, 1) := dk_4 (dk_at dksX2_init_0 16 rfl rfl)
theorem dX2_init_17 : decode cX2_init 17 = .ok (.putfield 19, 3) := dk_181 0 19 (dk_at dksX2_init_0 17 rfl rfl)
theorem dX2_init_20 : decode cX2_init 20 = .ok (.aload_n 0, 1) := dk_42 (dk_at dksX2_init_0 20 rfl rfl)
theorem dX2_init_21 : decode cX2_init 21 = .ok (.bipush 8, 2) := dk_16 8 (dk_at dksX2_init_0 21 rfl rfl)
theorem dX2_init_23 : decode cX2_init 23 = .ok (.anewarray 22, 3) := dk_189 0 22 (dk_at dksX2_init_1 0 rfl rfl)
theorem dX2_init_26 : decode cX2_init 26 = .ok (.putfield 24, 3) := dk_181 0 24 (dk_at dksX2_init_1 3 rfl rfl)
theorem dX2_init_29 : decode cX2_init 29 = .ok (.aload_n 0, 1) := dk_42 (dk_at dksX2_init_1 6 rfl rfl)
theorem dX2_init_30 : decode cX2_init 30 = .ok (.bipush 8, 2) := dk_16 8 (dk_at dksX2_init_1 7 rfl rfl)
theorem dX2_init_32 : decode cX2_init 32 = .ok (.newarray .int, 2) := dk_188_10 (dk_at dksX2_init_1 9 rfl rfl)
theorem dX2_init_34 : decode cX2_init 34 = .ok (.putfield 28, 3) := dk_181 0 28 (dk_at dksX2_init_1 11 rfl rfl)
theorem dX2_init_37 : decode cX2_init 37 = .ok (.aload_n 0, 1) := dk_42 (dk_at dksX2_init_1 14 rfl rfl)
theorem dX2_init_38 : decode cX2_init 38 = .ok (.bipush 8, 2) := dk_16 8 (dk_at dksX2_init_1 15 rfl rfl)
theorem dX2_init_40 : decode cX2_init 40 = .ok (.newarray .int, 2) := dk_188_10 (dk_at dksX2_init_1 17 rfl rfl)
theorem dX2_init_42 : decode cX2_init 42 = .ok (.putfield 32, 3) := dk_181 0 32 (dk_at dksX2_init_1 19 rfl rfl)
theorem dX2_init_45 : decode cX2_init 45 = .ok (.return_, 1) := dk_177 (dk_at dksX2_init_1 22 rfl rfl)
abbrev cX2_isThing : ByteArray := prog_6_method_4_code
def yX2_isThing : MethodName := ⟨RX2, "isThing", "(I)Z"⟩
def dkwX2_isThing_0 : List UInt8 := [27, 133, 9, 42, 180, 0, 35, 4, 100, 133, 184, 0, 54, 172]
abbrev dktX2_isThing_0 : List UInt8 := dkwX2_isThing_0 ++ []
theorem dksX2_isThing_0 : cX2_isThing.data.toList.drop 0 = dktX2_isThing_0 := by decide +kernel
theorem dX2_isThing_0 : decode cX2_isThing 0 = .ok (.iload_n 1, 1) := dk_27 (dk_at dksX2_isThing_0 0 rfl rfl)
theorem dX2_isThing_1 : decode cX2_isThing 1 = .ok (.i2l, 1) := dk_133 (dk_at dksX2_isThing_0 1 rfl rfl)
theorem dX2_isThing_2 : decode cX2_isThing 2 = .ok (.lconst 0, 1) := dk_9 (dk_at dksX2_isThing_0 2 rfl rfl)
theorem dX2_isThing_3 : decode cX2_isThing 3 = .ok (.aload_n 0, 1) := dk_42 (dk_at dksX2_isThing_0 3 rfl rfl)
theorem dX2_isThing_4 : decode cX2_isThing 4 = .ok (.getfield 35, 3) := dk_180 0 35 (dk_at dksX2_isThing_0 4 rfl rfl)
theorem dX2_isThing_7 : decode cX2_isThing 7 = .ok (.iconst 1, 1) := dk_4 (dk_at dksX2_isThing_0 7 rfl rfl)
theorem dX2_isThing_8 : decode cX2_isThing 8 = .ok (.isub, 1) := dk_100 (dk_at dksX2_isThing_0 8 rfl rfl)
theorem dX2_isThing_9 : decode cX2_isThing 9 = .ok (.i2l, 1) := dk_133 (dk_at dksX2_isThing_0 9 rfl rfl)
theorem dX2_isThing_10 : decode cX2_isThing 10 = .ok (.invokestatic 54, 3) := dk_184 0 54 (dk_at dksX2_isThing_0 10 rfl rfl)
theorem dX2_isThing_13 : decode cX2_isThing 13 = .ok (.ireturn, 1) := dk_172 (dk_at dksX2_isThing_0 13 rfl rfl)
abbrev cX2_seers : ByteArray := prog_6_method_16_code
def yX2_seers : MethodName := ⟨RX2, "seers", "(I)I"⟩
def dkwX2_seers_2 : List UInt8 := [172]
abbrev dktX2_seers_2 : List UInt8 := dkwX2_seers_2 ++ []
def dkwX2_seers_1 : List UInt8 := [182, 0, 116, 153, 0, 7, 2, 167, 0, 8, 4, 29, 120, 2, 130, 126, 61, 132, 3, 1, 167, 255, 221, 28]
abbrev dktX2_seers_1 : List UInt8 := dkwX2_seers_1 ++ dktX2_seers_2
def dkwX2_seers_0 : List UInt8 := [42, 27, 182, 0, 113, 61, 3, 62, 29, 42, 180, 0, 35, 162, 0, 33, 28, 42, 180, 0, 24, 29, 50]
abbrev dktX2_seers_0 : List UInt8 := dkwX2_seers_0 ++ dktX2_seers_1
theorem dksX2_seers_0 : cX2_seers.data.toList.drop 0 = dktX2_seers_0 := by decide +kernel
theorem dksX2_seers_1 : cX2_seers.data.toList.drop 23 = dktX2_seers_1 := dk_seg dksX2_seers_0 23 rfl rfl
theorem dksX2_seers_2 : cX2_seers.data.toList.drop 47 = dktX2_seers_2 := dk_seg dksX2_seers_1 24 rfl rfl
theorem dX2_seers_0 : decode cX2_seers 0 = .ok (.aload_n 0, 1) := dk_42 (dk_at dksX2_seers_0 0 rfl rfl)
theorem dX2_seers_1 : decode cX2_seers 1 = .ok (.iload_n 1, 1) := dk_27 (dk_at dksX2_seers_0 1 rfl rfl)
theorem dX2_seers_2 : decode cX2_seers 2 = .ok (.invokevirtual 113, 3) := dk_182 0 113 (dk_at dksX2_seers_0 2 rfl rfl)
theorem dX2_seers_5 : decode cX2_seers 5 = .ok (.istore_n 2, 1) := dk_61 (dk_at dksX2_seers_0 5 rfl rfl)
theorem dX2_seers_6 : decode cX2_seers 6 = .ok (.iconst 0, 1) := dk_3 (dk_at dksX2_seers_0 6 rfl rfl)
theorem dX2_seers_7 : decode cX2_seers 7 = .ok (.istore_n 3, 1) := dk_62 (dk_at dksX2_seers_0 7 rfl rfl)
theorem dX2_seers_8 : decode cX2_seers 8 = .ok (.iload_n 3, 1) := dk_29 (dk_at dksX2_seers_0 8 rfl rfl)
theorem dX2_seers_9 : decode cX2_seers 9 = .ok (.aload_n 0, 1) := dk_42 (dk_at dksX2_seers_0 9 rfl rfl)
theorem dX2_seers_10 : decode cX2_seers 10 = .ok (.getfield 35, 3) := dk_180 0 35 (dk_at dksX2_seers_0 10 rfl rfl)
theorem dX2_seers_13 : decode cX2_seers 13 = .ok (.if_icmp .ge 33, 3) := dk_162 0 33 (dk_at dksX2_seers_0 13 rfl rfl)
theorem dX2_seers_16 : decode cX2_seers 16 = .ok (.iload_n 2, 1) := dk_28 (dk_at dksX2_seers_0 16 rfl rfl)
theorem dX2_seers_17 : decode cX2_seers 17 = .ok (.aload_n 0, 1) := dk_42 (dk_at dksX2_seers_0 17 rfl rfl)
theorem dX2_seers_18 : decode cX2_seers 18 = .ok (.getfield 24, 3) := dk_180 0 24 (dk_at dksX2_seers_0 18 rfl rfl)
theorem dX2_seers_21 : decode cX2_seers 21 = .ok (.iload_n 3, 1) := dk_29 (dk_at dksX2_seers_0 21 rfl rfl)
theorem dX2_seers_22 : decode cX2_seers 22 = .ok (.aaload, 1) := dk_50 (dk_at dksX2_seers_0 22 rfl rfl)
theorem dX2_seers_23 : decode cX2_seers 23 = .ok (.invokevirtual 116, 3) := dk_182 0 116 (dk_at dksX2_seers_1 0 rfl rfl)
theorem dX2_seers_26 : decode cX2_seers 26 = .ok (.ifCond .eq 7, 3) := dk_153 0 7 (dk_at dksX2_seers_1 3 rfl rfl)
theorem dX2_seers_29 : decode cX2_seers 29 = .ok (.iconst (-1), 1) := dk_2 (dk_at dksX2_seers_1 6 rfl rfl)
theorem dX2_seers_30 : decode cX2_seers 30 = .ok (.goto 8, 3) := dk_167 0 8 (dk_at dksX2_seers_1 7 rfl rfl)
theorem dX2_seers_33 : decode cX2_seers 33 = .ok (.iconst 1, 1) := dk_4 (dk_at dksX2_seers_1 10 rfl rfl)
theorem dX2_seers_34 : decode cX2_seers 34 = .ok (.iload_n 3, 1) := dk_29 (dk_at dksX2_seers_1 11 rfl rfl)
theorem dX2_seers_35 : decode cX2_seers 35 = .ok (.ishl, 1) := dk_120 (dk_at dksX2_seers_1 12 rfl rfl)
theorem dX2_seers_36 : decode cX2_seers 36 = .ok (.iconst (-1), 1) := dk_2 (dk_at dksX2_seers_1 13 rfl rfl)
theorem dX2_seers_37 : decode cX2_seers 37 = .ok (.ixor, 1) := dk_130 (dk_at dksX2_seers_1 14 rfl rfl)
theorem dX2_seers_38 : decode cX2_seers 38 = .ok (.iand, 1) := dk_126 (dk_at dksX2_seers_1 15 rfl rfl)
theorem dX2_seers_39 : decode cX2_seers 39 = .ok (.istore_n 2, 1) := dk_61 (dk_at dksX2_seers_1 16 rfl rfl)
theorem dX2_seers_40 : decode cX2_seers 40 = .ok (.iinc 3 1, 3) := dk_132 3 1 (dk_at dksX2_seers_1 17 rfl rfl)
theorem dX2_seers_43 : decode cX2_seers 43 = .ok (.goto (-35), 3) := dk_167 255 221 (dk_at dksX2_seers_1 20 rfl rfl)
theorem dX2_seers_46 : decode cX2_seers 46 = .ok (.iload_n 2, 1) := dk_28 (dk_at dksX2_seers_1 23 rfl rfl)
theorem dX2_seers_47 : decode cX2_seers 47 = .ok (.ireturn, 1) := dk_172 (dk_at dksX2_seers_2 0 rfl rfl)
abbrev cX2_into : ByteArray := prog_6_method_15_code
def yX2_into : MethodName := ⟨RX2, "into", "(I)I"⟩
def dkwX2_into_2 : List UInt8 := [167, 0, 4, 3, 128, 61, 132, 3, 1, 167, 255, 205, 28, 172]
abbrev dktX2_into_2 : List UInt8 := dkwX2_into_2 ++ []
def dkwX2_into_1 : List UInt8 := [153, 0, 26, 42, 27, 182, 0, 108, 153, 0, 18, 42, 29, 27, 182, 0, 110, 153, 0, 9, 4, 29, 120]
abbrev dktX2_into_1 : List UInt8 := dkwX2_into_1 ++ dktX2_into_2
def dkwX2_into_0 : List UInt8 := [3, 61, 3, 62, 29, 42, 180, 0, 35, 162, 0, 49, 28, 29, 27, 159, 0, 34, 42, 29, 182, 0, 108]
abbrev dktX2_into_0 : List UInt8 := dkwX2_into_0 ++ dktX2_into_1
theorem dksX2_into_0 : cX2_into.data.toList.drop 0 = dktX2_into_0 := by decide +kernel
theorem dksX2_into_1 : cX2_into.data.toList.drop 23 = dktX2_into_1 := dk_seg dksX2_into_0 23 rfl rfl
theorem dksX2_into_2 : cX2_into.data.toList.drop 46 = dktX2_into_2 := dk_seg dksX2_into_1 23 rfl rfl
theorem dX2_into_0 : decode cX2_into 0 = .ok (.iconst 0, 1) := dk_3 (dk_at dksX2_into_0 0 rfl rfl)
theorem dX2_into_1 : decode cX2_into 1 = .ok (.istore_n 2, 1) := dk_61 (dk_at dksX2_into_0 1 rfl rfl)
theorem dX2_into_2 : decode cX2_into 2 = .ok (.iconst 0, 1) := dk_3 (dk_at dksX2_into_0 2 rfl rfl)
theorem dX2_into_3 : decode cX2_into 3 = .ok (.istore_n 3, 1) := dk_62 (dk_at dksX2_into_0 3 rfl rfl)
theorem dX2_into_4 : decode cX2_into 4 = .ok (.iload_n 3, 1) := dk_29 (dk_at dksX2_into_0 4 rfl rfl)
theorem dX2_into_5 : decode cX2_into 5 = .ok (.aload_n 0, 1) := dk_42 (dk_at dksX2_into_0 5 rfl rfl)
theorem dX2_into_6 : decode cX2_into 6 = .ok (.getfield 35, 3) := dk_180 0 35 (dk_at dksX2_into_0 6 rfl rfl)
theorem dX2_into_9 : decode cX2_into 9 = .ok (.if_icmp .ge 49, 3) := dk_162 0 49 (dk_at dksX2_into_0 9 rfl rfl)
theorem dX2_into_12 : decode cX2_into 12 = .ok (.iload_n 2, 1) := dk_28 (dk_at dksX2_into_0 12 rfl rfl)
theorem dX2_into_13 : decode cX2_into 13 = .ok (.iload_n 3, 1) := dk_29 (dk_at dksX2_into_0 13 rfl rfl)
theorem dX2_into_14 : decode cX2_into 14 = .ok (.iload_n 1, 1) := dk_27 (dk_at dksX2_into_0 14 rfl rfl)
theorem dX2_into_15 : decode cX2_into 15 = .ok (.if_icmp .eq 34, 3) := dk_159 0 34 (dk_at dksX2_into_0 15 rfl rfl)
theorem dX2_into_18 : decode cX2_into 18 = .ok (.aload_n 0, 1) := dk_42 (dk_at dksX2_into_0 18 rfl rfl)
theorem dX2_into_19 : decode cX2_into 19 = .ok (.iload_n 3, 1) := dk_29 (dk_at dksX2_into_0 19 rfl rfl)
theorem dX2_into_20 : decode cX2_into 20 = .ok (.invokevirtual 108, 3) := dk_182 0 108 (dk_at dksX2_into_0 20 rfl rfl)
theorem dX2_into_23 : decode cX2_into 23 = .ok (.ifCond .eq 26, 3) := dk_153 0 26 (dk_at dksX2_into_1 0 rfl rfl)
theorem dX2_into_26 : decode cX2_into 26 = .ok (.aload_n 0, 1) := dk_42 (dk_at dksX2_into_1 3 rfl rfl)
theorem dX2_into_27 : decode cX2_into 27 = .ok (.iload_n 1, 1) := dk_27 (dk_at dksX2_into_1 4 rfl rfl)
theorem dX2_into_28 : decode cX2_into 28 = .ok (.invokevirtual 108, 3) := dk_182 0 108 (dk_at dksX2_into_1 5 rfl rfl)
theorem dX2_into_31 : decode cX2_into 31 = .ok (.ifCond .eq 18, 3) := dk_153 0 18 (dk_at dksX2_into_1 8 rfl rfl)
theorem dX2_into_34 : decode cX2_into 34 = .ok (.aload_n 0, 1) := dk_42 (dk_at dksX2_into_1 11 rfl rfl)
theorem dX2_into_35 : decode cX2_into 35 = .ok (.iload_n 3, 1) := dk_29 (dk_at dksX2_into_1 12 rfl rfl)
theorem dX2_into_36 : decode cX2_into 36 = .ok (.iload_n 1, 1) := dk_27 (dk_at dksX2_into_1 13 rfl rfl)
theorem dX2_into_37 : decode cX2_into 37 = .ok (.invokevirtual 110, 3) := dk_182 0 110 (dk_at dksX2_into_1 14 rfl rfl)
theorem dX2_into_40 : decode cX2_into 40 = .ok (.ifCond .eq 9, 3) := dk_153 0 9 (dk_at dksX2_into_1 17 rfl rfl)
theorem dX2_into_43 : decode cX2_into 43 = .ok (.iconst 1, 1) := dk_4 (dk_at dksX2_into_1 20 rfl rfl)
theorem dX2_into_44 : decode cX2_into 44 = .ok (.iload_n 3, 1) := dk_29 (dk_at dksX2_into_1 21 rfl rfl)
theorem dX2_into_45 : decode cX2_into 45 = .ok (.ishl, 1) := dk_120 (dk_at dksX2_into_1 22 rfl rfl)
theorem dX2_into_46 : decode cX2_into 46 = .ok (.goto 4, 3) := dk_167 0 4 (dk_at dksX2_into_2 0 rfl rfl)
theorem dX2_into_49 : decode cX2_into 49 = .ok (.iconst 0, 1) := dk_3 (dk_at dksX2_into_2 3 rfl rfl)
theorem dX2_into_50 : decode cX2_into 50 = .ok (.ior, 1) := dk_128 (dk_at dksX2_into_2 4 rfl rfl)
theorem dX2_into_51 : decode cX2_into 51 = .ok (.istore_n 2, 1) := dk_61 (dk_at dksX2_into_2 5 rfl rfl)
theorem dX2_into_52 : decode cX2_into 52 = .ok (.iinc 3 1, 3) := dk_132 3 1 (dk_at dksX2_into_2 6 rfl rfl)
theorem dX2_into_55 : decode cX2_into 55 = .ok (.goto (-51), 3) := dk_167 255 205 (dk_at dksX2_into_2 9 rfl rfl)
theorem dX2_into_58 : decode cX2_into 58 = .ok (.iload_n 2, 1) := dk_28 (dk_at dksX2_into_2 12 rfl rfl)
theorem dX2_into_59 : decode cX2_into 59 = .ok (.ireturn, 1) := dk_172 (dk_at dksX2_into_2 13 rfl rfl)
abbrev cX2_isHouse : ByteArray := prog_6_method_5_code
def yX2_isHouse : MethodName := ⟨RX2, "isHouse", "(I)Z"⟩
def dkwX2_isHouse_1 : List UInt8 := [3, 172]
abbrev dktX2_isHouse_1 : List UInt8 := dkwX2_isHouse_1 ++ []
def dkwX2_isHouse_0 : List UInt8 := [42, 27, 182, 0, 58, 153, 0, 19, 42, 180, 0, 24, 27, 50, 182, 0, 62, 153, 0, 7, 4, 167, 0, 4]
abbrev dktX2_isHouse_0 : List UInt8 := dkwX2_isHouse_0 ++ dktX2_isHouse_1
theorem dksX2_isHouse_0 : cX2_isHouse.data.toList.drop 0 = dktX2_isHouse_0 := by decide +kernel
theorem dksX2_isHouse_1 : cX2_isHouse.data.toList.drop 24 = dktX2_isHouse_1 := dk_seg dksX2_isHouse_0 24 rfl rfl
theorem dX2_isHouse_0 : decode cX2_isHouse 0 = .ok (.aload_n 0, 1) := dk_42 (dk_at dksX2_isHouse_0 0 rfl rfl)
theorem dX2_isHouse_1 : decode cX2_isHouse 1 = .ok (.iload_n 1, 1) := dk_27 (dk_at dksX2_isHouse_0 1 rfl rfl)
theorem dX2_isHouse_2 : decode cX2_isHouse 2 = .ok (.invokevirtual 58, 3) := dk_182 0 58 (dk_at dksX2_isHouse_0 2 rfl rfl)
theorem dX2_isHouse_5 : decode cX2_isHouse 5 = .ok (.ifCond .eq 19, 3) := dk_153 0 19 (dk_at dksX2_isHouse_0 5 rfl rfl)
theorem dX2_isHouse_8 : decode cX2_isHouse 8 = .ok (.aload_n 0, 1) := dk_42 (dk_at dksX2_isHouse_0 8 rfl rfl)
theorem dX2_isHouse_9 : decode cX2_isHouse 9 = .ok (.getfield 24, 3) := dk_180 0 24 (dk_at dksX2_isHouse_0 9 rfl rfl)
theorem dX2_isHouse_12 : decode cX2_isHouse 12 = .ok (.iload_n 1, 1) := dk_27 (dk_at dksX2_isHouse_0 12 rfl rfl)
theorem dX2_isHouse_13 : decode cX2_isHouse 13 = .ok (.aaload, 1) := dk_50 (dk_at dksX2_isHouse_0 13 rfl rfl)
theorem dX2_isHouse_14 : decode cX2_isHouse 14 = .ok (.invokevirtual 62, 3) := dk_182 0 62 (dk_at dksX2_isHouse_0 14 rfl rfl)
theorem dX2_isHouse_17 : decode cX2_isHouse 17 = .ok (.ifCond .eq 7, 3) := dk_153 0 7 (dk_at dksX2_isHouse_0 17 rfl rfl)
theorem dX2_isHouse_20 : decode cX2_isHouse 20 = .ok (.iconst 1, 1) := dk_4 (dk_at dksX2_isHouse_0 20 rfl rfl)
theorem dX2_isHouse_21 : decode cX2_isHouse 21 = .ok (.goto 4, 3) := dk_167 0 4 (dk_at dksX2_isHouse_0 21 rfl rfl)
theorem dX2_isHouse_24 : decode cX2_isHouse 24 = .ok (.iconst 0, 1) := dk_3 (dk_at dksX2_isHouse_1 0 rfl rfl)
theorem dX2_isHouse_25 : decode cX2_isHouse 25 = .ok (.ireturn, 1) := dk_172 (dk_at dksX2_isHouse_1 1 rfl rfl)
abbrev cX2_seesInto : ByteArray := prog_6_method_14_code
def yX2_seesInto : MethodName := ⟨RX2, "seesInto", "(II)Z"⟩
def dkwX2_seesInto_1 : List UInt8 := [42, 27, 28, 182, 0, 104, 153, 0, 7, 4, 167, 0, 4, 3, 172]
abbrev dktX2_seesInto_1 : List UInt8 := dkwX2_seesInto_1 ++ []
def dkwX2_seesInto_0 : List UInt8 := [42, 180, 0, 38, 27, 122, 4, 126, 154, 0, 29, 42, 180, 0, 32, 28, 46, 27, 122, 4, 126, 154, 0, 16]
abbrev dktX2_seesInto_0 : List UInt8 := dkwX2_seesInto_0 ++ dktX2_seesInto_1
theorem dksX2_seesInto_0 : cX2_seesInto.data.toList.drop 0 = dktX2_seesInto_0 := by decide +kernel
theorem dksX2_seesInto_1 : cX2_seesInto.data.toList.drop 24 = dktX2_seesInto_1 := dk_seg dksX2_seesInto_0 24 rfl rfl
theorem dX2_seesInto_0 : decode cX2_seesInto 0 = .ok (.aload_n 0, 1) := dk_42 (dk_at dksX2_seesInto_0 0 rfl rfl)
theorem dX2_seesInto_1 : decode cX2_seesInto 1 = .ok (.getfield 38, 3) := dk_180 0 38 (dk_at dksX2_seesInto_0 1 rfl rfl)
theorem dX2_seesInto_4 : decode cX2_seesInto 4 = .ok (.iload_n 1, 1) := dk_27 (dk_at dksX2_seesInto_0 4 rfl rfl)
theorem dX2_seesInto_5 : decode cX2_seesInto 5 = .ok (.ishr, 1) := dk_122 (dk_at dksX2_seesInto_0 5 rfl rfl)
theorem dX2_seesInto_6 : decode cX2_seesInto 6 = .ok (.iconst 1, 1) := dk_4 (dk_at dksX2_seesInto_0 6 rfl rfl)
theorem dX2_seesInto_7 : decode cX2_seesInto 7 = .ok (.iand, 1) := dk_126 (dk_at dksX2_seesInto_0 7 rfl rfl)
theorem dX2_seesInto_8 : decode cX2_seesInto 8 = .ok (.ifCond .ne 29, 3) := dk_154 0 29 (dk_at dksX2_seesInto_0 8 rfl rfl)
theorem dX2_seesInto_11 : decode cX2_seesInto 11 = .ok (.aload_n 0, 1) := dk_42 (dk_at dksX2_seesInto_0 11 rfl rfl)
theorem dX2_seesInto_12 : decode cX2_seesInto 12 = .ok (.getfield 32, 3) := dk_180 0 32 (dk_at dksX2_seesInto_0 12 rfl rfl)
theorem dX2_seesInto_15 : decode cX2_seesInto 15 = .ok (.iload_n 2, 1) := dk_28 (dk_at dksX2_seesInto_0 15 rfl rfl)
theorem dX2_seesInto_16 : decode cX2_seesInto 16 = .ok (.iaload, 1) := dk_46 (dk_at dksX2_seesInto_0 16 rfl rfl)
theorem dX2_seesInto_17 : decode cX2_seesInto 17 = .ok (.iload_n 1, 1) := dk_27 (dk_at dksX2_seesInto_0 17 rfl rfl)
theorem dX2_seesInto_18 : decode cX2_seesInto 18 = .ok (.ishr, 1) := dk_122 (dk_at dksX2_seesInto_0 18 rfl rfl)
theorem dX2_seesInto_19 : decode cX2_seesInto 19 = .ok (.iconst 1, 1) := dk_4 (dk_at dksX2_seesInto_0 19 rfl rfl)
theorem dX2_seesInto_20 : decode cX2_seesInto 20 = .ok (.iand, 1) := dk_126 (dk_at dksX2_seesInto_0 20 rfl rfl)
theorem dX2_seesInto_21 : decode cX2_seesInto 21 = .ok (.ifCond .ne 16, 3) := dk_154 0 16 (dk_at dksX2_seesInto_0 21 rfl rfl)
theorem dX2_seesInto_24 : decode cX2_seesInto 24 = .ok (.aload_n 0, 1) := dk_42 (dk_at dksX2_seesInto_1 0 rfl rfl)
theorem dX2_seesInto_25 : decode cX2_seesInto 25 = .ok (.iload_n 1, 1) := dk_27 (dk_at dksX2_seesInto_1 1 rfl rfl)
theorem dX2_seesInto_26 : decode cX2_seesInto 26 = .ok (.iload_n 2, 1) := dk_28 (dk_at dksX2_seesInto_1 2 rfl rfl)
theorem dX2_seesInto_27 : decode cX2_seesInto 27 = .ok (.invokevirtual 104, 3) := dk_182 0 104 (dk_at dksX2_seesInto_1 3 rfl rfl)
theorem dX2_seesInto_30 : decode cX2_seesInto 30 = .ok (.ifCond .eq 7, 3) := dk_153 0 7 (dk_at dksX2_seesInto_1 6 rfl rfl)
theorem dX2_seesInto_33 : decode cX2_seesInto 33 = .ok (.iconst 1, 1) := dk_4 (dk_at dksX2_seesInto_1 9 rfl rfl)
theorem dX2_seesInto_34 : decode cX2_seesInto 34 = .ok (.goto 4, 3) := dk_167 0 4 (dk_at dksX2_seesInto_1 10 rfl rfl)
theorem dX2_seesInto_37 : decode cX2_seesInto 37 = .ok (.iconst 0, 1) := dk_3 (dk_at dksX2_seesInto_1 13 rfl rfl)
theorem dX2_seesInto_38 : decode cX2_seesInto 38 = .ok (.ireturn, 1) := dk_172 (dk_at dksX2_seesInto_1 14 rfl rfl)
abbrev cX2_looksInto : ByteArray := prog_6_method_13_code
def yX2_looksInto : MethodName := ⟨RX2, "looksInto", "(II)Z"⟩
def dkwX2_looksInto_2 : List UInt8 := [3, 172]
abbrev dktX2_looksInto_2 : List UInt8 := dkwX2_looksInto_2 ++ []
def dkwX2_looksInto_1 : List UInt8 := [182, 0, 98, 42, 180, 0, 15, 163, 0, 17, 42, 27, 28, 182, 0, 101, 2, 160, 0, 7, 4, 167, 0, 4]
abbrev dktX2_looksInto_1 : List UInt8 := dkwX2_looksInto_1 ++ dktX2_looksInto_2
def dkwX2_looksInto_0 : List UInt8 := [42, 180, 0, 24, 27, 50, 42, 180, 0, 28, 27, 46, 182, 0, 91, 2, 159, 0, 30, 42, 27, 28]
abbrev dktX2_looksInto_0 : List UInt8 := dkwX2_looksInto_0 ++ dktX2_looksInto_1
theorem dksX2_looksInto_0 : cX2_looksInto.data.toList.drop 0 = dktX2_looksInto_0 := by decide +kernel
theorem dksX2_looksInto_1 : cX2_looksInto.data.toList.drop 22 = dktX2_looksInto_1 := dk_seg dksX2_looksInto_0 22 rfl rfl
theorem dksX2_looksInto_2 : cX2_looksInto.data.toList.drop 46 = dktX2_looksInto_2 := dk_seg dksX2_looksInto_1 24 rfl rfl
theorem dX2_looksInto_0 : decode cX2_looksInto 0 = .ok (.aload_n 0, 1) := dk_42 (dk_at dksX2_looksInto_0 0 rfl rfl)
theorem dX2_looksInto_1 : decode cX2_looksInto 1 = .ok (.getfield 24, 3) := dk_180 0 24 (dk_at dksX2_looksInto_0 1 rfl rfl)
theorem dX2_looksInto_4 : decode cX2_looksInto 4 = .ok (.iload_n 1, 1) := dk_27 (dk_at dksX2_looksInto_0 4 rfl rfl)
theorem dX2_looksInto_5 : decode cX2_looksInto 5 = .ok (.aaload, 1) := dk_50 (dk_at dksX2_looksInto_0 5 rfl rfl)
theorem dX2_looksInto_6 : decode cX2_looksInto 6 = .ok (.aload_n 0, 1) := dk_42 (dk_at dksX2_looksInto_0 6 rfl rfl)
theorem dX2_looksInto_7 : decode cX2_looksInto 7 = .ok (.getfield 28, 3) := dk_180 0 28 (dk_at dksX2_looksInto_0 7 rfl rfl)
theorem dX2_looksInto_10 : decode cX2_looksInto 10 = .ok (.iload_n 1, 1) := dk_27 (dk_at dksX2_looksInto_0 10 rfl rfl)
theorem dX2_looksInto_11 : decode cX2_looksInto 11 = .ok (.iaload, 1) := dk_46 (dk_at dksX2_looksInto_0 11 rfl rfl)
theorem dX2_looksInto_12 : decode cX2_looksInto 12 = .ok (.invokevirtual 91, 3) := dk_182 0 91 (dk_at dksX2_looksInto_0 12 rfl rfl)
theorem dX2_looksInto_15 : decode cX2_looksInto 15 = .ok (.iconst (-1), 1) := dk_2 (dk_at dksX2_looksInto_0 15 rfl rfl)
theorem dX2_looksInto_16 : decode cX2_looksInto 16 = .ok (.if_icmp .eq 30, 3) := dk_159 0 30 (dk_at dksX2_looksInto_0 16 rfl rfl)
theorem dX2_looksInto_19 : decode cX2_looksInto 19 = .ok (.aload_n 0, 1) := dk_42 (dk_at dksX2_looksInto_0 19 rfl rfl)
theorem dX2_looksInto_20 : decode cX2_looksInto 20 = .ok (.iload_n 1, 1) := dk_27 (dk_at dksX2_looksInto_0 20 rfl rfl)
theorem dX2_looksInto_21 : decode cX2_looksInto 21 = .ok (.iload_n 2, 1) := dk_28 (dk_at dksX2_looksInto_0 21 rfl rfl)
theorem dX2_looksInto_22 : decode cX2_looksInto 22 = .ok (.invokevirtual 98, 3) := dk_182 0 98 (dk_at dksX2_looksInto_1 0 rfl rfl)
theorem dX2_looksInto_25 : decode cX2_looksInto 25 = .ok (.aload_n 0, 1) := dk_42 (dk_at dksX2_looksInto_1 3 rfl rfl)
theorem dX2_looksInto_26 : decode cX2_looksInto 26 = .ok (.getfield 15, 3) := dk_180 0 15 (dk_at dksX2_looksInto_1 4 rfl rfl)
theorem dX2_looksInto_29 : decode cX2_looksInto 29 = .ok (.if_icmp .gt 17, 3) := dk_163 0 17 (dk_at dksX2_looksInto_1 7 rfl rfl)
theorem dX2_looksInto_32 : decode cX2_looksInto 32 = .ok (.aload_n 0, 1) := dk_42 (dk_at dksX2_looksInto_1 10 rfl rfl)
theorem dX2_looksInto_33 : decode cX2_looksInto 33 = .ok (.iload_n 1, 1) := dk_27 (dk_at dksX2_looksInto_1 11 rfl rfl)
theorem dX2_looksInto_34 : decode cX2_looksInto 34 = .ok (.iload_n 2, 1) := dk_28 (dk_at dksX2_looksInto_1 12 rfl rfl)
theorem dX2_looksInto_35 : decode cX2_looksInto 35 = .ok (.invokevirtual 101, 3) := dk_182 0 101 (dk_at dksX2_looksInto_1 13 rfl rfl)
theorem dX2_looksInto_38 : decode cX2_looksInto 38 = .ok (.iconst (-1), 1) := dk_2 (dk_at dksX2_looksInto_1 16 rfl rfl)
theorem dX2_looksInto_39 : decode cX2_looksInto 39 = .ok (.if_icmp .ne 7, 3) := dk_160 0 7 (dk_at dksX2_looksInto_1 17 rfl rfl)
theorem dX2_looksInto_42 : decode cX2_looksInto 42 = .ok (.iconst 1, 1) := dk_4 (dk_at dksX2_looksInto_1 20 rfl rfl)
theorem dX2_looksInto_43 : decode cX2_looksInto 43 = .ok (.goto 4, 3) := dk_167 0 4 (dk_at dksX2_looksInto_1 21 rfl rfl)
theorem dX2_looksInto_46 : decode cX2_looksInto 46 = .ok (.iconst 0, 1) := dk_3 (dk_at dksX2_looksInto_2 0 rfl rfl)
theorem dX2_looksInto_47 : decode cX2_looksInto 47 = .ok (.ireturn, 1) := dk_172 (dk_at dksX2_looksInto_2 1 rfl rfl)
abbrev cX2_distance : ByteArray := prog_6_method_9_code
def yX2_distance : MethodName := ⟨RX2, "distance", "(II)I"⟩
def dkwX2_distance_2 : List UInt8 := [172]
abbrev dktX2_distance_2 : List UInt8 := dkwX2_distance_2 ++ []
def dkwX2_distance_1 : List UInt8 := [180, 0, 24, 27, 50, 180, 0, 69, 42, 180, 0, 24, 28, 50, 180, 0, 69, 100, 184, 0, 76, 184, 0, 82]
abbrev dktX2_distance_1 : List UInt8 := dkwX2_distance_1 ++ dktX2_distance_2
def dkwX2_distance_0 : List UInt8 := [42, 180, 0, 24, 27, 50, 180, 0, 66, 42, 180, 0, 24, 28, 50, 180, 0, 66, 100, 184, 0, 76, 42]
abbrev dktX2_distance_0 : List UInt8 := dkwX2_distance_0 ++ dktX2_distance_1
theorem dksX2_distance_0 : cX2_distance.data.toList.drop 0 = dktX2_distance_0 := by decide +kernel
theorem dksX2_distance_1 : cX2_distance.data.toList.drop 23 = dktX2_distance_1 := dk_seg dksX2_distance_0 23 rfl rfl
theorem dksX2_distance_2 : cX2_distance.data.toList.drop 47 = dktX2_distance_2 := dk_seg dksX2_distance_1 24 rfl rfl
theorem dX2_distance_0 : decode cX2_distance 0 = .ok (.aload_n 0, 1) := dk_42 (dk_at dksX2_distance_0 0 rfl rfl)
theorem dX2_distance_1 : decode cX2_distance 1 = .ok (.getfield 24, 3) := dk_180 0 24 (dk_at dksX2_distance_0 1 rfl rfl)
theorem dX2_distance_4 : decode cX2_distance 4 = .ok (.iload_n 1, 1) := dk_27 (dk_at dksX2_distance_0 4 rfl rfl)
theorem dX2_distance_5 : decode cX2_distance 5 = .ok (.aaload, 1) := dk_50 (dk_at dksX2_distance_0 5 rfl rfl)
theorem dX2_distance_6 : decode cX2_distance 6 = .ok (.getfield 66, 3) := dk_180 0 66 (dk_at dksX2_distance_0 6 rfl rfl)
theorem dX2_distance_9 : decode cX2_distance 9 = .ok (.aload_n 0, 1) := dk_42 (dk_at dksX2_distance_0 9 rfl rfl)
theorem dX2_distance_10 : decode cX2_distance 10 = .ok (.getfield 24, 3) := dk_180 0 24 (dk_at dksX2_distance_0 10 rfl rfl)
theorem dX2_distance_13 : decode cX2_distance 13 = .ok (.iload_n 2, 1) := dk_28 (dk_at dksX2_distance_0 13 rfl rfl)
theorem dX2_distance_14 : decode cX2_distance 14 = .ok (.aaload, 1) := dk_50 (dk_at dksX2_distance_0 14 rfl rfl)
theorem dX2_distance_15 : decode cX2_distance 15 = .ok (.getfield 66, 3) := dk_180 0 66 (dk_at dksX2_distance_0 15 rfl rfl)
theorem dX2_distance_18 : decode cX2_distance 18 = .ok (.isub, 1) := dk_100 (dk_at dksX2_distance_0 18 rfl rfl)
theorem dX2_distance_19 : decode cX2_distance 19 = .ok (.invokestatic 76, 3) := dk_184 0 76 (dk_at dksX2_distance_0 19 rfl rfl)
theorem dX2_distance_22 : decode cX2_distance 22 = .ok (.aload_n 0, 1) := dk_42 (dk_at dksX2_distance_0 22 rfl rfl)
theorem dX2_distance_23 : decode cX2_distance 23 = .ok (.getfield 24, 3) := dk_180 0 24 (dk_at dksX2_distance_1 0 rfl rfl)
theorem dX2_distance_26 : decode cX2_distance 26 = .ok (.iload_n 1, 1) := dk_27 (dk_at dksX2_distance_1 3 rfl rfl)
theorem dX2_distance_27 : decode cX2_distance 27 = .ok (.aaload, 1) := dk_50 (dk_at dksX2_distance_1 4 rfl rfl)
theorem dX2_distance_28 : decode cX2_distance 28 = .ok (.getfield 69, 3) := dk_180 0 69 (dk_at dksX2_distance_1 5 rfl rfl)
theorem dX2_distance_31 : decode cX2_distance 31 = .ok (.aload_n 0, 1) := dk_42 (dk_at dksX2_distance_1 8 rfl rfl)
theorem dX2_distance_32 : decode cX2_distance 32 = .ok (.getfield 24, 3) := dk_180 0 24 (dk_at dksX2_distance_1 9 rfl rfl)
theorem dX2_distance_35 : decode cX2_distance 35 = .ok (.iload_n 2, 1) := dk_28 (dk_at dksX2_distance_1 12 rfl rfl)
theorem dX2_distance_36 : decode cX2_distance 36 = .ok (.aaload, 1) := dk_50 (dk_at dksX2_distance_1 13 rfl rfl)
theorem dX2_distance_37 : decode cX2_distance 37 = .ok (.getfield 69, 3) := dk_180 0 69 (dk_at dksX2_distance_1 14 rfl rfl)
theorem dX2_distance_40 : decode cX2_distance 40 = .ok (.isub, 1) := dk_100 (dk_at dksX2_distance_1 17 rfl rfl)
theorem dX2_distance_41 : decode cX2_distance 41 = .ok (.invokestatic 76, 3) := dk_184 0 76 (dk_at dksX2_distance_1 18 rfl rfl)
theorem dX2_distance_44 : decode cX2_distance 44 = .ok (.invokestatic 82, 3) := dk_184 0 82 (dk_at dksX2_distance_1 21 rfl rfl)
theorem dX2_distance_47 : decode cX2_distance 47 = .ok (.ireturn, 1) := dk_172 (dk_at dksX2_distance_2 0 rfl rfl)
abbrev cX2_bars : ByteArray := prog_6_method_12_code
def yX2_bars : MethodName := ⟨RX2, "bars", "(II)I"⟩
def dkwX2_bars_3 : List UInt8 := [27, 28, 29, 182, 0, 94, 153, 0, 6, 21, 4, 172, 132, 4, 1, 167, 255, 217, 2, 172]
abbrev dktX2_bars_3 : List UInt8 := dkwX2_bars_3 ++ []
def dkwX2_bars_2 : List UInt8 := [21, 4, 42, 180, 0, 35, 162, 0, 36, 21, 4, 27, 159, 0, 24, 21, 4, 28, 159, 0, 18, 42, 21, 4]
abbrev dktX2_bars_2 : List UInt8 := dkwX2_bars_2 ++ dktX2_bars_3
def dkwX2_bars_1 : List UInt8 := [46, 167, 0, 18, 42, 180, 0, 24, 27, 50, 42, 180, 0, 28, 27, 46, 182, 0, 91, 62, 3, 54, 4]
abbrev dktX2_bars_1 : List UInt8 := dkwX2_bars_1 ++ dktX2_bars_2
def dkwX2_bars_0 : List UInt8 := [42, 180, 0, 24, 27, 50, 42, 180, 0, 28, 27, 46, 182, 0, 91, 2, 160, 0, 12, 42, 180, 0, 28, 27]
abbrev dktX2_bars_0 : List UInt8 := dkwX2_bars_0 ++ dktX2_bars_1
theorem dksX2_bars_0 : cX2_bars.data.toList.drop 0 = dktX2_bars_0 := by decide +kernel
theorem dksX2_bars_1 : cX2_bars.data.toList.drop 24 = dktX2_bars_1 := dk_seg dksX2_bars_0 24 rfl rfl
theorem dksX2_bars_2 : cX2_bars.data.toList.drop 47 = dktX2_bars_2 := dk_seg dksX2_bars_1 23 rfl rfl
theorem dksX2_bars_3 : cX2_bars.data.toList.drop 71 = dktX2_bars_3 := dk_seg dksX2_bars_2 24 rfl rfl
theorem dX2_bars_0 : decode cX2_bars 0 = .ok (.aload_n 0, 1) := dk_42 (dk_at dksX2_bars_0 0 rfl rfl)
theorem dX2_bars_1 : decode cX2_bars 1 = .ok (.getfield 24, 3) := dk_180 0 24 (dk_at dksX2_bars_0 1 rfl rfl)
theorem dX2_bars_4 : decode cX2_bars 4 = .ok (.iload_n 1, 1) := dk_27 (dk_at dksX2_bars_0 4 rfl rfl)
theorem dX2_bars_5 : decode cX2_bars 5 = .ok (.aaload, 1) := dk_50 (dk_at dksX2_bars_0 5 rfl rfl)
theorem dX2_bars_6 : decode cX2_bars 6 = .ok (.aload_n 0, 1) := dk_42 (dk_at dksX2_bars_0 6 rfl rfl)
theorem dX2_bars_7 : decode cX2_bars 7 = .ok (.getfield 28, 3) := dk_180 0 28 (dk_at dksX2_bars_0 7 rfl rfl)
theorem dX2_bars_10 : decode cX2_bars 10 = .ok (.iload_n 1, 1) := dk_27 (dk_at dksX2_bars_0 10 rfl rfl)
theorem dX2_bars_11 : decode cX2_bars 11 = .ok (.iaload, 1) := dk_46 (dk_at dksX2_bars_0 11 rfl rfl)
theorem dX2_bars_12 : decode cX2_bars 12 = .ok (.invokevirtual 91, 3) := dk_182 0 91 (dk_at dksX2_bars_0 12 rfl rfl)
theorem dX2_bars_15 : decode cX2_bars 15 = .ok (.iconst (-1), 1) := dk_2 (dk_at dksX2_bars_0 15 rfl rfl)
theorem dX2_bars_16 : decode cX2_bars 16 = .ok (.if_icmp .ne 12, 3) := dk_160 0 12 (dk_at dksX2_bars_0 16 rfl rfl)
theorem dX2_bars_19 : decode cX2_bars 19 = .ok (.aload_n 0, 1) := dk_42 (dk_at dksX2_bars_0 19 rfl rfl)
theorem dX2_bars_20 : decode cX2_bars 20 = .ok (.getfield 28, 3) := dk_180 0 28 (dk_at dksX2_bars_0 20 rfl rfl)
theorem dX2_bars_23 : decode cX2_bars 23 = .ok (.iload_n 1, 1) := dk_27 (dk_at dksX2_bars_0 23 rfl rfl)
theorem dX2_bars_24 : decode cX2_bars 24 = .ok (.iaload, 1) := dk_46 (dk_at dksX2_bars_1 0 rfl rfl)
theorem dX2_bars_25 : decode cX2_bars 25 = .ok (.goto 18, 3) := dk_167 0 18 (dk_at dksX2_bars_1 1 rfl rfl)
theorem dX2_bars_28 : decode cX2_bars 28 = .ok (.aload_n 0, 1) := dk_42 (dk_at dksX2_bars_1 4 rfl rfl)
theorem dX2_bars_29 : decode cX2_bars 29 = .ok (.getfield 24, 3) := dk_180 0 24 (dk_at dksX2_bars_1 5 rfl rfl)
theorem dX2_bars_32 : decode cX2_bars 32 = .ok (.iload_n 1, 1) := dk_27 (dk_at dksX2_bars_1 8 rfl rfl)
theorem dX2_bars_33 : decode cX2_bars 33 = .ok (.aaload, 1) := dk_50 (dk_at dksX2_bars_1 9 rfl rfl)
theorem dX2_bars_34 : decode cX2_bars 34 = .ok (.aload_n 0, 1) := dk_42 (dk_at dksX2_bars_1 10 rfl rfl)
theorem dX2_bars_35 : decode cX2_bars 35 = .ok (.getfield 28, 3) := dk_180 0 28 (dk_at dksX2_bars_1 11 rfl rfl)
theorem dX2_bars_38 : decode cX2_bars 38 = .ok (.iload_n 1, 1) := dk_27 (dk_at dksX2_bars_1 14 rfl rfl)
theorem dX2_bars_39 : decode cX2_bars 39 = .ok (.iaload, 1) := dk_46 (dk_at dksX2_bars_1 15 rfl rfl)
theorem dX2_bars_40 : decode cX2_bars 40 = .ok (.invokevirtual 91, 3) := dk_182 0 91 (dk_at dksX2_bars_1 16 rfl rfl)
theorem dX2_bars_43 : decode cX2_bars 43 = .ok (.istore_n 3, 1) := dk_62 (dk_at dksX2_bars_1 19 rfl rfl)
theorem dX2_bars_44 : decode cX2_bars 44 = .ok (.iconst 0, 1) := dk_3 (dk_at dksX2_bars_1 20 rfl rfl)
theorem dX2_bars_45 : decode cX2_bars 45 = .ok (.istore 4, 2) := dk_54 4 (dk_at dksX2_bars_1 21 rfl rfl)
theorem dX2_bars_47 : decode cX2_bars 47 = .ok (.iload 4, 2) := dk_21 4 (dk_at dksX2_bars_2 0 rfl rfl)
theorem dX2_bars_49 : decode cX2_bars 49 = .ok (.aload_n 0, 1) := dk_42 (dk_at dksX2_bars_2 2 rfl rfl)
theorem dX2_bars_50 : decode cX2_bars 50 = .ok (.getfield 35, 3) := dk_180 0 35 (dk_at dksX2_bars_2 3 rfl rfl)
theorem dX2_bars_53 : decode cX2_bars 53 = .ok (.if_icmp .ge 36, 3) := dk_162 0 36 (dk_at dksX2_bars_2 6 rfl rfl)
theorem dX2_bars_56 : decode cX2_bars 56 = .ok (.iload 4, 2) := dk_21 4 (dk_at dksX2_bars_2 9 rfl rfl)
theorem dX2_bars_58 : decode cX2_bars 58 = .ok (.iload_n 1, 1) := dk_27 (dk_at dksX2_bars_2 11 rfl rfl)
theorem dX2_bars_59 : decode cX2_bars 59 = .ok (.if_icmp .eq 24, 3) := dk_159 0 24 (dk_at dksX2_bars_2 12 rfl rfl)
theorem dX2_bars_62 : decode cX2_bars 62 = .ok (.iload 4, 2) := dk_21 4 (dk_at dksX2_bars_2 15 rfl rfl)
theorem dX2_bars_64 : decode cX2_bars 64 = .ok (.iload_n 2, 1) := dk_28 (dk_at dksX2_bars_2 17 rfl rfl)
theorem dX2_bars_65 : decode cX2_bars 65 = .ok (.if_icmp .eq 18, 3) := dk_159 0 18 (dk_at dksX2_bars_2 18 rfl rfl)
theorem dX2_bars_68 : decode cX2_bars 68 = .ok (.aload_n 0, 1) := dk_42 (dk_at dksX2_bars_2 21 rfl rfl)
theorem dX2_bars_69 : decode cX2_bars 69 = .ok (.iload 4, 2) := dk_21 4 (dk_at dksX2_bars_2 22 rfl rfl)
theorem dX2_bars_71 : decode cX2_bars 71 = .ok (.iload_n 1, 1) := dk_27 (dk_at dksX2_bars_3 0 rfl rfl)
theorem dX2_bars_72 : decode cX2_bars 72 = .ok (.iload_n 2, 1) := dk_28 (dk_at dksX2_bars_3 1 rfl rfl)
theorem dX2_bars_73 : decode cX2_bars 73 = .ok (.iload_n 3, 1) := dk_29 (dk_at dksX2_bars_3 2 rfl rfl)
theorem dX2_bars_74 : decode cX2_bars 74 = .ok (.invokevirtual 94, 3) := dk_182 0 94 (dk_at dksX2_bars_3 3 rfl rfl)
theorem dX2_bars_77 : decode cX2_bars 77 = .ok (.ifCond .eq 6, 3) := dk_153 0 6 (dk_at dksX2_bars_3 6 rfl rfl)
theorem dX2_bars_80 : decode cX2_bars 80 = .ok (.iload 4, 2) := dk_21 4 (dk_at dksX2_bars_3 9 rfl rfl)
theorem dX2_bars_82 : decode cX2_bars 82 = .ok (.ireturn, 1) := dk_172 (dk_at dksX2_bars_3 11 rfl rfl)
theorem dX2_bars_83 : decode cX2_bars 83 = .ok (.iinc 4 1, 3) := dk_132 4 1 (dk_at dksX2_bars_3 12 rfl rfl)
theorem dX2_bars_86 : decode cX2_bars 86 = .ok (.goto (-39), 3) := dk_167 255 217 (dk_at dksX2_bars_3 15 rfl rfl)
theorem dX2_bars_89 : decode cX2_bars 89 = .ok (.iconst (-1), 1) := dk_2 (dk_at dksX2_bars_3 18 rfl rfl)
theorem dX2_bars_90 : decode cX2_bars 90 = .ok (.ireturn, 1) := dk_172 (dk_at dksX2_bars_3 19 rfl rfl)
abbrev cX2_isInWay : ByteArray := prog_6_method_10_code
def yX2_isInWay : MethodName := ⟨RX2, "isInWay", "(IIII)Z"⟩
def dkwX2_isInWay_7 : List UInt8 := [104, 96, 164, 0, 7, 4, 167, 0, 4, 3, 172, 132, 8, 1, 167, 255, 139, 3, 172]
abbrev dktX2_isInWay_7 : List UInt8 := dkwX2_isInWay_7 ++ []
def dkwX2_isInWay_6 : List UInt8 := [42, 27, 182, 0, 89, 21, 7, 104, 21, 4, 21, 7, 21, 8, 100, 104, 42, 180, 0, 28, 29, 46, 21, 8]
abbrev dktX2_isInWay_6 : List UInt8 := dkwX2_isInWay_6 ++ dktX2_isInWay_7
def dkwX2_isInWay_5 : List UInt8 := [21, 6, 21, 7, 108, 21, 8, 104, 96, 160, 0, 7, 4, 167, 0, 4, 3, 54, 9, 21, 9, 153, 0, 38]
abbrev dktX2_isInWay_5 : List UInt8 := dkwX2_isInWay_5 ++ dktX2_isInWay_6
def dkwX2_isInWay_4 : List UInt8 := [104, 96, 160, 0, 37, 42, 180, 0, 24, 27, 50, 180, 0, 69, 42, 180, 0, 24, 28, 50, 180, 0, 69]
abbrev dktX2_isInWay_4 : List UInt8 := dkwX2_isInWay_4 ++ dktX2_isInWay_5
def dkwX2_isInWay_3 : List UInt8 := [180, 0, 24, 27, 50, 180, 0, 66, 42, 180, 0, 24, 28, 50, 180, 0, 66, 21, 5, 21, 7, 108, 21, 8]
abbrev dktX2_isInWay_3 : List UInt8 := dkwX2_isInWay_3 ++ dktX2_isInWay_4
def dkwX2_isInWay_2 : List UInt8 := [184, 0, 76, 21, 6, 184, 0, 76, 184, 0, 86, 54, 7, 4, 54, 8, 21, 8, 21, 7, 162, 0, 116, 42]
abbrev dktX2_isInWay_2 : List UInt8 := dkwX2_isInWay_2 ++ dktX2_isInWay_3
def dkwX2_isInWay_1 : List UInt8 := [180, 0, 24, 29, 50, 180, 0, 69, 42, 180, 0, 24, 28, 50, 180, 0, 69, 100, 54, 6, 21, 5]
abbrev dktX2_isInWay_1 : List UInt8 := dkwX2_isInWay_1 ++ dktX2_isInWay_2
def dkwX2_isInWay_0 : List UInt8 := [42, 180, 0, 24, 29, 50, 180, 0, 66, 42, 180, 0, 24, 28, 50, 180, 0, 66, 100, 54, 5, 42]
abbrev dktX2_isInWay_0 : List UInt8 := dkwX2_isInWay_0 ++ dktX2_isInWay_1
theorem dksX2_isInWay_0 : cX2_isInWay.data.toList.drop 0 = dktX2_isInWay_0 := by decide +kernel
theorem dksX2_isInWay_1 : cX2_isInWay.data.toList.drop 22 = dktX2_isInWay_1 := dk_seg dksX2_isInWay_0 22 rfl rfl
theorem dksX2_isInWay_2 : cX2_isInWay.data.toList.drop 44 = dktX2_isInWay_2 := dk_seg dksX2_isInWay_1 22 rfl rfl
theorem dksX2_isInWay_3 : cX2_isInWay.data.toList.drop 68 = dktX2_isInWay_3 := dk_seg dksX2_isInWay_2 24 rfl rfl
theorem dksX2_isInWay_4 : cX2_isInWay.data.toList.drop 92 = dktX2_isInWay_4 := dk_seg dksX2_isInWay_3 24 rfl rfl
theorem dksX2_isInWay_5 : cX2_isInWay.data.toList.drop 115 = dktX2_isInWay_5 := dk_seg dksX2_isInWay_4 23 rfl rfl
theorem dksX2_isInWay_6 : cX2_isInWay.data.toList.drop 139 = dktX2_isInWay_6 := dk_seg dksX2_isInWay_5 24 rfl rfl
theorem dksX2_isInWay_7 : cX2_isInWay.data.toList.drop 163 = dktX2_isInWay_7 := dk_seg dksX2_isInWay_6 24 rfl rfl
theorem dX2_isInWay_0 : decode cX2_isInWay 0 = .ok (.aload_n 0, 1) := dk_42 (dk_at dksX2_isInWay_0 0 rfl rfl)
theorem dX2_isInWay_1 : decode cX2_isInWay 1 = .ok (.getfield 24, 3) := dk_180 0 24 (dk_at dksX2_isInWay_0 1 rfl rfl)
theorem dX2_isInWay_4 : decode cX2_isInWay 4 = .ok (.iload_n 3, 1) := dk_29 (dk_at dksX2_isInWay_0 4 rfl rfl)
theorem dX2_isInWay_5 : decode cX2_isInWay 5 = .ok (.aaload, 1) := dk_50 (dk_at dksX2_isInWay_0 5 rfl rfl)
theorem dX2_isInWay_6 : decode cX2_isInWay 6 = .ok (.getfield 66, 3) := dk_180 0 66 (dk_at dksX2_isInWay_0 6 rfl rfl)
theorem dX2_isInWay_9 : decode cX2_isInWay 9 = .ok (.aload_n 0, 1) := dk_42 (dk_at dksX2_isInWay_0 9 rfl rfl)
theorem dX2_isInWay_10 : decode cX2_isInWay 10 = .ok (.getfield 24, 3) := dk_180 0 24 (dk_at dksX2_isInWay_0 10 rfl rfl)
theorem dX2_isInWay_13 : decode cX2_isInWay 13 = .ok (.iload_n 2, 1) := dk_28 (dk_at dksX2_isInWay_0 13 rfl rfl)
theorem dX2_isInWay_14 : decode cX2_isInWay 14 = .ok (.aaload, 1) := dk_50 (dk_at dksX2_isInWay_0 14 rfl rfl)
theorem dX2_isInWay_15 : decode cX2_isInWay 15 = .ok (.getfield 66, 3) := dk_180 0 66 (dk_at dksX2_isInWay_0 15 rfl rfl)
theorem dX2_isInWay_18 : decode cX2_isInWay 18 = .ok (.isub, 1) := dk_100 (dk_at dksX2_isInWay_0 18 rfl rfl)
theorem dX2_isInWay_19 : decode cX2_isInWay 19 = .ok (.istore 5, 2) := dk_54 5 (dk_at dksX2_isInWay_0 19 rfl rfl)
theorem dX2_isInWay_21 : decode cX2_isInWay 21 = .ok (.aload_n 0, 1) := dk_42 (dk_at dksX2_isInWay_0 21 rfl rfl)
theorem dX2_isInWay_22 : decode cX2_isInWay 22 = .ok (.getfield 24, 3) := dk_180 0 24 (dk_at dksX2_isInWay_1 0 rfl rfl)
theorem dX2_isInWay_25 : decode cX2_isInWay 25 = .ok (.iload_n 3, 1) := dk_29 (dk_at dksX2_isInWay_1 3 rfl rfl)
theorem dX2_isInWay_26 : decode cX2_isInWay 26 = .ok (.aaload, 1) := dk_50 (dk_at dksX2_isInWay_1 4 rfl rfl)
theorem dX2_isInWay_27 : decode cX2_isInWay 27 = .ok (.getfield 69, 3) := dk_180 0 69 (dk_at dksX2_isInWay_1 5 rfl rfl)
theorem dX2_isInWay_30 : decode cX2_isInWay 30 = .ok (.aload_n 0, 1) := dk_42 (dk_at dksX2_isInWay_1 8 rfl rfl)
theorem dX2_isInWay_31 : decode cX2_isInWay 31 = .ok (.getfield 24, 3) := dk_180 0 24 (dk_at dksX2_isInWay_1 9 rfl rfl)
theorem dX2_isInWay_34 : decode cX2_isInWay 34 = .ok (.iload_n 2, 1) := dk_28 (dk_at dksX2_isInWay_1 12 rfl rfl)
theorem dX2_isInWay_35 : decode cX2_isInWay 35 = .ok (.aaload, 1) := dk_50 (dk_at dksX2_isInWay_1 13 rfl rfl)
theorem dX2_isInWay_36 : decode cX2_isInWay 36 = .ok (.getfield 69, 3) := dk_180 0 69 (dk_at dksX2_isInWay_1 14 rfl rfl)
theorem dX2_isInWay_39 : decode cX2_isInWay 39 = .ok (.isub, 1) := dk_100 (dk_at dksX2_isInWay_1 17 rfl rfl)
theorem dX2_isInWay_40 : decode cX2_isInWay 40 = .ok (.istore 6, 2) := dk_54 6 (dk_at dksX2_isInWay_1 18 rfl rfl)
theorem dX2_isInWay_42 : decode cX2_isInWay 42 = .ok (.iload 5, 2) := dk_21 5 (dk_at dksX2_isInWay_1 20 rfl rfl)
theorem dX2_isInWay_44 : decode cX2_isInWay 44 = .ok (.invokestatic 76, 3) := dk_184 0 76 (dk_at dksX2_isInWay_2 0 rfl rfl)
theorem dX2_isInWay_47 : decode cX2_isInWay 47 = .ok (.iload 6, 2) := dk_21 6 (dk_at dksX2_isInWay_2 3 rfl rfl)
theorem dX2_isInWay_49 : decode cX2_isInWay 49 = .ok (.invokestatic 76, 3) := dk_184 0 76 (dk_at dksX2_isInWay_2 5 rfl rfl)
theorem dX2_isInWay_52 : decode cX2_isInWay 52 = .ok (.invokestatic 86, 3) := dk_184 0 86 (dk_at dksX2_isInWay_2 8 rfl rfl)
theorem dX2_isInWay_55 : decode cX2_isInWay 55 = .ok (.istore 7, 2) := dk_54 7 (dk_at dksX2_isInWay_2 11 rfl rfl)
theorem dX2_isInWay_57 : decode cX2_isInWay 57 = .ok (.iconst 1, 1) := dk_4 (dk_at dksX2_isInWay_2 13 rfl rfl)
theorem dX2_isInWay_58 : decode cX2_isInWay 58 = .ok (.istore 8, 2) := dk_54 8 (dk_at dksX2_isInWay_2 14 rfl rfl)
theorem dX2_isInWay_60 : decode cX2_isInWay 60 = .ok (.iload 8, 2) := dk_21 8 (dk_at dksX2_isInWay_2 16 rfl rfl)
theorem dX2_isInWay_62 : decode cX2_isInWay 62 = .ok (.iload 7, 2) := dk_21 7 (dk_at dksX2_isInWay_2 18 rfl rfl)
theorem dX2_isInWay_64 : decode cX2_isInWay 64 = .ok (.if_icmp .ge 116, 3) := dk_162 0 116 (dk_at dksX2_isInWay_2 20 rfl rfl)
theorem dX2_isInWay_67 : decode cX2_isInWay 67 = .ok (.aload_n 0, 1) := dk_42 (dk_at dksX2_isInWay_2 23 rfl rfl)
theorem dX2_isInWay_68 : decode cX2_isInWay 68 = .ok (.getfield 24, 3) := dk_180 0 24 (dk_at dksX2_isInWay_3 0 rfl rfl)
theorem dX2_isInWay_71 : decode cX2_isInWay 71 = .ok (.iload_n 1, 1) := dk_27 (dk_at dksX2_isInWay_3 3 rfl rfl)
theorem dX2_isInWay_72 : decode cX2_isInWay 72 = .ok (.aaload, 1) := dk_50 (dk_at dksX2_isInWay_3 4 rfl rfl)
theorem dX2_isInWay_73 : decode cX2_isInWay 73 = .ok (.getfield 66, 3) := dk_180 0 66 (dk_at dksX2_isInWay_3 5 rfl rfl)
theorem dX2_isInWay_76 : decode cX2_isInWay 76 = .ok (.aload_n 0, 1) := dk_42 (dk_at dksX2_isInWay_3 8 rfl rfl)
theorem dX2_isInWay_77 : decode cX2_isInWay 77 = .ok (.getfield 24, 3) := dk_180 0 24 (dk_at dksX2_isInWay_3 9 rfl rfl)
theorem dX2_isInWay_80 : decode cX2_isInWay 80 = .ok (.iload_n 2, 1) := dk_28 (dk_at dksX2_isInWay_3 12 rfl rfl)
theorem dX2_isInWay_81 : decode cX2_isInWay 81 = .ok (.aaload, 1) := dk_50 (dk_at dksX2_isInWay_3 13 rfl rfl)
theorem dX2_isInWay_82 : decode cX2_isInWay 82 = .ok (.getfield 66, 3) := dk_180 0 66 (dk_at dksX2_isInWay_3 14 rfl rfl)
theorem dX2_isInWay_85 : decode cX2_isInWay 85 = .ok (.iload 5, 2) := dk_21 5 (dk_at dksX2_isInWay_3 17 rfl rfl)
theorem dX2_isInWay_87 : decode cX2_isInWay 87 = .ok (.iload 7, 2) := dk_21 7 (dk_at dksX2_isInWay_3 19 rfl rfl)
theorem dX2_isInWay_89 : decode cX2_isInWay 89 = .ok (.idiv, 1) := dk_108 (dk_at dksX2_isInWay_3 21 rfl rfl)
theorem dX2_isInWay_90 : decode cX2_isInWay 90 = .ok (.iload 8, 2) := dk_21 8 (dk_at dksX2_isInWay_3 22 rfl rfl)
theorem dX2_isInWay_92 : decode cX2_isInWay 92 = .ok (.imul, 1) := dk_104 (dk_at dksX2_isInWay_4 0 rfl rfl)
theorem dX2_isInWay_93 : decode cX2_isInWay 93 = .ok (.iadd, 1) := dk_96 (dk_at dksX2_isInWay_4 1 rfl rfl)
theorem dX2_isInWay_94 : decode cX2_isInWay 94 = .ok (.if_icmp .ne 37, 3) := dk_160 0 37 (dk_at dksX2_isInWay_4 2 rfl rfl)
theorem dX2_isInWay_97 : decode cX2_isInWay 97 = .ok (.aload_n 0, 1) := dk_42 (dk_at dksX2_isInWay_4 5 rfl rfl)
theorem dX2_isInWay_98 : decode cX2_isInWay 98 = .ok (.getfield 24, 3) := dk_180 0 24 (dk_at dksX2_isInWay_4 6 rfl rfl)
theorem dX2_isInWay_101 : decode cX2_isInWay 101 = .ok (.iload_n 1, 1) := dk_27 (dk_at dksX2_isInWay_4 9 rfl rfl)
theorem dX2_isInWay_102 : decode cX2_isInWay 102 = .ok (.aaload, 1) := dk_50 (dk_at dksX2_isInWay_4 10 rfl rfl)
theorem dX2_isInWay_103 : decode cX2_isInWay 103 = .ok (.getfield 69, 3) := dk_180 0 69 (dk_at dksX2_isInWay_4 11 rfl rfl)
theorem dX2_isInWay_106 : decode cX2_isInWay 106 = .ok (.aload_n 0, 1) := dk_42 (dk_at dksX2_isInWay_4 14 rfl rfl)
theorem dX2_isInWay_107 : decode cX2_isInWay 107 = .ok (.getfield 24, 3) := dk_180 0 24 (dk_at dksX2_isInWay_4 15 rfl rfl)
theorem dX2_isInWay_110 : decode cX2_isInWay 110 = .ok (.iload_n 2, 1) := dk_28 (dk_at dksX2_isInWay_4 18 rfl rfl)
theorem dX2_isInWay_111 : decode cX2_isInWay 111 = .ok (.aaload, 1) := dk_50 (dk_at dksX2_isInWay_4 19 rfl rfl)
theorem dX2_isInWay_112 : decode cX2_isInWay 112 = .ok (.getfield 69, 3) := dk_180 0 69 (dk_at dksX2_isInWay_4 20 rfl rfl)
theorem dX2_isInWay_115 : decode cX2_isInWay 115 = .ok (.iload 6, 2) := dk_21 6 (dk_at dksX2_isInWay_5 0 rfl rfl)
theorem dX2_isInWay_117 : decode cX2_isInWay 117 = .ok (.iload 7, 2) := dk_21 7 (dk_at dksX2_isInWay_5 2 rfl rfl)
theorem dX2_isInWay_119 : decode cX2_isInWay 119 = .ok (.idiv, 1) := dk_108 (dk_at dksX2_isInWay_5 4 rfl rfl)
theorem dX2_isInWay_120 : decode cX2_isInWay 120 = .ok (.iload 8, 2) := dk_21 8 (dk_at dksX2_isInWay_5 5 rfl rfl)
theorem dX2_isInWay_122 : decode cX2_isInWay 122 = .ok (.imul, 1) := dk_104 (dk_at dksX2_isInWay_5 7 rfl rfl)
theorem dX2_isInWay_123 : decode cX2_isInWay 123 = .ok (.iadd, 1) := dk_96 (dk_at dksX2_isInWay_5 8 rfl rfl)
theorem dX2_isInWay_124 : decode cX2_isInWay 124 = .ok (.if_icmp .ne 7, 3) := dk_160 0 7 (dk_at dksX2_isInWay_5 9 rfl rfl)
theorem dX2_isInWay_127 : decode cX2_isInWay 127 = .ok (.iconst 1, 1) := dk_4 (dk_at dksX2_isInWay_5 12 rfl rfl)
theorem dX2_isInWay_128 : decode cX2_isInWay 128 = .ok (.goto 4, 3) := dk_167 0 4 (dk_at dksX2_isInWay_5 13 rfl rfl)
theorem dX2_isInWay_131 : decode cX2_isInWay 131 = .ok (.iconst 0, 1) := dk_3 (dk_at dksX2_isInWay_5 16 rfl rfl)
theorem dX2_isInWay_132 : decode cX2_isInWay 132 = .ok (.istore 9, 2) := dk_54 9 (dk_at dksX2_isInWay_5 17 rfl rfl)
theorem dX2_isInWay_134 : decode cX2_isInWay 134 = .ok (.iload 9, 2) := dk_21 9 (dk_at dksX2_isInWay_5 19 rfl rfl)
theorem dX2_isInWay_136 : decode cX2_isInWay 136 = .ok (.ifCond .eq 38, 3) := dk_153 0 38 (dk_at dksX2_isInWay_5 21 rfl rfl)
theorem dX2_isInWay_139 : decode cX2_isInWay 139 = .ok (.aload_n 0, 1) := dk_42 (dk_at dksX2_isInWay_6 0 rfl rfl)
theorem dX2_isInWay_140 : decode cX2_isInWay 140 = .ok (.iload_n 1, 1) := dk_27 (dk_at dksX2_isInWay_6 1 rfl rfl)
theorem dX2_isInWay_141 : decode cX2_isInWay 141 = .ok (.invokevirtual 89, 3) := dk_182 0 89 (dk_at dksX2_isInWay_6 2 rfl rfl)
theorem dX2_isInWay_144 : decode cX2_isInWay 144 = .ok (.iload 7, 2) := dk_21 7 (dk_at dksX2_isInWay_6 5 rfl rfl)
theorem dX2_isInWay_146 : decode cX2_isInWay 146 = .ok (.imul, 1) := dk_104 (dk_at dksX2_isInWay_6 7 rfl rfl)
theorem dX2_isInWay_147 : decode cX2_isInWay 147 = .ok (.iload 4, 2) := dk_21 4 (dk_at dksX2_isInWay_6 8 rfl rfl)
theorem dX2_isInWay_149 : decode cX2_isInWay 149 = .ok (.iload 7, 2) := dk_21 7 (dk_at dksX2_isInWay_6 10 rfl rfl)
theorem dX2_isInWay_151 : decode cX2_isInWay 151 = .ok (.iload 8, 2) := dk_21 8 (dk_at dksX2_isInWay_6 12 rfl rfl)
theorem dX2_isInWay_153 : decode cX2_isInWay 153 = .ok (.isub, 1) := dk_100 (dk_at dksX2_isInWay_6 14 rfl rfl)
theorem dX2_isInWay_154 : decode cX2_isInWay 154 = .ok (.imul, 1) := dk_104 (dk_at dksX2_isInWay_6 15 rfl rfl)
theorem dX2_isInWay_155 : decode cX2_isInWay 155 = .ok (.aload_n 0, 1) := dk_42 (dk_at dksX2_isInWay_6 16 rfl rfl)
theorem dX2_isInWay_156 : decode cX2_isInWay 156 = .ok (.getfield 28, 3) := dk_180 0 28 (dk_at dksX2_isInWay_6 17 rfl rfl)
theorem dX2_isInWay_159 : decode cX2_isInWay 159 = .ok (.iload_n 3, 1) := dk_29 (dk_at dksX2_isInWay_6 20 rfl rfl)
theorem dX2_isInWay_160 : decode cX2_isInWay 160 = .ok (.iaload, 1) := dk_46 (dk_at dksX2_isInWay_6 21 rfl rfl)
theorem dX2_isInWay_161 : decode cX2_isInWay 161 = .ok (.iload 8, 2) := dk_21 8 (dk_at dksX2_isInWay_6 22 rfl rfl)
theorem dX2_isInWay_163 : decode cX2_isInWay 163 = .ok (.imul, 1) := dk_104 (dk_at dksX2_isInWay_7 0 rfl rfl)
theorem dX2_isInWay_164 : decode cX2_isInWay 164 = .ok (.iadd, 1) := dk_96 (dk_at dksX2_isInWay_7 1 rfl rfl)
theorem dX2_isInWay_165 : decode cX2_isInWay 165 = .ok (.if_icmp .le 7, 3) := dk_164 0 7 (dk_at dksX2_isInWay_7 2 rfl rfl)
theorem dX2_isInWay_168 : decode cX2_isInWay 168 = .ok (.iconst 1, 1) := dk_4 (dk_at dksX2_isInWay_7 5 rfl rfl)
theorem dX2_isInWay_169 : decode cX2_isInWay 169 = .ok (.goto 4, 3) := dk_167 0 4 (dk_at dksX2_isInWay_7 6 rfl rfl)
theorem dX2_isInWay_172 : decode cX2_isInWay 172 = .ok (.iconst 0, 1) := dk_3 (dk_at dksX2_isInWay_7 9 rfl rfl)
theorem dX2_isInWay_173 : decode cX2_isInWay 173 = .ok (.ireturn, 1) := dk_172 (dk_at dksX2_isInWay_7 10 rfl rfl)
theorem dX2_isInWay_174 : decode cX2_isInWay 174 = .ok (.iinc 8 1, 3) := dk_132 8 1 (dk_at dksX2_isInWay_7 11 rfl rfl)
theorem dX2_isInWay_177 : decode cX2_isInWay 177 = .ok (.goto (-117), 3) := dk_167 255 139 (dk_at dksX2_isInWay_7 14 rfl rfl)
theorem dX2_isInWay_180 : decode cX2_isInWay 180 = .ok (.iconst 0, 1) := dk_3 (dk_at dksX2_isInWay_7 17 rfl rfl)
theorem dX2_isInWay_181 : decode cX2_isInWay 181 = .ok (.ireturn, 1) := dk_172 (dk_at dksX2_isInWay_7 18 rfl rfl)
abbrev cX2_common : ByteArray := prog_6_method_11_code
def yX2_common : MethodName := ⟨RX2, "common", "(II)I"⟩
def dkwX2_common_0 : List UInt8 := [27, 154, 0, 7, 26, 167, 0, 10, 27, 26, 27, 112, 184, 0, 86, 172]
abbrev dktX2_common_0 : List UInt8 := dkwX2_common_0 ++ []
theorem dksX2_common_0 : cX2_common.data.toList.drop 0 = dktX2_common_0 := by decide +kernel
theorem dX2_common_0 : decode cX2_common 0 = .ok (.iload_n 1, 1) := dk_27 (dk_at dksX2_common_0 0 rfl rfl)
theorem dX2_common_1 : decode cX2_common 1 = .ok (.ifCond .ne 7, 3) := dk_154 0 7 (dk_at dksX2_common_0 1 rfl rfl)
theorem dX2_common_4 : decode cX2_common 4 = .ok (.iload_n 0, 1) := dk_26 (dk_at dksX2_common_0 4 rfl rfl)
theorem dX2_common_5 : decode cX2_common 5 = .ok (.goto 10, 3) := dk_167 0 10 (dk_at dksX2_common_0 5 rfl rfl)
theorem dX2_common_8 : decode cX2_common 8 = .ok (.iload_n 1, 1) := dk_27 (dk_at dksX2_common_0 8 rfl rfl)
theorem dX2_common_9 : decode cX2_common 9 = .ok (.iload_n 0, 1) := dk_26 (dk_at dksX2_common_0 9 rfl rfl)
theorem dX2_common_10 : decode cX2_common 10 = .ok (.iload_n 1, 1) := dk_27 (dk_at dksX2_common_0 10 rfl rfl)
theorem dX2_common_11 : decode cX2_common 11 = .ok (.irem, 1) := dk_112 (dk_at dksX2_common_0 11 rfl rfl)
theorem dX2_common_12 : decode cX2_common 12 = .ok (.invokestatic 86, 3) := dk_184 0 86 (dk_at dksX2_common_0 12 rfl rfl)
theorem dX2_common_15 : decode cX2_common 15 = .ok (.ireturn, 1) := dk_172 (dk_at dksX2_common_0 15 rfl rfl)
abbrev cX2_tall : ByteArray := prog_6_method_8_code
def yX2_tall : MethodName := ⟨RX2, "tall", "(I)I"⟩
def dkwX2_tall_0 : List UInt8 := [42, 180, 0, 24, 27, 50, 42, 180, 0, 28, 27, 46, 42, 180, 0, 9, 182, 0, 72, 172]
abbrev dktX2_tall_0 : List UInt8 := dkwX2_tall_0 ++ []
theorem dksX2_tall_0 : cX2_tall.data.toList.drop 0 = dktX2_tall_0 := by decide +kernel
theorem dX2_tall_0 : decode cX2_tall 0 = .ok (.aload_n 0, 1) := dk_42 (dk_at dksX2_tall_0 0 rfl rfl)
theorem dX2_tall_1 : decode cX2_tall 1 = .ok (.getfield 24, 3) := dk_180 0 24 (dk_at dksX2_tall_0 1 rfl rfl)
theorem dX2_tall_4 : decode cX2_tall 4 = .ok (.iload_n 1, 1) := dk_27 (dk_at dksX2_tall_0 4 rfl rfl)
theorem dX2_tall_5 : decode cX2_tall 5 = .ok (.aaload, 1) := dk_50 (dk_at dksX2_tall_0 5 rfl rfl)
theorem dX2_tall_6 : decode cX2_tall 6 = .ok (.aload_n 0, 1) := dk_42 (dk_at dksX2_tall_0 6 rfl rfl)
theorem dX2_tall_7 : decode cX2_tall 7 = .ok (.getfield 28, 3) := dk_180 0 28 (dk_at dksX2_tall_0 7 rfl rfl)
theorem dX2_tall_10 : decode cX2_tall 10 = .ok (.iload_n 1, 1) := dk_27 (dk_at dksX2_tall_0 10 rfl rfl)
theorem dX2_tall_11 : decode cX2_tall 11 = .ok (.iaload, 1) := dk_46 (dk_at dksX2_tall_0 11 rfl rfl)
theorem dX2_tall_12 : decode cX2_tall 12 = .ok (.aload_n 0, 1) := dk_42 (dk_at dksX2_tall_0 12 rfl rfl)
theorem dX2_tall_13 : decode cX2_tall 13 = .ok (.getfield 9, 3) := dk_180 0 9 (dk_at dksX2_tall_0 13 rfl rfl)
theorem dX2_tall_16 : decode cX2_tall 16 = .ok (.invokevirtual 72, 3) := dk_182 0 72 (dk_at dksX2_tall_0 16 rfl rfl)
theorem dX2_tall_19 : decode cX2_tall 19 = .ok (.ireturn, 1) := dk_172 (dk_at dksX2_tall_0 19 rfl rfl)
abbrev cX2_isRight : ByteArray := prog_6_method_17_code
def yX2_isRight : MethodName := ⟨RX2, "isRight", "(I)Z"⟩
def dkwX2_isRight_1 : List UInt8 := [3, 172]
abbrev dktX2_isRight_1 : List UInt8 := dkwX2_isRight_1 ++ []
def dkwX2_isRight_0 : List UInt8 := [42, 27, 182, 0, 119, 184, 0, 122, 42, 180, 0, 24, 27, 50, 182, 0, 127, 160, 0, 7, 4, 167, 0, 4]
abbrev dktX2_isRight_0 : List UInt8 := dkwX2_isRight_0 ++ dktX2_isRight_1
theorem dksX2_isRight_0 : cX2_isRight.data.toList.drop 0 = dktX2_isRight_0 := by decide +kernel
theorem dksX2_isRight_1 : cX2_isRight.data.toList.drop 24 = dktX2_isRight_1 := dk_seg dksX2_isRight_0 24 rfl rfl
theorem dX2_isRight_0 : decode cX2_isRight 0 = .ok (.aload_n 0, 1) := dk_42 (dk_at dksX2_isRight_0 0 rfl rfl)
theorem dX2_isRight_1 : decode cX2_isRight 1 = .ok (.iload_n 1, 1) := dk_27 (dk_at dksX2_isRight_0 1 rfl rfl)
theorem dX2_isRight_2 : decode cX2_isRight 2 = .ok (.invokevirtual 119, 3) := dk_182 0 119 (dk_at dksX2_isRight_0 2 rfl rfl)
theorem dX2_isRight_5 : decode cX2_isRight 5 = .ok (.invokestatic 122, 3) := dk_184 0 122 (dk_at dksX2_isRight_0 5 rfl rfl)
theorem dX2_isRight_8 : decode cX2_isRight 8 = .ok (.aload_n 0, 1) := dk_42 (dk_at dksX2_isRight_0 8 rfl rfl)
theorem dX2_isRight_9 : decode cX2_isRight 9 = .ok (.getfield 24, 3) := dk_180 0 24 (dk_at dksX2_isRight_0 9 rfl rfl)
theorem dX2_isRight_12 : decode cX2_isRight 12 = .ok (.iload_n 1, 1) := dk_27 (dk_at dksX2_isRight_0 12 rfl rfl)
theorem dX2_isRight_13 : decode cX2_isRight 13 = .ok (.aaload, 1) := dk_50 (dk_at dksX2_isRight_0 13 rfl rfl)
theorem dX2_isRight_14 : decode cX2_isRight 14 = .ok (.invokevirtual 127, 3) := dk_182 0 127 (dk_at dksX2_isRight_0 14 rfl rfl)
theorem dX2_isRight_17 : decode cX2_isRight 17 = .ok (.if_icmp .ne 7, 3) := dk_160 0 7 (dk_at dksX2_isRight_0 17 rfl rfl)
theorem dX2_isRight_20 : decode cX2_isRight 20 = .ok (.iconst 1, 1) := dk_4 (dk_at dksX2_isRight_0 20 rfl rfl)
theorem dX2_isRight_21 : decode cX2_isRight 21 = .ok (.goto 4, 3) := dk_167 0 4 (dk_at dksX2_isRight_0 21 rfl rfl)
theorem dX2_isRight_24 : decode cX2_isRight 24 = .ok (.iconst 0, 1) := dk_3 (dk_at dksX2_isRight_1 0 rfl rfl)
theorem dX2_isRight_25 : decode cX2_isRight 25 = .ok (.ireturn, 1) := dk_172 (dk_at dksX2_isRight_1 1 rfl rfl)
abbrev cX2_isFree : ByteArray := prog_6_method_7_code
def yX2_isFree : MethodName := ⟨RX2, "isFree", "(II)Z"⟩
def dkwX2_isFree_1 : List UInt8 := [180, 0, 24, 29, 50, 180, 0, 69, 28, 160, 0, 5, 3, 172, 132, 3, 1, 167, 255, 217, 4, 172]
abbrev dktX2_isFree_1 : List UInt8 := dkwX2_isFree_1 ++ []
def dkwX2_isFree_0 : List UInt8 := [3, 62, 29, 42, 180, 0, 35, 162, 0, 37, 42, 180, 0, 24, 29, 50, 180, 0, 66, 27, 160, 0, 18, 42]
abbrev dktX2_isFree_0 : List UInt8 := dkwX2_isFree_0 ++ dktX2_isFree_1
theorem dksX2_isFree_0 : cX2_isFree.data.toList.drop 0 = dktX2_isFree_0 := by decide +kernel
theorem dksX2_isFree_1 : cX2_isFree.data.toList.drop 24 = dktX2_isFree_1 := dk_seg dksX2_isFree_0 24 rfl rfl
theorem dX2_isFree_0 : decode cX2_isFree 0 = .ok (.iconst 0, 1) := dk_3 (dk_at dksX2_isFree_0 0 rfl rfl)
theorem dX2_isFree_1 : decode cX2_isFree 1 = .ok (.istore_n 3, 1) := dk_62 (dk_at dksX2_isFree_0 1 rfl rfl)
theorem dX2_isFree_2 : decode cX2_isFree 2 = .ok (.iload_n 3, 1) := dk_29 (dk_at dksX2_isFree_0 2 rfl rfl)
theorem dX2_isFree_3 : decode cX2_isFree 3 = .ok (.aload_n 0, 1) := dk_42 (dk_at dksX2_isFree_0 3 rfl rfl)
theorem dX2_isFree_4 : decode cX2_isFree 4 = .ok (.getfield 35, 3) := dk_180 0 35 (dk_at dksX2_isFree_0 4 rfl rfl)
theorem dX2_isFree_7 : decode cX2_isFree 7 = .ok (.if_icmp .ge 37, 3) := dk_162 0 37 (dk_at dksX2_isFree_0 7 rfl rfl)
theorem dX2_isFree_10 : decode cX2_isFree 10 = .ok (.aload_n 0, 1) := dk_42 (dk_at dksX2_isFree_0 10 rfl rfl)
theorem dX2_isFree_11 : decode cX2_isFree 11 = .ok (.getfield 24, 3) := dk_180 0 24 (dk_at dksX2_isFree_0 11 rfl rfl)
theorem dX2_isFree_14 : decode cX2_isFree 14 = .ok (.iload_n 3, 1) := dk_29 (dk_at dksX2_isFree_0 14 rfl rfl)
theorem dX2_isFree_15 : decode cX2_isFree 15 = .ok (.aaload, 1) := dk_50 (dk_at dksX2_isFree_0 15 rfl rfl)
theorem dX2_isFree_16 : decode cX2_isFree 16 = .ok (.getfield 66, 3) := dk_180 0 66 (dk_at dksX2_isFree_0 16 rfl rfl)
theorem dX2_isFree_19 : decode cX2_isFree 19 = .ok (.iload_n 1, 1) := dk_27 (dk_at dksX2_isFree_0 19 rfl rfl)
theorem dX2_isFree_20 : decode cX2_isFree 20 = .ok (.if_icmp .ne 18, 3) := dk_160 0 18 (dk_at dksX2_isFree_0 20 rfl rfl)
theorem dX2_isFree_23 : decode cX2_isFree 23 = .ok (.aload_n 0, 1) := dk_42 (dk_at dksX2_isFree_0 23 rfl rfl)
theorem dX2_isFree_24 : decode cX2_isFree 24 = .ok (.getfield 24, 3) := dk_180 0 24 (dk_at dksX2_isFree_1 0 rfl rfl)
theorem dX2_isFree_27 : decode cX2_isFree 27 = .ok (.iload_n 3, 1) := dk_29 (dk_at dksX2_isFree_1 3 rfl rfl)
theorem dX2_isFree_28 : decode cX2_isFree 28 = .ok (.aaload, 1) := dk_50 (dk_at dksX2_isFree_1 4 rfl rfl)
theorem dX2_isFree_29 : decode cX2_isFree 29 = .ok (.getfield 69, 3) := dk_180 0 69 (dk_at dksX2_isFree_1 5 rfl rfl)
theorem dX2_isFree_32 : decode cX2_isFree 32 = .ok (.iload_n 2, 1) := dk_28 (dk_at dksX2_isFree_1 8 rfl rfl)
theorem dX2_isFree_33 : decode cX2_isFree 33 = .ok (.if_icmp .ne 5, 3) := dk_160 0 5 (dk_at dksX2_isFree_1 9 rfl rfl)
theorem dX2_isFree_36 : decode cX2_isFree 36 = .ok (.iconst 0, 1) := dk_3 (dk_at dksX2_isFree_1 12 rfl rfl)
theorem dX2_isFree_37 : decode cX2_isFree 37 = .ok (.ireturn, 1) := dk_172 (dk_at dksX2_isFree_1 13 rfl rfl)
theorem dX2_isFree_38 : decode cX2_isFree 38 = .ok (.iinc 3 1, 3) := dk_132 3 1 (dk_at dksX2_isFree_1 14 rfl rfl)
theorem dX2_isFree_41 : decode cX2_isFree 41 = .ok (.goto (-39), 3) := dk_167 255 217 (dk_at dksX2_isFree_1 17 rfl rfl)
theorem dX2_isFree_44 : decode cX2_isFree 44 = .ok (.iconst 1, 1) := dk_4 (dk_at dksX2_isFree_1 20 rfl rfl)
theorem dX2_isFree_45 : decode cX2_isFree 45 = .ok (.ireturn, 1) := dk_172 (dk_at dksX2_isFree_1 21 rfl rfl)
abbrev cX2_add : ByteArray := prog_6_method_3_code
def yX2_add : MethodName := ⟨RX2, "add", "(IIIII)I"⟩
def dkwX2_add_2 : List UInt8 := [180, 0, 35, 90, 4, 96, 181, 0, 35, 172]
abbrev dktX2_add_2 : List UInt8 := dkwX2_add_2 ++ []
def dkwX2_add_1 : List UInt8 := [180, 0, 28, 42, 180, 0, 35, 21, 4, 79, 42, 180, 0, 32, 42, 180, 0, 35, 3, 79, 42, 89]
abbrev dktX2_add_1 : List UInt8 := dkwX2_add_1 ++ dktX2_add_2
def dkwX2_add_0 : List UInt8 := [42, 180, 0, 24, 42, 180, 0, 35, 27, 42, 180, 0, 35, 28, 29, 21, 5, 184, 0, 50, 83, 42]
abbrev dktX2_add_0 : List UInt8 := dkwX2_add_0 ++ dktX2_add_1
theorem dksX2_add_0 : cX2_add.data.toList.drop 0 = dktX2_add_0 := by decide +kernel
theorem dksX2_add_1 : cX2_add.data.toList.drop 22 = dktX2_add_1 := dk_seg dksX2_add_0 22 rfl rfl
theorem dksX2_add_2 : cX2_add.data.toList.drop 44 = dktX2_add_2 := dk_seg dksX2_add_1 22 rfl rfl
theorem dX2_add_0 : decode cX2_add 0 = .ok (.aload_n 0, 1) := dk_42 (dk_at dksX2_add_0 0 rfl rfl)
theorem dX2_add_1 : decode cX2_add 1 = .ok (.getfield 24, 3) := dk_180 0 24 (dk_at dksX2_add_0 1 rfl rfl)
theorem dX2_add_4 : decode cX2_add 4 = .ok (.aload_n 0, 1) := dk_42 (dk_at dksX2_add_0 4 rfl rfl)
theorem dX2_add_5 : decode cX2_add 5 = .ok (.getfield 35, 3) := dk_180 0 35 (dk_at dksX2_add_0 5 rfl rfl)
theorem dX2_add_8 : decode cX2_add 8 = .ok (.iload_n 1, 1) := dk_27 (dk_at dksX2_add_0 8 rfl rfl)
theorem dX2_add_9 : decode cX2_add 9 = .ok (.aload_n 0, 1) := dk_42 (dk_at dksX2_add_0 9 rfl rfl)
theorem dX2_add_10 : decode cX2_add 10 = .ok (.getfield 35, 3) := dk_180 0 35 (dk_at dksX2_add_0 10 rfl rfl)
theorem dX2_add_13 : decode cX2_add 13 = .ok (.iload_n 2, 1) := dk_28 (dk_at dksX2_add_0 13 rfl rfl)
theorem dX2_add_14 : decode cX2_add 14 = .ok (.iload_n 3, 1) := dk_29 (dk_at dksX2_add_0 14 rfl rfl)
theorem dX2_add_15 : decode cX2_add 15 = .ok (.iload 5, 2) := dk_21 5 (dk_at dksX2_add_0 15 rfl rfl)
theorem dX2_add_17 : decode cX2_add 17 = .ok (.invokestatic 50, 3) := dk_184 0 50 (dk_at dksX2_add_0 17 rfl rfl)
theorem dX2_add_20 : decode cX2_add 20 = .ok (.aastore, 1) := dk_83 (dk_at dksX2_add_0 20 rfl rfl)
theorem dX2_add_21 : decode cX2_add 21 = .ok (.aload_n 0, 1) := dk_42 (dk_at dksX2_add_0 21 rfl rfl)
theorem dX2_add_22 : decode cX2_add 22 = .ok (.getfield 28, 3) := dk_180 0 28 (dk_at dksX2_add_1 0 rfl rfl)
theorem dX2_add_25 : decode cX2_add 25 = .ok (.aload_n 0, 1) := dk_42 (dk_at dksX2_add_1 3 rfl rfl)
theorem dX2_add_26 : decode cX2_add 26 = .ok (.getfield 35, 3) := dk_180 0 35 (dk_at dksX2_add_1 4 rfl rfl)
theorem dX2_add_29 : decode cX2_add 29 = .ok (.iload 4, 2) := dk_21 4 (dk_at dksX2_add_1 7 rfl rfl)
theorem dX2_add_31 : decode cX2_add 31 = .ok (.iastore, 1) := dk_79 (dk_at dksX2_add_1 9 rfl rfl)
theorem dX2_add_32 : decode cX2_add 32 = .ok (.aload_n 0, 1) := dk_42 (dk_at dksX2_add_1 10 rfl rfl)
theorem dX2_add_33 : decode cX2_add 33 = .ok (.getfield 32, 3) := dk_180 0 32 (dk_at dksX2_add_1 11 rfl rfl)
theorem dX2_add_36 : decode cX2_add 36 = .ok (.aload_n 0, 1) := dk_42 (dk_at dksX2_add_1 14 rfl rfl)
theorem dX2_add_37 : decode cX2_add 37 = .ok (.getfield 35, 3) := dk_180 0 35 (dk_at dksX2_add_1 15 rfl rfl)
theorem dX2_add_40 : decode cX2_add 40 = .ok (.iconst 0, 1) := dk_3 (dk_at dksX2_add_1 18 rfl rfl)
theorem dX2_add_41 : decode cX2_add 41 = .ok (.iastore, 1) := dk_79 (dk_at dksX2_add_1 19 rfl rfl)
theorem dX2_add_42 : decode cX2_add 42 = .ok (.aload_n 0, 1) := dk_42 (dk_at dksX2_add_1 20 rfl rfl)
theorem dX2_add_43 : decode cX2_add 43 = .ok (.dup, 1) := dk_89 (dk_at dksX2_add_1 21 rfl rfl)
theorem dX2_add_44 : decode cX2_add 44 = .ok (.getfield 35, 3) := dk_180 0 35 (dk_at dksX2_add_2 0 rfl rfl)
theorem dX2_add_47 : decode cX2_add 47 = .ok (.dup_x1, 1) := dk_90 (dk_at dksX2_add_2 3 rfl rfl)
theorem dX2_add_48 : decode cX2_add 48 = .ok (.iconst 1, 1) := dk_4 (dk_at dksX2_add_2 4 rfl rfl)
theorem dX2_add_49 : decode cX2_add 49 = .ok (.iadd, 1) := dk_96 (dk_at dksX2_add_2 5 rfl rfl)
theorem dX2_add_50 : decode cX2_add 50 = .ok (.putfield 35, 3) := dk_181 0 35 (dk_at dksX2_add_2 6 rfl rfl)
theorem dX2_add_53 : decode cX2_add 53 = .ok (.ireturn, 1) := dk_172 (dk_at dksX2_add_2 9 rfl rfl)
abbrev cX2_take : ByteArray := prog_6_method_2_code
def yX2_take : MethodName := ⟨RX2, "take", "(LSeenByOne$Ground;)LSeenByOne$Ground;"⟩
def dkwX2_take_4 : List UInt8 := [180, 0, 35, 184, 0, 44, 42, 176]
abbrev dktX2_take_4 : List UInt8 := dkwX2_take_4 ++ []
def dkwX2_take_3 : List UInt8 := [180, 0, 28, 3, 42, 180, 0, 35, 184, 0, 44, 43, 180, 0, 32, 3, 42, 180, 0, 32, 3, 42]
abbrev dktX2_take_3 : List UInt8 := dkwX2_take_3 ++ dktX2_take_4
def dkwX2_take_2 : List UInt8 := [43, 180, 0, 24, 3, 42, 180, 0, 24, 3, 42, 180, 0, 35, 184, 0, 44, 43, 180, 0, 28, 3, 42]
abbrev dktX2_take_2 : List UInt8 := dkwX2_take_2 ++ dktX2_take_3
def dkwX2_take_1 : List UInt8 := [42, 43, 180, 0, 38, 181, 0, 38, 42, 43, 180, 0, 41, 181, 0, 41, 42, 43, 180, 0, 19, 181, 0, 19]
abbrev dktX2_take_1 : List UInt8 := dkwX2_take_1 ++ dktX2_take_2
def dkwX2_take_0 : List UInt8 := [42, 43, 180, 0, 35, 181, 0, 35, 42, 43, 180, 0, 9, 181, 0, 9, 42, 43, 180, 0, 15, 181, 0, 15]
abbrev dktX2_take_0 : List UInt8 := dkwX2_take_0 ++ dktX2_take_1
theorem dksX2_take_0 : cX2_take.data.toList.drop 0 = dktX2_take_0 := by decide +kernel
theorem dksX2_take_1 : cX2_take.data.toList.drop 24 = dktX2_take_1 := dk_seg dksX2_take_0 24 rfl rfl
theorem dksX2_take_2 : cX2_take.data.toList.drop 48 = dktX2_take_2 := dk_seg dksX2_take_1 24 rfl rfl
theorem dksX2_take_3 : cX2_take.data.toList.drop 71 = dktX2_take_3 := dk_seg dksX2_take_2 23 rfl rfl
theorem dksX2_take_4 : cX2_take.data.toList.drop 93 = dktX2_take_4 := dk_seg dksX2_take_3 22 rfl rfl
theorem dX2_take_0 : decode cX2_take 0 = .ok (.aload_n 0, 1) := dk_42 (dk_at dksX2_take_0 0 rfl rfl)
theorem dX2_take_1 : decode cX2_take 1 = .ok (.aload_n 1, 1) := dk_43 (dk_at dksX2_take_0 1 rfl rfl)
theorem dX2_take_2 : decode cX2_take 2 = .ok (.getfield 35, 3) := dk_180 0 35 (dk_at dksX2_take_0 2 rfl rfl)
theorem dX2_take_5 : decode cX2_take 5 = .ok (.putfield 35, 3) := dk_181 0 35 (dk_at dksX2_take_0 5 rfl rfl)
theorem dX2_take_8 : decode cX2_take 8 = .ok (.aload_n 0, 1) := dk_42 (dk_at dksX2_take_0 8 rfl rfl)
theorem dX2_take_9 : decode cX2_take 9 = .ok (.aload_n 1, 1) := dk_43 (dk_at dksX2_take_0 9 rfl rfl)
theorem dX2_take_10 : decode cX2_take 10 = .ok (.getfield 9, 3) := dk_180 0 9 (dk_at dksX2_take_0 10 rfl rfl)
theorem dX2_take_13 : decode cX2_take 13 = .ok (.putfield 9, 3) := dk_181 0 9 (dk_at dksX2_take_0 13 rfl rfl)
theorem dX2_take_16 : decode cX2_take 16 = .ok (.aload_n 0, 1) := dk_42 (dk_at dksX2_take_0 16 rfl rfl)
theorem dX2_take_17 : decode cX2_take 17 = .ok (.aload_n 1, 1) := dk_43 (dk_at dksX2_take_0 17 rfl rfl)
theorem dX2_take_18 : decode cX2_take 18 = .ok (.getfield 15, 3) := dk_180 0 15 (dk_at dksX2_take_0 18 rfl rfl)
theorem dX2_take_21 : decode cX2_take 21 = .ok (.putfield 15, 3) := dk_181 0 15 (dk_at dksX2_take_0 21 rfl rfl)
theorem dX2_take_24 : decode cX2_take 24 = .ok (.aload_n 0, 1) := dk_42 (dk_at dksX2_take_1 0 rfl rfl)
theorem dX2_take_25 : decode cX2_take 25 = .ok (.aload_n 1, 1) := dk_43 (dk_at dksX2_take_1 1 rfl rfl)
theorem dX2_take_26 : decode cX2_take 26 = .ok (.getfield 38, 3) := dk_180 0 38 (dk_at dksX2_take_1 2 rfl rfl)
theorem dX2_take_29 : decode cX2_take 29 = .ok (.putfield 38, 3) := dk_181 0 38 (dk_at dksX2_take_1 5 rfl rfl)
theorem dX2_take_32 : decode cX2_take 32 = .ok (.aload_n 0, 1) := dk_42 (dk_at dksX2_take_1 8 rfl rfl)
theorem dX2_take_33 : decode cX2_take 33 = .ok (.aload_n 1, 1) := dk_43 (dk_at dksX2_take_1 9 rfl rfl)
theorem dX2_take_34 : decode cX2_take 34 = .ok (.getfield 41, 3) := dk_180 0 41 (dk_at dksX2_take_1 10 rfl rfl)
theorem dX2_take_37 : decode cX2_take 37 = .ok (.putfield 41, 3) := dk_181 0 41 (dk_at dksX2_take_1 13 rfl rfl)
theorem dX2_take_40 : decode cX2_take 40 = .ok (.aload_n 0, 1) := dk_42 (dk_at dksX2_take_1 16 rfl rfl)
theorem dX2_take_41 : decode cX2_take 41 = .ok (.aload_n 1, 1) := dk_43 (dk_at dksX2_take_1 17 rfl rfl)
theorem dX2_take_42 : decode cX2_take 42 = .ok (.getfield 19, 3) := dk_180 0 19 (dk_at dksX2_take_1 18 rfl rfl)
theorem dX2_take_45 : decode cX2_take 45 = .ok (.putfield 19, 3) := dk_181 0 19 (dk_at dksX2_take_1 21 rfl rfl)
theorem dX2_take_48 : decode cX2_take 48 = .ok (.aload_n 1, 1) := dk_43 (dk_at dksX2_take_2 0 rfl rfl)
theorem dX2_take_49 : decode cX2_take 49 = .ok (.getfield 24, 3) := dk_180 0 24 (dk_at dksX2_take_2 1 rfl rfl)
theorem dX2_take_52 : decode cX2_take 52 = .ok (.iconst 0, 1) := dk_3 (dk_at dksX2_take_2 4 rfl rfl)
theorem dX2_take_53 : decode cX2_take 53 = .ok (.aload_n 0, 1) := dk_42 (dk_at dksX2_take_2 5 rfl rfl)
theorem dX2_take_54 : decode cX2_take 54 = .ok (.getfield 24, 3) := dk_180 0 24 (dk_at dksX2_take_2 6 rfl rfl)
theorem dX2_take_57 : decode cX2_take 57 = .ok (.iconst 0, 1) := dk_3 (dk_at dksX2_take_2 9 rfl rfl)
theorem dX2_take_58 : decode cX2_take 58 = .ok (.aload_n 0, 1) := dk_42 (dk_at dksX2_take_2 10 rfl rfl)
theorem dX2_take_59 : decode cX2_take 59 = .ok (.getfield 35, 3) := dk_180 0 35 (dk_at dksX2_take_2 11 rfl rfl)
theorem dX2_take_62 : decode cX2_take 62 = .ok (.invokestatic 44, 3) := dk_184 0 44 (dk_at dksX2_take_2 14 rfl rfl)
theorem dX2_take_65 : decode cX2_take 65 = .ok (.aload_n 1, 1) := dk_43 (dk_at dksX2_take_2 17 rfl rfl)
theorem dX2_take_66 : decode cX2_take 66 = .ok (.getfield 28, 3) := dk_180 0 28 (dk_at dksX2_take_2 18 rfl rfl)
theorem dX2_take_69 : decode cX2_take 69 = .ok (.iconst 0, 1) := dk_3 (dk_at dksX2_take_2 21 rfl rfl)
theorem dX2_take_70 : decode cX2_take 70 = .ok (.aload_n 0, 1) := dk_42 (dk_at dksX2_take_2 22 rfl rfl)
theorem dX2_take_71 : decode cX2_take 71 = .ok (.getfield 28, 3) := dk_180 0 28 (dk_at dksX2_take_3 0 rfl rfl)
theorem dX2_take_74 : decode cX2_take 74 = .ok (.iconst 0, 1) := dk_3 (dk_at dksX2_take_3 3 rfl rfl)
theorem dX2_take_75 : decode cX2_take 75 = .ok (.aload_n 0, 1) := dk_42 (dk_at dksX2_take_3 4 rfl rfl)
theorem dX2_take_76 : decode cX2_take 76 = .ok (.getfield 35, 3) := dk_180 0 35 (dk_at dksX2_take_3 5 rfl rfl)
theorem dX2_take_79 : decode cX2_take 79 = .ok (.invokestatic 44, 3) := dk_184 0 44 (dk_at dksX2_take_3 8 rfl rfl)
theorem dX2_take_82 : decode cX2_take 82 = .ok (.aload_n 1, 1) := dk_43 (dk_at dksX2_take_3 11 rfl rfl)
theorem dX2_take_83 : decode cX2_take 83 = .ok (.getfield 32, 3) := dk_180 0 32 (dk_at dksX2_take_3 12 rfl rfl)
theorem dX2_take_86 : decode cX2_take 86 = .ok (.iconst 0, 1) := dk_3 (dk_at dksX2_take_3 15 rfl rfl)
theorem dX2_take_87 : decode cX2_take 87 = .ok (.aload_n 0, 1) := dk_42 (dk_at dksX2_take_3 16 rfl rfl)
theorem dX2_take_88 : decode cX2_take 88 = .ok (.getfield 32, 3) := dk_180 0 32 (dk_at dksX2_take_3 17 rfl rfl)
theorem dX2_take_91 : decode cX2_take 91 = .ok (.iconst 0, 1) := dk_3 (dk_at dksX2_take_3 20 rfl rfl)
theorem dX2_take_92 : decode cX2_take 92 = .ok (.aload_n 0, 1) := dk_42 (dk_at dksX2_take_3 21 rfl rfl)
theorem dX2_take_93 : decode cX2_take 93 = .ok (.getfield 35, 3) := dk_180 0 35 (dk_at dksX2_take_4 0 rfl rfl)
theorem dX2_take_96 : decode cX2_take 96 = .ok (.invokestatic 44, 3) := dk_184 0 44 (dk_at dksX2_take_4 3 rfl rfl)
theorem dX2_take_99 : decode cX2_take 99 = .ok (.aload_n 0, 1) := dk_42 (dk_at dksX2_take_4 6 rfl rfl)
theorem dX2_take_100 : decode cX2_take 100 = .ok (.areturn, 1) := dk_176 (dk_at dksX2_take_4 7 rfl rfl)
abbrev cX2_right : ByteArray := prog_6_method_18_code
def yX2_right : MethodName := ⟨RX2, "right", "()I"⟩
def dkwX2_right_1 : List UInt8 := [182, 0, 131, 153, 0, 9, 4, 28, 120, 167, 0, 4, 3, 128, 60, 132, 2, 1, 167, 255, 219, 27, 172]
abbrev dktX2_right_1 : List UInt8 := dkwX2_right_1 ++ []
def dkwX2_right_0 : List UInt8 := [3, 60, 3, 61, 28, 42, 180, 0, 35, 162, 0, 35, 27, 42, 28, 182, 0, 108, 153, 0, 17, 42, 28]
abbrev dktX2_right_0 : List UInt8 := dkwX2_right_0 ++ dktX2_right_1
theorem dksX2_right_0 : cX2_right.data.toList.drop 0 = dktX2_right_0 := by decide +kernel
theorem dksX2_right_1 : cX2_right.data.toList.drop 23 = dktX2_right_1 := dk_seg dksX2_right_0 23 rfl rfl
theorem dX2_right_0 : decode cX2_right 0 = .ok (.iconst 0, 1) := dk_3 (dk_at dksX2_right_0 0 rfl rfl)
theorem dX2_right_1 : decode cX2_right 1 = .ok (.istore_n 1, 1) := dk_60 (dk_at dksX2_right_0 1 rfl rfl)
theorem dX2_right_2 : decode cX2_right 2 = .ok (.iconst 0, 1) := dk_3 (dk_at dksX2_right_0 2 rfl rfl)
theorem dX2_right_3 : decode cX2_right 3 = .ok (.istore_n 2, 1) := dk_61 (dk_at dksX2_right_0 3 rfl rfl)
theorem dX2_right_4 : decode cX2_right 4 = .ok (.iload_n 2, 1) := dk_28 (dk_at dksX2_right_0 4 rfl rfl)
theorem dX2_right_5 : decode cX2_right 5 = .ok (.aload_n 0, 1) := dk_42 (dk_at dksX2_right_0 5 rfl rfl)
theorem dX2_right_6 : decode cX2_right 6 = .ok (.getfield 35, 3) := dk_180 0 35 (dk_at dksX2_right_0 6 rfl rfl)
theorem dX2_right_9 : decode cX2_right 9 = .ok (.if_icmp .ge 35, 3) := dk_162 0 35 (dk_at dksX2_right_0 9 rfl rfl)
theorem dX2_right_12 : decode cX2_right 12 = .ok (.iload_n 1, 1) := dk_27 (dk_at dksX2_right_0 12 rfl rfl)
theorem dX2_right_13 : decode cX2_right 13 = .ok (.aload_n 0, 1) := dk_42 (dk_at dksX2_right_0 13 rfl rfl)
theorem dX2_right_14 : decode cX2_right 14 = .ok (.iload_n 2, 1) := dk_28 (dk_at dksX2_right_0 14 rfl rfl)
theorem dX2_right_15 : decode cX2_right 15 = .ok (.invokevirtual 108, 3) := dk_182 0 108 (dk_at dksX2_right_0 15 rfl rfl)
theorem dX2_right_18 : decode cX2_right 18 = .ok (.ifCond .eq 17, 3) := dk_153 0 17 (dk_at dksX2_right_0 18 rfl rfl)
theorem dX2_right_21 : decode cX2_right 21 = .ok (.aload_n 0, 1) := dk_42 (dk_at dksX2_right_0 21 rfl rfl)
theorem dX2_right_22 : decode cX2_right 22 = .ok (.iload_n 2, 1) := dk_28 (dk_at dksX2_right_0 22 rfl rfl)
theorem dX2_right_23 : decode cX2_right 23 = .ok (.invokevirtual 131, 3) := dk_182 0 131 (dk_at dksX2_right_1 0 rfl rfl)
theorem dX2_right_26 : decode cX2_right 26 = .ok (.ifCond .eq 9, 3) := dk_153 0 9 (dk_at dksX2_right_1 3 rfl rfl)
theorem dX2_right_29 : decode cX2_right 29 = .ok (.iconst 1, 1) := dk_4 (dk_at dksX2_right_1 6 rfl rfl)
theorem dX2_right_30 : decode cX2_right 30 = .ok (.iload_n 2, 1) := dk_28 (dk_at dksX2_right_1 7 rfl rfl)
theorem dX2_right_31 : decode cX2_right 31 = .ok (.ishl, 1) := dk_120 (dk_at dksX2_right_1 8 rfl rfl)
theorem dX2_right_32 : decode cX2_right 32 = .ok (.goto 4, 3) := dk_167 0 4 (dk_at dksX2_right_1 9 rfl rfl)
theorem dX2_right_35 : decode cX2_right 35 = .ok (.iconst 0, 1) := dk_3 (dk_at dksX2_right_1 12 rfl rfl)
theorem dX2_right_36 : decode cX2_right 36 = .ok (.ior, 1) := dk_128 (dk_at dksX2_right_1 13 rfl rfl)
theorem dX2_right_37 : decode cX2_right 37 = .ok (.istore_n 1, 1) := dk_60 (dk_at dksX2_right_1 14 rfl rfl)
theorem dX2_right_38 : decode cX2_right 38 = .ok (.iinc 2 1, 3) := dk_132 2 1 (dk_at dksX2_right_1 15 rfl rfl)
theorem dX2_right_41 : decode cX2_right 41 = .ok (.goto (-37), 3) := dk_167 255 219 (dk_at dksX2_right_1 18 rfl rfl)
theorem dX2_right_44 : decode cX2_right 44 = .ok (.iload_n 1, 1) := dk_27 (dk_at dksX2_right_1 21 rfl rfl)
theorem dX2_right_45 : decode cX2_right 45 = .ok (.ireturn, 1) := dk_172 (dk_at dksX2_right_1 22 rfl rfl)
abbrev cX2_houses : ByteArray := prog_6_method_6_code
def yX2_houses : MethodName := ⟨RX2, "houses", "()I"⟩
def dkwX2_houses_1 : List UInt8 := [153, 0, 9, 4, 28, 120, 167, 0, 4, 3, 128, 60, 132, 2, 1, 167, 255, 223, 27, 172]
abbrev dktX2_houses_1 : List UInt8 := dkwX2_houses_1 ++ []
def dkwX2_houses_0 : List UInt8 := [3, 60, 3, 61, 28, 42, 180, 0, 35, 162, 0, 31, 27, 42, 180, 0, 24, 28, 50, 182, 0, 62]
abbrev dktX2_houses_0 : List UInt8 := dkwX2_houses_0 ++ dktX2_houses_1
theorem dksX2_houses_0 : cX2_houses.data.toList.drop 0 = dktX2_houses_0 := by decide +kernel
theorem dksX2_houses_1 : cX2_houses.data.toList.drop 22 = dktX2_houses_1 := dk_seg dksX2_houses_0 22 rfl rfl
theorem dX2_houses_0 : decode cX2_houses 0 = .ok (.iconst 0, 1) := dk_3 (dk_at dksX2_houses_0 0 rfl rfl)
theorem dX2_houses_1 : decode cX2_houses 1 = .ok (.istore_n 1, 1) := dk_60 (dk_at dksX2_houses_0 1 rfl rfl)
theorem dX2_houses_2 : decode cX2_houses 2 = .ok (.iconst 0, 1) := dk_3 (dk_at dksX2_houses_0 2 rfl rfl)
theorem dX2_houses_3 : decode cX2_houses 3 = .ok (.istore_n 2, 1) := dk_61 (dk_at dksX2_houses_0 3 rfl rfl)
theorem dX2_houses_4 : decode cX2_houses 4 = .ok (.iload_n 2, 1) := dk_28 (dk_at dksX2_houses_0 4 rfl rfl)
theorem dX2_houses_5 : decode cX2_houses 5 = .ok (.aload_n 0, 1) := dk_42 (dk_at dksX2_houses_0 5 rfl rfl)
theorem dX2_houses_6 : decode cX2_houses 6 = .ok (.getfield 35, 3) := dk_180 0 35 (dk_at dksX2_houses_0 6 rfl rfl)
theorem dX2_houses_9 : decode cX2_houses 9 = .ok (.if_icmp .ge 31, 3) := dk_162 0 31 (dk_at dksX2_houses_0 9 rfl rfl)
theorem dX2_houses_12 : decode cX2_houses 12 = .ok (.iload_n 1, 1) := dk_27 (dk_at dksX2_houses_0 12 rfl rfl)
theorem dX2_houses_13 : decode cX2_houses 13 = .ok (.aload_n 0, 1) := dk_42 (dk_at dksX2_houses_0 13 rfl rfl)
theorem dX2_houses_14 : decode cX2_houses 14 = .ok (.getfield 24, 3) := dk_180 0 24 (dk_at dksX2_houses_0 14 rfl rfl)
theorem dX2_houses_17 : decode cX2_houses 17 = .ok (.iload_n 2, 1) := dk_28 (dk_at dksX2_houses_0 17 rfl rfl)
theorem dX2_houses_18 : decode cX2_houses 18 = .ok (.aaload, 1) := dk_50 (dk_at dksX2_houses_0 18 rfl rfl)
theorem dX2_houses_19 : decode cX2_houses 19 = .ok (.invokevirtual 62, 3) := dk_182 0 62 (dk_at dksX2_houses_0 19 rfl rfl)
theorem dX2_houses_22 : decode cX2_houses 22 = .ok (.ifCond .eq 9, 3) := dk_153 0 9 (dk_at dksX2_houses_1 0 rfl rfl)
theorem dX2_houses_25 : decode cX2_houses 25 = .ok (.iconst 1, 1) := dk_4 (dk_at dksX2_houses_1 3 rfl rfl)
theorem dX2_houses_26 : decode cX2_houses 26 = .ok (.iload_n 2, 1) := dk_28 (dk_at dksX2_houses_1 4 rfl rfl)
theorem dX2_houses_27 : decode cX2_houses 27 = .ok (.ishl, 1) := dk_120 (dk_at dksX2_houses_1 5 rfl rfl)
theorem dX2_houses_28 : decode cX2_houses 28 = .ok (.goto 4, 3) := dk_167 0 4 (dk_at dksX2_houses_1 6 rfl rfl)
theorem dX2_houses_31 : decode cX2_houses 31 = .ok (.iconst 0, 1) := dk_3 (dk_at dksX2_houses_1 9 rfl rfl)
theorem dX2_houses_32 : decode cX2_houses 32 = .ok (.ior, 1) := dk_128 (dk_at dksX2_houses_1 10 rfl rfl)
theorem dX2_houses_33 : decode cX2_houses 33 = .ok (.istore_n 1, 1) := dk_60 (dk_at dksX2_houses_1 11 rfl rfl)
theorem dX2_houses_34 : decode cX2_houses 34 = .ok (.iinc 2 1, 3) := dk_132 2 1 (dk_at dksX2_houses_1 12 rfl rfl)
theorem dX2_houses_37 : decode cX2_houses 37 = .ok (.goto (-33), 3) := dk_167 255 223 (dk_at dksX2_houses_1 15 rfl rfl)
theorem dX2_houses_40 : decode cX2_houses 40 = .ok (.iload_n 1, 1) := dk_27 (dk_at dksX2_houses_1 18 rfl rfl)
theorem dX2_houses_41 : decode cX2_houses 41 = .ok (.ireturn, 1) := dk_172 (dk_at dksX2_houses_1 19 rfl rfl)
abbrev cX2_cost : ByteArray := prog_6_method_20_code
def yX2_cost : MethodName := ⟨RX2, "cost", "(II)I"⟩
def dkwX2_cost_0 : List UInt8 := [42, 27, 28, 182, 0, 98, 42, 180, 0, 24, 28, 50, 180, 0, 137, 96, 172]
abbrev dktX2_cost_0 : List UInt8 := dkwX2_cost_0 ++ []
theorem dksX2_cost_0 : cX2_cost.data.toList.drop 0 = dktX2_cost_0 := by decide +kernel
theorem dX2_cost_0 : decode cX2_cost 0 = .ok (.aload_n 0, 1) := dk_42 (dk_at dksX2_cost_0 0 rfl rfl)
theorem dX2_cost_1 : decode cX2_cost 1 = .ok (.iload_n 1, 1) := dk_27 (dk_at dksX2_cost_0 1 rfl rfl)
theorem dX2_cost_2 : decode cX2_cost 2 = .ok (.iload_n 2, 1) := dk_28 (dk_at dksX2_cost_0 2 rfl rfl)
theorem dX2_cost_3 : decode cX2_cost 3 = .ok (.invokevirtual 98, 3) := dk_182 0 98 (dk_at dksX2_cost_0 3 rfl rfl)
theorem dX2_cost_6 : decode cX2_cost 6 = .ok (.aload_n 0, 1) := dk_42 (dk_at dksX2_cost_0 6 rfl rfl)
theorem dX2_cost_7 : decode cX2_cost 7 = .ok (.getfield 24, 3) := dk_180 0 24 (dk_at dksX2_cost_0 7 rfl rfl)
theorem dX2_cost_10 : decode cX2_cost 10 = .ok (.iload_n 2, 1) := dk_28 (dk_at dksX2_cost_0 10 rfl rfl)
theorem dX2_cost_11 : decode cX2_cost 11 = .ok (.aaload, 1) := dk_50 (dk_at dksX2_cost_0 11 rfl rfl)
theorem dX2_cost_12 : decode cX2_cost 12 = .ok (.getfield 137, 3) := dk_180 0 137 (dk_at dksX2_cost_0 12 rfl rfl)
theorem dX2_cost_15 : decode cX2_cost 15 = .ok (.iadd, 1) := dk_96 (dk_at dksX2_cost_0 15 rfl rfl)
theorem dX2_cost_16 : decode cX2_cost 16 = .ok (.ireturn, 1) := dk_172 (dk_at dksX2_cost_0 16 rfl rfl)
abbrev cX2_canBe : ByteArray := prog_6_method_23_code
def yX2_canBe : MethodName := ⟨RX2, "canBe", "(I)Z"⟩
def dkwX2_canBe_1 : List UInt8 := [3, 172]
abbrev dktX2_canBe_1 : List UInt8 := dkwX2_canBe_1 ++ []
def dkwX2_canBe_0 : List UInt8 := [42, 180, 0, 24, 27, 50, 182, 0, 127, 153, 0, 11, 42, 27, 182, 0, 119, 153, 0, 7, 4, 167, 0, 4]
abbrev dktX2_canBe_0 : List UInt8 := dkwX2_canBe_0 ++ dktX2_canBe_1
theorem dksX2_canBe_0 : cX2_canBe.data.toList.drop 0 = dktX2_canBe_0 := by decide +kernel
theorem dksX2_canBe_1 : cX2_canBe.data.toList.drop 24 = dktX2_canBe_1 := dk_seg dksX2_canBe_0 24 rfl rfl
theorem dX2_canBe_0 : decode cX2_canBe 0 = .ok (.aload_n 0, 1) := dk_42 (dk_at dksX2_canBe_0 0 rfl rfl)
theorem dX2_canBe_1 : decode cX2_canBe 1 = .ok (.getfield 24, 3) := dk_180 0 24 (dk_at dksX2_canBe_0 1 rfl rfl)
theorem dX2_canBe_4 : decode cX2_canBe 4 = .ok (.iload_n 1, 1) := dk_27 (dk_at dksX2_canBe_0 4 rfl rfl)
theorem dX2_canBe_5 : decode cX2_canBe 5 = .ok (.aaload, 1) := dk_50 (dk_at dksX2_canBe_0 5 rfl rfl)
theorem dX2_canBe_6 : decode cX2_canBe 6 = .ok (.invokevirtual 127, 3) := dk_182 0 127 (dk_at dksX2_canBe_0 6 rfl rfl)
theorem dX2_canBe_9 : decode cX2_canBe 9 = .ok (.ifCond .eq 11, 3) := dk_153 0 11 (dk_at dksX2_canBe_0 9 rfl rfl)
theorem dX2_canBe_12 : decode cX2_canBe 12 = .ok (.aload_n 0, 1) := dk_42 (dk_at dksX2_canBe_0 12 rfl rfl)
theorem dX2_canBe_13 : decode cX2_canBe 13 = .ok (.iload_n 1, 1) := dk_27 (dk_at dksX2_canBe_0 13 rfl rfl)
theorem dX2_canBe_14 : decode cX2_canBe 14 = .ok (.invokevirtual 119, 3) := dk_182 0 119 (dk_at dksX2_canBe_0 14 rfl rfl)
theorem dX2_canBe_17 : decode cX2_canBe 17 = .ok (.ifCond .eq 7, 3) := dk_153 0 7 (dk_at dksX2_canBe_0 17 rfl rfl)
theorem dX2_canBe_20 : decode cX2_canBe 20 = .ok (.iconst 1, 1) := dk_4 (dk_at dksX2_canBe_0 20 rfl rfl)
theorem dX2_canBe_21 : decode cX2_canBe 21 = .ok (.goto 4, 3) := dk_167 0 4 (dk_at dksX2_canBe_0 21 rfl rfl)
theorem dX2_canBe_24 : decode cX2_canBe 24 = .ok (.iconst 0, 1) := dk_3 (dk_at dksX2_canBe_1 0 rfl rfl)
theorem dX2_canBe_25 : decode cX2_canBe 25 = .ok (.ireturn, 1) := dk_172 (dk_at dksX2_canBe_1 1 rfl rfl)
abbrev cX2_toShut : ByteArray := prog_6_method_24_code
def yX2_toShut : MethodName := ⟨RX2, "toShut", "(I)I"⟩
def dkwX2_toShut_1 : List UInt8 := [130, 126, 172]
abbrev dktX2_toShut_1 : List UInt8 := dkwX2_toShut_1 ++ []
def dkwX2_toShut_0 : List UInt8 := [42, 27, 182, 0, 146, 61, 42, 27, 182, 0, 119, 28, 2, 160, 0, 7, 3, 167, 0, 6, 4, 28, 120, 2]
abbrev dktX2_toShut_0 : List UInt8 := dkwX2_toShut_0 ++ dktX2_toShut_1
theorem dksX2_toShut_0 : cX2_toShut.data.toList.drop 0 = dktX2_toShut_0 := by decide +kernel
theorem dksX2_toShut_1 : cX2_toShut.data.toList.drop 24 = dktX2_toShut_1 := dk_seg dksX2_toShut_0 24 rfl rfl
theorem dX2_toShut_0 : decode cX2_toShut 0 = .ok (.aload_n 0, 1) := dk_42 (dk_at dksX2_toShut_0 0 rfl rfl)
theorem dX2_toShut_1 : decode cX2_toShut 1 = .ok (.iload_n 1, 1) := dk_27 (dk_at dksX2_toShut_0 1 rfl rfl)
theorem dX2_toShut_2 : decode cX2_toShut 2 = .ok (.invokevirtual 146, 3) := dk_182 0 146 (dk_at dksX2_toShut_0 2 rfl rfl)
theorem dX2_toShut_5 : decode cX2_toShut 5 = .ok (.istore_n 2, 1) := dk_61 (dk_at dksX2_toShut_0 5 rfl rfl)
theorem dX2_toShut_6 : decode cX2_toShut 6 = .ok (.aload_n 0, 1) := dk_42 (dk_at dksX2_toShut_0 6 rfl rfl)
theorem dX2_toShut_7 : decode cX2_toShut 7 = .ok (.iload_n 1, 1) := dk_27 (dk_at dksX2_toShut_0 7 rfl rfl)
theorem dX2_toShut_8 : decode cX2_toShut 8 = .ok (.invokevirtual 119, 3) := dk_182 0 119 (dk_at dksX2_toShut_0 8 rfl rfl)
theorem dX2_toShut_11 : decode cX2_toShut 11 = .ok (.iload_n 2, 1) := dk_28 (dk_at dksX2_toShut_0 11 rfl rfl)
theorem dX2_toShut_12 : decode cX2_toShut 12 = .ok (.iconst (-1), 1) := dk_2 (dk_at dksX2_toShut_0 12 rfl rfl)
theorem dX2_toShut_13 : decode cX2_toShut 13 = .ok (.if_icmp .ne 7, 3) := dk_160 0 7 (dk_at dksX2_toShut_0 13 rfl rfl)
theorem dX2_toShut_16 : decode cX2_toShut 16 = .ok (.iconst 0, 1) := dk_3 (dk_at dksX2_toShut_0 16 rfl rfl)
theorem dX2_toShut_17 : decode cX2_toShut 17 = .ok (.goto 6, 3) := dk_167 0 6 (dk_at dksX2_toShut_0 17 rfl rfl)
theorem dX2_toShut_20 : decode cX2_toShut 20 = .ok (.iconst 1, 1) := dk_4 (dk_at dksX2_toShut_0 20 rfl rfl)
theorem dX2_toShut_21 : decode cX2_toShut 21 = .ok (.iload_n 2, 1) := dk_28 (dk_at dksX2_toShut_0 21 rfl rfl)
theorem dX2_toShut_22 : decode cX2_toShut 22 = .ok (.ishl, 1) := dk_120 (dk_at dksX2_toShut_0 22 rfl rfl)
theorem dX2_toShut_23 : decode cX2_toShut 23 = .ok (.iconst (-1), 1) := dk_2 (dk_at dksX2_toShut_0 23 rfl rfl)
theorem dX2_toShut_24 : decode cX2_toShut 24 = .ok (.ixor, 1) := dk_130 (dk_at dksX2_toShut_1 0 rfl rfl)
theorem dX2_toShut_25 : decode cX2_toShut 25 = .ok (.iand, 1) := dk_126 (dk_at dksX2_toShut_1 1 rfl rfl)
theorem dX2_toShut_26 : decode cX2_toShut 26 = .ok (.ireturn, 1) := dk_172 (dk_at dksX2_toShut_1 2 rfl rfl)
abbrev cX2_keeps : ByteArray := prog_6_method_22_code
def yX2_keeps : MethodName := ⟨RX2, "keeps", "(I)I"⟩
def dkwX2_keeps_0 : List UInt8 := [42, 180, 0, 24, 27, 50, 182, 0, 127, 154, 0, 7, 2, 167, 0, 8, 42, 27, 182, 0, 143, 172]
abbrev dktX2_keeps_0 : List UInt8 := dkwX2_keeps_0 ++ []
theorem dksX2_keeps_0 : cX2_keeps.data.toList.drop 0 = dktX2_keeps_0 := by decide +kernel
theorem dX2_keeps_0 : decode cX2_keeps 0 = .ok (.aload_n 0, 1) := dk_42 (dk_at dksX2_keeps_0 0 rfl rfl)
theorem dX2_keeps_1 : decode cX2_keeps 1 = .ok (.getfield 24, 3) := dk_180 0 24 (dk_at dksX2_keeps_0 1 rfl rfl)
theorem dX2_keeps_4 : decode cX2_keeps 4 = .ok (.iload_n 1, 1) := dk_27 (dk_at dksX2_keeps_0 4 rfl rfl)
theorem dX2_keeps_5 : decode cX2_keeps 5 = .ok (.aaload, 1) := dk_50 (dk_at dksX2_keeps_0 5 rfl rfl)
theorem dX2_keeps_6 : decode cX2_keeps 6 = .ok (.invokevirtual 127, 3) := dk_182 0 127 (dk_at dksX2_keeps_0 6 rfl rfl)
theorem dX2_keeps_9 : decode cX2_keeps 9 = .ok (.ifCond .ne 7, 3) := dk_154 0 7 (dk_at dksX2_keeps_0 9 rfl rfl)
theorem dX2_keeps_12 : decode cX2_keeps 12 = .ok (.iconst (-1), 1) := dk_2 (dk_at dksX2_keeps_0 12 rfl rfl)
theorem dX2_keeps_13 : decode cX2_keeps 13 = .ok (.goto 8, 3) := dk_167 0 8 (dk_at dksX2_keeps_0 13 rfl rfl)
theorem dX2_keeps_16 : decode cX2_keeps 16 = .ok (.aload_n 0, 1) := dk_42 (dk_at dksX2_keeps_0 16 rfl rfl)
theorem dX2_keeps_17 : decode cX2_keeps 17 = .ok (.iload_n 1, 1) := dk_27 (dk_at dksX2_keeps_0 17 rfl rfl)
theorem dX2_keeps_18 : decode cX2_keeps 18 = .ok (.invokevirtual 143, 3) := dk_182 0 143 (dk_at dksX2_keeps_0 18 rfl rfl)
theorem dX2_keeps_21 : decode cX2_keeps 21 = .ok (.ireturn, 1) := dk_172 (dk_at dksX2_keeps_0 21 rfl rfl)
abbrev cX2_dearest : ByteArray := prog_6_method_21_code
def yX2_dearest : MethodName := ⟨RX2, "dearest", "(I)I"⟩
def dkwX2_dearest_3 : List UInt8 := [132, 4, 1, 167, 255, 195, 29, 172]
abbrev dktX2_dearest_3 : List UInt8 := dkwX2_dearest_3 ++ []
def dkwX2_dearest_2 : List UInt8 := [21, 4, 27, 182, 0, 140, 42, 29, 27, 182, 0, 140, 164, 0, 8, 21, 4, 167, 0, 4, 29, 62]
abbrev dktX2_dearest_2 : List UInt8 := dkwX2_dearest_2 ++ dktX2_dearest_3
def dkwX2_dearest_1 : List UInt8 := [4, 126, 153, 0, 7, 4, 167, 0, 4, 3, 54, 5, 21, 5, 153, 0, 29, 29, 2, 159, 0, 19, 42]
abbrev dktX2_dearest_1 : List UInt8 := dkwX2_dearest_1 ++ dktX2_dearest_2
def dkwX2_dearest_0 : List UInt8 := [42, 27, 182, 0, 119, 61, 2, 62, 3, 54, 4, 21, 4, 42, 180, 0, 35, 162, 0, 58, 28, 21, 4, 122]
abbrev dktX2_dearest_0 : List UInt8 := dkwX2_dearest_0 ++ dktX2_dearest_1
theorem dksX2_dearest_0 : cX2_dearest.data.toList.drop 0 = dktX2_dearest_0 := by decide +kernel
theorem dksX2_dearest_1 : cX2_dearest.data.toList.drop 24 = dktX2_dearest_1 := dk_seg dksX2_dearest_0 24 rfl rfl
theorem dksX2_dearest_2 : cX2_dearest.data.toList.drop 47 = dktX2_dearest_2 := dk_seg dksX2_dearest_1 23 rfl rfl
theorem dksX2_dearest_3 : cX2_dearest.data.toList.drop 69 = dktX2_dearest_3 := dk_seg dksX2_dearest_2 22 rfl rfl
theorem dX2_dearest_0 : decode cX2_dearest 0 = .ok (.aload_n 0, 1) := dk_42 (dk_at dksX2_dearest_0 0 rfl rfl)
theorem dX2_dearest_1 : decode cX2_dearest 1 = .ok (.iload_n 1, 1) := dk_27 (dk_at dksX2_dearest_0 1 rfl rfl)
theorem dX2_dearest_2 : decode cX2_dearest 2 = .ok (.invokevirtual 119, 3) := dk_182 0 119 (dk_at dksX2_dearest_0 2 rfl rfl)
theorem dX2_dearest_5 : decode cX2_dearest 5 = .ok (.istore_n 2, 1) := dk_61 (dk_at dksX2_dearest_0 5 rfl rfl)
theorem dX2_dearest_6 : decode cX2_dearest 6 = .ok (.iconst (-1), 1) := dk_2 (dk_at dksX2_dearest_0 6 rfl rfl)
theorem dX2_dearest_7 : decode cX2_dearest 7 = .ok (.istore_n 3, 1) := dk_62 (dk_at dksX2_dearest_0 7 rfl rfl)
theorem dX2_dearest_8 : decode cX2_dearest 8 = .ok (.iconst 0, 1) := dk_3 (dk_at dksX2_dearest_0 8 rfl rfl)
theorem dX2_dearest_9 : decode cX2_dearest 9 = .ok (.istore 4, 2) := dk_54 4 (dk_at dksX2_dearest_0 9 rfl rfl)
theorem dX2_dearest_11 : decode cX2_dearest 11 = .ok (.iload 4, 2) := dk_21 4 (dk_at dksX2_dearest_0 11 rfl rfl)
theorem dX2_dearest_13 : decode cX2_dearest 13 = .ok (.aload_n 0, 1) := dk_42 (dk_at dksX2_dearest_0 13 rfl rfl)
theorem dX2_dearest_14 : decode cX2_dearest 14 = .ok (.getfield 35, 3) := dk_180 0 35 (dk_at dksX2_dearest_0 14 rfl rfl)
theorem dX2_dearest_17 : decode cX2_dearest 17 = .ok (.if_icmp .ge 58, 3) := dk_162 0 58 (dk_at dksX2_dearest_0 17 rfl rfl)
theorem dX2_dearest_20 : decode cX2_dearest 20 = .ok (.iload_n 2, 1) := dk_28 (dk_at dksX2_dearest_0 20 rfl rfl)
theorem dX2_dearest_21 : decode cX2_dearest 21 = .ok (.iload 4, 2) := dk_21 4 (dk_at dksX2_dearest_0 21 rfl rfl)
theorem dX2_dearest_23 : decode cX2_dearest 23 = .ok (.ishr, 1) := dk_122 (dk_at dksX2_dearest_0 23 rfl rfl)
theorem dX2_dearest_24 : decode cX2_dearest 24 = .ok (.iconst 1, 1) := dk_4 (dk_at dksX2_dearest_1 0 rfl rfl)
theorem dX2_dearest_25 : decode cX2_dearest 25 = .ok (.iand, 1) := dk_126 (dk_at dksX2_dearest_1 1 rfl rfl)
theorem dX2_dearest_26 : decode cX2_dearest 26 = .ok (.ifCond .eq 7, 3) := dk_153 0 7 (dk_at dksX2_dearest_1 2 rfl rfl)
theorem dX2_dearest_29 : decode cX2_dearest 29 = .ok (.iconst 1, 1) := dk_4 (dk_at dksX2_dearest_1 5 rfl rfl)
theorem dX2_dearest_30 : decode cX2_dearest 30 = .ok (.goto 4, 3) := dk_167 0 4 (dk_at dksX2_dearest_1 6 rfl rfl)
theorem dX2_dearest_33 : decode cX2_dearest 33 = .ok (.iconst 0, 1) := dk_3 (dk_at dksX2_dearest_1 9 rfl rfl)
theorem dX2_dearest_34 : decode cX2_dearest 34 = .ok (.istore 5, 2) := dk_54 5 (dk_at dksX2_dearest_1 10 rfl rfl)
theorem dX2_dearest_36 : decode cX2_dearest 36 = .ok (.iload 5, 2) := dk_21 5 (dk_at dksX2_dearest_1 12 rfl rfl)
theorem dX2_dearest_38 : decode cX2_dearest 38 = .ok (.ifCond .eq 29, 3) := dk_153 0 29 (dk_at dksX2_dearest_1 14 rfl rfl)
theorem dX2_dearest_41 : decode cX2_dearest 41 = .ok (.iload_n 3, 1) := dk_29 (dk_at dksX2_dearest_1 17 rfl rfl)
theorem dX2_dearest_42 : decode cX2_dearest 42 = .ok (.iconst (-1), 1) := dk_2 (dk_at dksX2_dearest_1 18 rfl rfl)
theorem dX2_dearest_43 : decode cX2_dearest 43 = .ok (.if_icmp .eq 19, 3) := dk_159 0 19 (dk_at dksX2_dearest_1 19 rfl rfl)
theorem dX2_dearest_46 : decode cX2_dearest 46 = .ok (.aload_n 0, 1) := dk_42 (dk_at dksX2_dearest_1 22 rfl rfl)
theorem dX2_dearest_47 : decode cX2_dearest 47 = .ok (.iload 4, 2) := dk_21 4 (dk_at dksX2_dearest_2 0 rfl rfl)
theorem dX2_dearest_49 : decode cX2_dearest 49 = .ok (.iload_n 1, 1) := dk_27 (dk_at dksX2_dearest_2 2 rfl rfl)
theorem dX2_dearest_50 : decode cX2_dearest 50 = .ok (.invokevirtual 140, 3) := dk_182 0 140 (dk_at dksX2_dearest_2 3 rfl rfl)
theorem dX2_dearest_53 : decode cX2_dearest 53 = .ok (.aload_n 0, 1) := dk_42 (dk_at dksX2_dearest_2 6 rfl rfl)
theorem dX2_dearest_54 : decode cX2_dearest 54 = .ok (.iload_n 3, 1) := dk_29 (dk_at dksX2_dearest_2 7 rfl rfl)
theorem dX2_dearest_55 : decode cX2_dearest 55 = .ok (.iload_n 1, 1) := dk_27 (dk_at dksX2_dearest_2 8 rfl rfl)
theorem dX2_dearest_56 : decode cX2_dearest 56 = .ok (.invokevirtual 140, 3) := dk_182 0 140 (dk_at dksX2_dearest_2 9 rfl rfl)
theorem dX2_dearest_59 : decode cX2_dearest 59 = .ok (.if_icmp .le 8, 3) := dk_164 0 8 (dk_at dksX2_dearest_2 12 rfl rfl)
theorem dX2_dearest_62 : decode cX2_dearest 62 = .ok (.iload 4, 2) := dk_21 4 (dk_at dksX2_dearest_2 15 rfl rfl)
theorem dX2_dearest_64 : decode cX2_dearest 64 = .ok (.goto 4, 3) := dk_167 0 4 (dk_at dksX2_dearest_2 17 rfl rfl)
theorem dX2_dearest_67 : decode cX2_dearest 67 = .ok (.iload_n 3, 1) := dk_29 (dk_at dksX2_dearest_2 20 rfl rfl)
theorem dX2_dearest_68 : decode cX2_dearest 68 = .ok (.istore_n 3, 1) := dk_62 (dk_at dksX2_dearest_2 21 rfl rfl)
theorem dX2_dearest_69 : decode cX2_dearest 69 = .ok (.iinc 4 1, 3) := dk_132 4 1 (dk_at dksX2_dearest_3 0 rfl rfl)
theorem dX2_dearest_72 : decode cX2_dearest 72 = .ok (.goto (-61), 3) := dk_167 255 195 (dk_at dksX2_dearest_3 3 rfl rfl)
theorem dX2_dearest_75 : decode cX2_dearest 75 = .ok (.iload_n 3, 1) := dk_29 (dk_at dksX2_dearest_3 6 rfl rfl)
theorem dX2_dearest_76 : decode cX2_dearest 76 = .ok (.ireturn, 1) := dk_172 (dk_at dksX2_dearest_3 7 rfl rfl)
abbrev cX2_shutters : ByteArray := prog_6_method_25_code
def yX2_shutters : MethodName := ⟨RX2, "shutters", "()I"⟩
def dkwX2_shutters_1 : List UInt8 := [132, 2, 1, 167, 255, 233, 27, 172]
abbrev dktX2_shutters_1 : List UInt8 := dkwX2_shutters_1 ++ []
def dkwX2_shutters_0 : List UInt8 := [3, 60, 3, 61, 28, 42, 180, 0, 35, 162, 0, 21, 27, 42, 180, 0, 32, 28, 46, 184, 0, 122, 96, 60]
abbrev dktX2_shutters_0 : List UInt8 := dkwX2_shutters_0 ++ dktX2_shutters_1
theorem dksX2_shutters_0 : cX2_shutters.data.toList.drop 0 = dktX2_shutters_0 := by decide +kernel
theorem dksX2_shutters_1 : cX2_shutters.data.toList.drop 24 = dktX2_shutters_1 := dk_seg dksX2_shutters_0 24 rfl rfl
theorem dX2_shutters_0 : decode cX2_shutters 0 = .ok (.iconst 0, 1) := dk_3 (dk_at dksX2_shutters_0 0 rfl rfl)
theorem dX2_shutters_1 : decode cX2_shutters 1 = .ok (.istore_n 1, 1) := dk_60 (dk_at dksX2_shutters_0 1 rfl rfl)
theorem dX2_shutters_2 : decode cX2_shutters 2 = .ok (.iconst 0, 1) := dk_3 (dk_at dksX2_shutters_0 2 rfl rfl)
theorem dX2_shutters_3 : decode cX2_shutters 3 = .ok (.istore_n 2, 1) := dk_61 (dk_at dksX2_shutters_0 3 rfl rfl)
theorem dX2_shutters_4 : decode cX2_shutters 4 = .ok (.iload_n 2, 1) := dk_28 (dk_at dksX2_shutters_0 4 rfl rfl)
theorem dX2_shutters_5 : decode cX2_shutters 5 = .ok (.aload_n 0, 1) := dk_42 (dk_at dksX2_shutters_0 5 rfl rfl)
theorem dX2_shutters_6 : decode cX2_shutters 6 = .ok (.getfield 35, 3) := dk_180 0 35 (dk_at dksX2_shutters_0 6 rfl rfl)
theorem dX2_shutters_9 : decode cX2_shutters 9 = .ok (.if_icmp .ge 21, 3) := dk_162 0 21 (dk_at dksX2_shutters_0 9 rfl rfl)
theorem dX2_shutters_12 : decode cX2_shutters 12 = .ok (.iload_n 1, 1) := dk_27 (dk_at dksX2_shutters_0 12 rfl rfl)
theorem dX2_shutters_13 : decode cX2_shutters 13 = .ok (.aload_n 0, 1) := dk_42 (dk_at dksX2_shutters_0 13 rfl rfl)
theorem dX2_shutters_14 : decode cX2_shutters 14 = .ok (.getfield 32, 3) := dk_180 0 32 (dk_at dksX2_shutters_0 14 rfl rfl)
theorem dX2_shutters_17 : decode cX2_shutters 17 = .ok (.iload_n 2, 1) := dk_28 (dk_at dksX2_shutters_0 17 rfl rfl)
theorem dX2_shutters_18 : decode cX2_shutters 18 = .ok (.iaload, 1) := dk_46 (dk_at dksX2_shutters_0 18 rfl rfl)
theorem dX2_shutters_19 : decode cX2_shutters 19 = .ok (.invokestatic 122, 3) := dk_184 0 122 (dk_at dksX2_shutters_0 19 rfl rfl)
theorem dX2_shutters_22 : decode cX2_shutters 22 = .ok (.iadd, 1) := dk_96 (dk_at dksX2_shutters_0 22 rfl rfl)
theorem dX2_shutters_23 : decode cX2_shutters 23 = .ok (.istore_n 1, 1) := dk_60 (dk_at dksX2_shutters_0 23 rfl rfl)
theorem dX2_shutters_24 : decode cX2_shutters 24 = .ok (.iinc 2 1, 3) := dk_132 2 1 (dk_at dksX2_shutters_1 0 rfl rfl)
theorem dX2_shutters_27 : decode cX2_shutters 27 = .ok (.goto (-23), 3) := dk_167 255 233 (dk_at dksX2_shutters_1 3 rfl rfl)
theorem dX2_shutters_30 : decode cX2_shutters 30 = .ok (.iload_n 1, 1) := dk_27 (dk_at dksX2_shutters_1 6 rfl rfl)
theorem dX2_shutters_31 : decode cX2_shutters 31 = .ok (.ireturn, 1) := dk_172 (dk_at dksX2_shutters_1 7 rfl rfl)
abbrev cX2_rights : ByteArray := prog_6_method_19_code
def yX2_rights : MethodName := ⟨RX2, "rights", "()I"⟩
def dkwX2_rights_0 : List UInt8 := [42, 182, 0, 134, 184, 0, 122, 172]
abbrev dktX2_rights_0 : List UInt8 := dkwX2_rights_0 ++ []
theorem dksX2_rights_0 : cX2_rights.data.toList.drop 0 = dktX2_rights_0 := by decide +kernel
theorem dX2_rights_0 : decode cX2_rights 0 = .ok (.aload_n 0, 1) := dk_42 (dk_at dksX2_rights_0 0 rfl rfl)
theorem dX2_rights_1 : decode cX2_rights 1 = .ok (.invokevirtual 134, 3) := dk_182 0 134 (dk_at dksX2_rights_0 1 rfl rfl)
theorem dX2_rights_4 : decode cX2_rights 4 = .ok (.invokestatic 122, 3) := dk_184 0 122 (dk_at dksX2_rights_0 4 rfl rfl)
theorem dX2_rights_7 : decode cX2_rights 7 = .ok (.ireturn, 1) := dk_172 (dk_at dksX2_rights_0 7 rfl rfl)
abbrev cX2_year : ByteArray := prog_6_method_27_code
def yX2_year : MethodName := ⟨RX2, "year", "()I"⟩
def dkwX2_year_3 : List UInt8 := [182, 0, 159, 184, 0, 122, 42, 182, 0, 162, 100, 60, 42, 89, 180, 0, 41, 27, 96, 181, 0, 41, 27, 172]
abbrev dktX2_year_3 : List UInt8 := dkwX2_year_3 ++ []
def dkwX2_year_2 : List UInt8 := [132, 1, 1, 167, 255, 210, 42, 42, 180, 0, 9, 154, 0, 7, 4, 167, 0, 4, 3, 181, 0, 9, 42]
abbrev dktX2_year_2 : List UInt8 := dkwX2_year_2 ++ dktX2_year_3
def dkwX2_year_1 : List UInt8 := [180, 0, 28, 27, 16, 20, 42, 180, 0, 28, 27, 46, 42, 6, 182, 0, 153, 96, 184, 0, 156, 79]
abbrev dktX2_year_1 : List UInt8 := dkwX2_year_1 ++ dktX2_year_2
def dkwX2_year_0 : List UInt8 := [3, 60, 27, 42, 180, 0, 35, 162, 0, 44, 42, 180, 0, 24, 27, 50, 182, 0, 150, 153, 0, 26, 42]
abbrev dktX2_year_0 : List UInt8 := dkwX2_year_0 ++ dktX2_year_1
theorem dksX2_year_0 : cX2_year.data.toList.drop 0 = dktX2_year_0 := by decide +kernel
theorem dksX2_year_1 : cX2_year.data.toList.drop 23 = dktX2_year_1 := dk_seg dksX2_year_0 23 rfl rfl
theorem dksX2_year_2 : cX2_year.data.toList.drop 45 = dktX2_year_2 := dk_seg dksX2_year_1 22 rfl rfl
theorem dksX2_year_3 : cX2_year.data.toList.drop 68 = dktX2_year_3 := dk_seg dksX2_year_2 23 rfl rfl
theorem dX2_year_0 : decode cX2_year 0 = .ok (.iconst 0, 1) := dk_3 (dk_at dksX2_year_0 0 rfl rfl)
theorem dX2_year_1 : decode cX2_year 1 = .ok (.istore_n 1, 1) := dk_60 (dk_at dksX2_year_0 1 rfl rfl)
theorem dX2_year_2 : decode cX2_year 2 = .ok (.iload_n 1, 1) := dk_27 (dk_at dksX2_year_0 2 rfl rfl)
theorem dX2_year_3 : decode cX2_year 3 = .ok (.aload_n 0, 1) := dk_42 (dk_at dksX2_year_0 3 rfl rfl)
theorem dX2_year_4 : decode cX2_year 4 = .ok (.getfield 35, 3) := dk_180 0 35 (dk_at dksX2_year_0 4 rfl rfl)
theorem dX2_year_7 : decode cX2_year 7 = .ok (.if_icmp .ge 44, 3) := dk_162 0 44 (dk_at dksX2_year_0 7 rfl rfl)
theorem dX2_year_10 : decode cX2_year 10 = .ok (.aload_n 0, 1) := dk_42 (dk_at dksX2_year_0 10 rfl rfl)
theorem dX2_year_11 : decode cX2_year 11 = .ok (.getfield 24, 3) := dk_180 0 24 (dk_at dksX2_year_0 11 rfl rfl)
theorem dX2_year_14 : decode cX2_year 14 = .ok (.iload_n 1, 1) := dk_27 (dk_at dksX2_year_0 14 rfl rfl)
theorem dX2_year_15 : decode cX2_year 15 = .ok (.aaload, 1) := dk_50 (dk_at dksX2_year_0 15 rfl rfl)
theorem dX2_year_16 : decode cX2_year 16 = .ok (.invokevirtual 150, 3) := dk_182 0 150 (dk_at dksX2_year_0 16 rfl rfl)
theorem dX2_year_19 : decode cX2_year 19 = .ok (.ifCond .eq 26, 3) := dk_153 0 26 (dk_at dksX2_year_0 19 rfl rfl)
theorem dX2_year_22 : decode cX2_year 22 = .ok (.aload_n 0, 1) := dk_42 (dk_at dksX2_year_0 22 rfl rfl)
theorem dX2_year_23 : decode cX2_year 23 = .ok (.getfield 28, 3) := dk_180 0 28 (dk_at dksX2_year_1 0 rfl rfl)
theorem dX2_year_26 : decode cX2_year 26 = .ok (.iload_n 1, 1) := dk_27 (dk_at dksX2_year_1 3 rfl rfl)
theorem dX2_year_27 : decode cX2_year 27 = .ok (.bipush 20, 2) := dk_16 20 (dk_at dksX2_year_1 4 rfl rfl)
theorem dX2_year_29 : decode cX2_year 29 = .ok (.aload_n 0, 1) := dk_42 (dk_at dksX2_year_1 6 rfl rfl)
theorem dX2_year_30 : decode cX2_year 30 = .ok (.getfield 28, 3) := dk_180 0 28 (dk_at dksX2_year_1 7 rfl rfl)
theorem dX2_year_33 : decode cX2_year 33 = .ok (.iload_n 1, 1) := dk_27 (dk_at dksX2_year_1 10 rfl rfl)
theorem dX2_year_34 : decode cX2_year 34 = .ok (.iaload, 1) := dk_46 (dk_at dksX2_year_1 11 rfl rfl)
theorem dX2_year_35 : decode cX2_year 35 = .ok (.aload_n 0, 1) := dk_42 (dk_at dksX2_year_1 12 rfl rfl)
theorem dX2_year_36 : decode cX2_year 36 = .ok (.iconst 3, 1) := dk_6 (dk_at dksX2_year_1 13 rfl rfl)
theorem dX2_year_37 : decode cX2_year 37 = .ok (.invokevirtual 153, 3) := dk_182 0 153 (dk_at dksX2_year_1 14 rfl rfl)
theorem dX2_year_40 : decode cX2_year 40 = .ok (.iadd, 1) := dk_96 (dk_at dksX2_year_1 17 rfl rfl)
theorem dX2_year_41 : decode cX2_year 41 = .ok (.invokestatic 156, 3) := dk_184 0 156 (dk_at dksX2_year_1 18 rfl rfl)
theorem dX2_year_44 : decode cX2_year 44 = .ok (.iastore, 1) := dk_79 (dk_at dksX2_year_1 21 rfl rfl)
theorem dX2_year_45 : decode cX2_year 45 = .ok (.iinc 1 1, 3) := dk_132 1 1 (dk_at dksX2_year_2 0 rfl rfl)
theorem dX2_year_48 : decode cX2_year 48 = .ok (.goto (-46), 3) := dk_167 255 210 (dk_at dksX2_year_2 3 rfl rfl)
theorem dX2_year_51 : decode cX2_year 51 = .ok (.aload_n 0, 1) := dk_42 (dk_at dksX2_year_2 6 rfl rfl)
theorem dX2_year_52 : decode cX2_year 52 = .ok (.aload_n 0, 1) := dk_42 (dk_at dksX2_year_2 7 rfl rfl)
theorem dX2_year_53 : decode cX2_year 53 = .ok (.getfield 9, 3) := dk_180 0 9 (dk_at dksX2_year_2 8 rfl rfl)
theorem dX2_year_56 : decode cX2_year 56 = .ok (.ifCond .ne 7, 3) := dk_154 0 7 (dk_at dksX2_year_2 11 rfl rfl)
theorem dX2_year_59 : decode cX2_year 59 = .ok (.iconst 1, 1) := dk_4 (dk_at dksX2_year_2 14 rfl rfl)
theorem dX2_year_60 : decode cX2_year 60 = .ok (.goto 4, 3) := dk_167 0 4 (dk_at dksX2_year_2 15 rfl rfl)
theorem dX2_year_63 : decode cX2_year 63 = .ok (.iconst 0, 1) := dk_3 (dk_at dksX2_year_2 18 rfl rfl)
theorem dX2_year_64 : decode cX2_year 64 = .ok (.putfield 9, 3) := dk_181 0 9 (dk_at dksX2_year_2 19 rfl rfl)
theorem dX2_year_67 : decode cX2_year 67 = .ok (.aload_n 0, 1) := dk_42 (dk_at dksX2_year_2 22 rfl rfl)
theorem dX2_year_68 : decode cX2_year 68 = .ok (.invokevirtual 159, 3) := dk_182 0 159 (dk_at dksX2_year_3 0 rfl rfl)
theorem dX2_year_71 : decode cX2_year 71 = .ok (.invokestatic 122, 3) := dk_184 0 122 (dk_at dksX2_year_3 3 rfl rfl)
theorem dX2_year_74 : decode cX2_year 74 = .ok (.aload_n 0, 1) := dk_42 (dk_at dksX2_year_3 6 rfl rfl)
theorem dX2_year_75 : decode cX2_year 75 = .ok (.invokevirtual 162, 3) := dk_182 0 162 (dk_at dksX2_year_3 7 rfl rfl)
theorem dX2_year_78 : decode cX2_year 78 = .ok (.isub, 1) := dk_100 (dk_at dksX2_year_3 10 rfl rfl)
theorem dX2_year_79 : decode cX2_year 79 = .ok (.istore_n 1, 1) := dk_60 (dk_at dksX2_year_3 11 rfl rfl)
theorem dX2_year_80 : decode cX2_year 80 = .ok (.aload_n 0, 1) := dk_42 (dk_at dksX2_year_3 12 rfl rfl)
theorem dX2_year_81 : decode cX2_year 81 = .ok (.dup, 1) := dk_89 (dk_at dksX2_year_3 13 rfl rfl)
theorem dX2_year_82 : decode cX2_year 82 = .ok (.getfield 41, 3) := dk_180 0 41 (dk_at dksX2_year_3 14 rfl rfl)
theorem dX2_year_85 : decode cX2_year 85 = .ok (.iload_n 1, 1) := dk_27 (dk_at dksX2_year_3 17 rfl rfl)
theorem dX2_year_86 : decode cX2_year 86 = .ok (.iadd, 1) := dk_96 (dk_at dksX2_year_3 18 rfl rfl)
theorem dX2_year_87 : decode cX2_year 87 = .ok (.putfield 41, 3) := dk_181 0 41 (dk_at dksX2_year_3 19 rfl rfl)
theorem dX2_year_90 : decode cX2_year 90 = .ok (.iload_n 1, 1) := dk_27 (dk_at dksX2_year_3 22 rfl rfl)
theorem dX2_year_91 : decode cX2_year 91 = .ok (.ireturn, 1) := dk_172 (dk_at dksX2_year_3 23 rfl rfl)
abbrev cX2_draw : ByteArray := prog_6_method_26_code
def yX2_draw : MethodName := ⟨RX2, "draw", "(I)I"⟩
def dkwX2_draw_1 : List UInt8 := [172]
abbrev dktX2_draw_1 : List UInt8 := dkwX2_draw_1 ++ []
def dkwX2_draw_0 : List UInt8 := [42, 42, 180, 0, 19, 18, 149, 104, 17, 48, 57, 96, 181, 0, 19, 42, 180, 0, 19, 16, 16, 124, 27, 112]
abbrev dktX2_draw_0 : List UInt8 := dkwX2_draw_0 ++ dktX2_draw_1
theorem dksX2_draw_0 : cX2_draw.data.toList.drop 0 = dktX2_draw_0 := by decide +kernel
theorem dksX2_draw_1 : cX2_draw.data.toList.drop 24 = dktX2_draw_1 := dk_seg dksX2_draw_0 24 rfl rfl
theorem dX2_draw_0 : decode cX2_draw 0 = .ok (.aload_n 0, 1) := dk_42 (dk_at dksX2_draw_0 0 rfl rfl)
theorem dX2_draw_1 : decode cX2_draw 1 = .ok (.aload_n 0, 1) := dk_42 (dk_at dksX2_draw_0 1 rfl rfl)
theorem dX2_draw_2 : decode cX2_draw 2 = .ok (.getfield 19, 3) := dk_180 0 19 (dk_at dksX2_draw_0 2 rfl rfl)
theorem dX2_draw_5 : decode cX2_draw 5 = .ok (.ldc 149, 2) := dk_18 149 (dk_at dksX2_draw_0 5 rfl rfl)
theorem dX2_draw_7 : decode cX2_draw 7 = .ok (.imul, 1) := dk_104 (dk_at dksX2_draw_0 7 rfl rfl)
theorem dX2_draw_8 : decode cX2_draw 8 = .ok (.sipush 12345, 3) := dk_17 48 57 (dk_at dksX2_draw_0 8 rfl rfl)
theorem dX2_draw_11 : decode cX2_draw 11 = .ok (.iadd, 1) := dk_96 (dk_at dksX2_draw_0 11 rfl rfl)
theorem dX2_draw_12 : decode cX2_draw 12 = .ok (.putfield 19, 3) := dk_181 0 19 (dk_at dksX2_draw_0 12 rfl rfl)
theorem dX2_draw_15 : decode cX2_draw 15 = .ok (.aload_n 0, 1) := dk_42 (dk_at dksX2_draw_0 15 rfl rfl)
theorem dX2_draw_16 : decode cX2_draw 16 = .ok (.getfield 19, 3) := dk_180 0 19 (dk_at dksX2_draw_0 16 rfl rfl)
theorem dX2_draw_19 : decode cX2_draw 19 = .ok (.bipush 16, 2) := dk_16 16 (dk_at dksX2_draw_0 19 rfl rfl)
theorem dX2_draw_21 : decode cX2_draw 21 = .ok (.iushr, 1) := dk_124 (dk_at dksX2_draw_0 21 rfl rfl)
theorem dX2_draw_22 : decode cX2_draw 22 = .ok (.iload_n 1, 1) := dk_27 (dk_at dksX2_draw_0 22 rfl rfl)
theorem dX2_draw_23 : decode cX2_draw 23 = .ok (.irem, 1) := dk_112 (dk_at dksX2_draw_0 23 rfl rfl)
theorem dX2_draw_24 : decode cX2_draw 24 = .ok (.ireturn, 1) := dk_172 (dk_at dksX2_draw_1 0 rfl rfl)
theorem q77 : (Jvm.Cond.initialized "SeenByOne$Ground") ∈ lw_all := lw_g (lw_at lw_m1 3 rfl) rfl
theorem q136 : (Jvm.Cond.instantiable "SeenByOne$Ground" (9 : Nat)) ∈ lw_all := lw_g (lw_at lw_m1 62 rfl) rfl
theorem q138 : (Jvm.Cond.instanceMethod ({ cls := "SeenByOne$Ground", name := "<init>", desc := "()V" } : Jvm.MethodName)) ∈ lw_all := lw_g (lw_at lw_m1 64 rfl) rfl
theorem q139 : (Jvm.Cond.code ({ cls := "SeenByOne$Ground", name := "<init>", desc := "()V" } : Jvm.MethodName) prog_6_method_1_code (1 : Nat) (Option.none : Option Jvm.ClassFile.FieldType)) ∈ lw_all := lw_g (lw_at lw_m1 65 rfl) rfl
theorem q140 : (Jvm.Cond.methodLink "SeenByOne$Ground" (3 : Nat) ({ cls := "java/lang/Object", name := "<init>", desc := "()V" } : Jvm.MethodName)) ∈ lw_all := lw_g (lw_at lw_m1 66 rfl) rfl
theorem q141 : (Jvm.Cond.classLink "SeenByOne$Ground" (22 : Nat) "SeenByOne$Thing") ∈ lw_all := lw_g (lw_at lw_m1 67 rfl) rfl
theorem q143 : (Jvm.Cond.fieldLink "SeenByOne$Ground" (35 : Nat) "SeenByOne$Ground" "many" "I") ∈ lw_all := lw_g (lw_at lw_m1 69 rfl) rfl
theorem q146 : (Jvm.Cond.fieldLink "SeenByOne$Ground" (9 : Nat) "SeenByOne$Ground" "summer" "Z") ∈ lw_all := lw_g (lw_at lw_m1 72 rfl) rfl
theorem q149 : (Jvm.Cond.fieldLink "SeenByOne$Ground" (15 : Nat) "SeenByOne$Ground" "far" "I") ∈ lw_all := lw_g (lw_at lw_m1 75 rfl) rfl
theorem q152 : (Jvm.Cond.fieldLink "SeenByOne$Ground" (38 : Nat) "SeenByOne$Ground" "drawn" "I") ∈ lw_all := lw_g (lw_at lw_m1 78 rfl) rfl
theorem q155 : (Jvm.Cond.fieldLink "SeenByOne$Ground" (41 : Nat) "SeenByOne$Ground" "fines" "I") ∈ lw_all := lw_g (lw_at lw_m1 81 rfl) rfl
theorem q157 : (Jvm.Cond.fieldLink "SeenByOne$Ground" (19 : Nat) "SeenByOne$Ground" "seed" "I") ∈ lw_all := lw_g (lw_at lw_m1 83 rfl) rfl
theorem q159 : (Jvm.Cond.fieldLink "SeenByOne$Ground" (24 : Nat) "SeenByOne$Ground" "things" "[LSeenByOne$Thing;") ∈ lw_all := lw_g (lw_at lw_m1 85 rfl) rfl
theorem q161 : (Jvm.Cond.fieldLink "SeenByOne$Ground" (28 : Nat) "SeenByOne$Ground" "height" "[I") ∈ lw_all := lw_g (lw_at lw_m1 87 rfl) rfl
theorem q164 : (Jvm.Cond.fieldLink "SeenByOne$Ground" (32 : Nat) "SeenByOne$Ground" "shut" "[I") ∈ lw_all := lw_g (lw_at lw_m1 90 rfl) rfl
theorem q167 : (Jvm.Cond.lays "SeenByOne$Ground" "SeenByOne$Ground" "many" "I") ∈ lw_all := lw_g (lw_at lw_m1 93 rfl) rfl
theorem q168 : (Jvm.Cond.soleField "SeenByOne$Ground" "many") ∈ lw_all := lw_g (lw_at lw_m1 94 rfl) rfl
theorem q169 : (Jvm.Cond.lays "SeenByOne$Ground" "SeenByOne$Ground" "summer" "Z") ∈ lw_all := lw_g (lw_at lw_m1 95 rfl) rfl
theorem q170 : (Jvm.Cond.soleField "SeenByOne$Ground" "summer") ∈ lw_all := lw_g (lw_at lw_m1 96 rfl) rfl
theorem q171 : (Jvm.Cond.lays "SeenByOne$Ground" "SeenByOne$Ground" "far" "I") ∈ lw_all := lw_g (lw_at lw_m1 97 rfl) rfl
theorem q172 : (Jvm.Cond.soleField "SeenByOne$Ground" "far") ∈ lw_all := lw_g (lw_at lw_m1 98 rfl) rfl
theorem q173 : (Jvm.Cond.lays "SeenByOne$Ground" "SeenByOne$Ground" "drawn" "I") ∈ lw_all := lw_g (lw_at lw_m1 99 rfl) rfl
theorem q174 : (Jvm.Cond.soleField "SeenByOne$Ground" "drawn") ∈ lw_all := lw_g (lw_at lw_m1 100 rfl) rfl
theorem q175 : (Jvm.Cond.lays "SeenByOne$Ground" "SeenByOne$Ground" "fines" "I") ∈ lw_all := lw_g (lw_at lw_m1 101 rfl) rfl
theorem q176 : (Jvm.Cond.soleField "SeenByOne$Ground" "fines") ∈ lw_all := lw_g (lw_at lw_m1 102 rfl) rfl
theorem q177 : (Jvm.Cond.lays "SeenByOne$Ground" "SeenByOne$Ground" "seed" "I") ∈ lw_all := lw_g (lw_at lw_m1 103 rfl) rfl
theorem q178 : (Jvm.Cond.soleField "SeenByOne$Ground" "seed") ∈ lw_all := lw_g (lw_at lw_m1 104 rfl) rfl
theorem q179 : (Jvm.Cond.laysFinal "SeenByOne$Ground" "SeenByOne$Ground" "things" "[LSeenByOne$Thing;") ∈ lw_all := lw_g (lw_at lw_m1 105 rfl) rfl
theorem q180 : (Jvm.Cond.soleField "SeenByOne$Ground" "things") ∈ lw_all := lw_g (lw_at lw_m1 106 rfl) rfl
theorem q181 : (Jvm.Cond.laysFinal "SeenByOne$Ground" "SeenByOne$Ground" "height" "[I") ∈ lw_all := lw_g (lw_at lw_m1 107 rfl) rfl
theorem q182 : (Jvm.Cond.soleField "SeenByOne$Ground" "height") ∈ lw_all := lw_g (lw_at lw_m1 108 rfl) rfl
theorem q183 : (Jvm.Cond.laysFinal "SeenByOne$Ground" "SeenByOne$Ground" "shut" "[I") ∈ lw_all := lw_g (lw_at lw_m1 109 rfl) rfl
theorem q184 : (Jvm.Cond.soleField "SeenByOne$Ground" "shut") ∈ lw_all := lw_g (lw_at lw_m1 110 rfl) rfl
theorem q185 : (Jvm.Cond.superclass "SeenByOne$Ground" "java/lang/Object") ∈ lw_all := lw_g (lw_at lw_m1 111 rfl) rfl
theorem q513 : (Jvm.Cond.instanceMethod ({ cls := "SeenByOne$Ground", name := "isThing", desc := "(I)Z" } : Jvm.MethodName)) ∈ lw_all := lw_g (lw_at lw_m2 199 rfl) rfl
theorem q514 : (Jvm.Cond.selects "SeenByOne$Ground" ({ cls := "SeenByOne$Ground", name := "isThing", desc := "(I)Z" } : Jvm.MethodName) ({ cls := "SeenByOne$Ground", name := "isThing", desc := "(I)Z" } : Jvm.MethodName)) ∈ lw_all := lw_g (lw_at lw_m2 200 rfl) rfl
theorem q515 : (Jvm.Cond.code ({ cls := "SeenByOne$Ground", name := "isThing", desc := "(I)Z" } : Jvm.MethodName) prog_6_method_4_code (2 : Nat) (Option.some Jvm.ClassFile.FieldType.boolean)) ∈ lw_all := lw_g (lw_at lw_m2 201 rfl) rfl
theorem q516 : (Jvm.Cond.methodLink "SeenByOne$Ground" (54 : Nat) ({ cls := "SeenByOne", name := "in", desc := "(JJJ)Z" } : Jvm.MethodName)) ∈ lw_all := lw_g (lw_at lw_m2 202 rfl) rfl
theorem q534 : (Jvm.Cond.instanceMethod ({ cls := "SeenByOne$Ground", name := "seers", desc := "(I)I" } : Jvm.MethodName)) ∈ lw_all := lw_g (lw_at lw_m2 220 rfl) rfl
theorem q535 : (Jvm.Cond.selects "SeenByOne$Ground" ({ cls := "SeenByOne$Ground", name := "seers", desc := "(I)I" } : Jvm.MethodName) ({ cls := "SeenByOne$Ground", name := "seers", desc := "(I)I" } : Jvm.MethodName)) ∈ lw_all := lw_g (lw_at lw_m2 221 rfl) rfl
theorem q536 : (Jvm.Cond.code ({ cls := "SeenByOne$Ground", name := "seers", desc := "(I)I" } : Jvm.MethodName) prog_6_method_16_code (4 : Nat) (Option.some Jvm.ClassFile.FieldType.int)) ∈ lw_all := lw_g (lw_at lw_m2 222 rfl) rfl
theorem q537 : (Jvm.Cond.methodLink "SeenByOne$Ground" (113 : Nat) ({ cls := "SeenByOne$Ground", name := "into", desc := "(I)I" } : Jvm.MethodName)) ∈ lw_all := lw_g (lw_at lw_m2 223 rfl) rfl
theorem q538 : (Jvm.Cond.instanceMethod ({ cls := "SeenByOne$Ground", name := "into", desc := "(I)I" } : Jvm.MethodName)) ∈ lw_all := lw_g (lw_at lw_m2 224 rfl) rfl
theorem q539 : (Jvm.Cond.selects "SeenByOne$Ground" ({ cls := "SeenByOne$Ground", name := "into", desc := "(I)I" } : Jvm.MethodName) ({ cls := "SeenByOne$Ground", name := "into", desc := "(I)I" } : Jvm.MethodName)) ∈ lw_all := lw_g (lw_at lw_m2 225 rfl) rfl
theorem q540 : (Jvm.Cond.code ({ cls := "SeenByOne$Ground", name := "into", desc := "(I)I" } : Jvm.MethodName) prog_6_method_15_code (4 : Nat) (Option.some Jvm.ClassFile.FieldType.int)) ∈ lw_all := lw_g (lw_at lw_m2 226 rfl) rfl
theorem q541 : (Jvm.Cond.methodLink "SeenByOne$Ground" (108 : Nat) ({ cls := "SeenByOne$Ground", name := "isHouse", desc := "(I)Z" } : Jvm.MethodName)) ∈ lw_all := lw_g (lw_at lw_m2 227 rfl) rfl
theorem q542 : (Jvm.Cond.instanceMethod ({ cls := "SeenByOne$Ground", name := "isHouse", desc := "(I)Z" } : Jvm.MethodName)) ∈ lw_all := lw_g (lw_at lw_m2 228 rfl) rfl
theorem q543 : (Jvm.Cond.selects "SeenByOne$Ground" ({ cls := "SeenByOne$Ground", name := "isHouse", desc := "(I)Z" } : Jvm.MethodName) ({ cls := "SeenByOne$Ground", name := "isHouse", desc := "(I)Z" } : Jvm.MethodName)) ∈ lw_all := lw_g (lw_at lw_m2 229 rfl) rfl
theorem q544 : (Jvm.Cond.code ({ cls := "SeenByOne$Ground", name := "isHouse", desc := "(I)Z" } : Jvm.MethodName) prog_6_method_5_code (2 : Nat) (Option.some Jvm.ClassFile.FieldType.boolean)) ∈ lw_all := lw_g (lw_at lw_m2 230 rfl) rfl
theorem q545 : (Jvm.Cond.methodLink "SeenByOne$Ground" (58 : Nat) ({ cls := "SeenByOne$Ground", name := "isThing", desc := "(I)Z" } : Jvm.MethodName)) ∈ lw_all := lw_g (lw_at lw_m2 231 rfl) rfl
theorem q546 : (Jvm.Cond.methodLink "SeenByOne$Ground" (62 : Nat) ({ cls := "SeenByOne$Thing", name := "isHouse", desc := "()Z" } : Jvm.MethodName)) ∈ lw_all := lw_g (lw_at lw_m2 232 rfl) rfl
theorem q559 : (Jvm.Cond.methodLink "SeenByOne$Ground" (110 : Nat) ({ cls := "SeenByOne$Ground", name := "seesInto", desc := "(II)Z" } : Jvm.MethodName)) ∈ lw_all := lw_g (lw_at lw_m3 5 rfl) rfl
theorem q560 : (Jvm.Cond.instanceMethod ({ cls := "SeenByOne$Ground", name := "seesInto", desc := "(II)Z" } : Jvm.MethodName)) ∈ lw_all := lw_g (lw_at lw_m3 6 rfl) rfl
theorem q561 : (Jvm.Cond.selects "SeenByOne$Ground" ({ cls := "SeenByOne$Ground", name := "seesInto", desc := "(II)Z" } : Jvm.MethodName) ({ cls := "SeenByOne$Ground", name := "seesInto", desc := "(II)Z" } : Jvm.MethodName)) ∈ lw_all := lw_g (lw_at lw_m3 7 rfl) rfl
theorem q562 : (Jvm.Cond.code ({ cls := "SeenByOne$Ground", name := "seesInto", desc := "(II)Z" } : Jvm.MethodName) prog_6_method_14_code (3 : Nat) (Option.some Jvm.ClassFile.FieldType.boolean)) ∈ lw_all := lw_g (lw_at lw_m3 8 rfl) rfl
theorem q563 : (Jvm.Cond.methodLink "SeenByOne$Ground" (104 : Nat) ({ cls := "SeenByOne$Ground", name := "looksInto", desc := "(II)Z" } : Jvm.MethodName)) ∈ lw_all := lw_g (lw_at lw_m3 9 rfl) rfl
theorem q564 : (Jvm.Cond.instanceMethod ({ cls := "SeenByOne$Ground", name := "looksInto", desc := "(II)Z" } : Jvm.MethodName)) ∈ lw_all := lw_g (lw_at lw_m3 10 rfl) rfl
theorem q565 : (Jvm.Cond.selects "SeenByOne$Ground" ({ cls := "SeenByOne$Ground", name := "looksInto", desc := "(II)Z" } : Jvm.MethodName) ({ cls := "SeenByOne$Ground", name := "looksInto", desc := "(II)Z" } : Jvm.MethodName)) ∈ lw_all := lw_g (lw_at lw_m3 11 rfl) rfl
theorem q566 : (Jvm.Cond.code ({ cls := "SeenByOne$Ground", name := "looksInto", desc := "(II)Z" } : Jvm.MethodName) prog_6_method_13_code (3 : Nat) (Option.some Jvm.ClassFile.FieldType.boolean)) ∈ lw_all := lw_g (lw_at lw_m3 12 rfl) rfl
theorem q567 : (Jvm.Cond.methodLink "SeenByOne$Ground" (91 : Nat) ({ cls := "SeenByOne$Thing", name := "eyes", desc := "(I)I" } : Jvm.MethodName)) ∈ lw_all := lw_g (lw_at lw_m3 13 rfl) rfl
theorem q586 : (Jvm.Cond.methodLink "SeenByOne$Ground" (98 : Nat) ({ cls := "SeenByOne$Ground", name := "distance", desc := "(II)I" } : Jvm.MethodName)) ∈ lw_all := lw_g (lw_at lw_m3 32 rfl) rfl
theorem q587 : (Jvm.Cond.instanceMethod ({ cls := "SeenByOne$Ground", name := "distance", desc := "(II)I" } : Jvm.MethodName)) ∈ lw_all := lw_g (lw_at lw_m3 33 rfl) rfl
theorem q588 : (Jvm.Cond.selects "SeenByOne$Ground" ({ cls := "SeenByOne$Ground", name := "distance", desc := "(II)I" } : Jvm.MethodName) ({ cls := "SeenByOne$Ground", name := "distance", desc := "(II)I" } : Jvm.MethodName)) ∈ lw_all := lw_g (lw_at lw_m3 34 rfl) rfl
theorem q589 : (Jvm.Cond.code ({ cls := "SeenByOne$Ground", name := "distance", desc := "(II)I" } : Jvm.MethodName) prog_6_method_9_code (3 : Nat) (Option.some Jvm.ClassFile.FieldType.int)) ∈ lw_all := lw_g (lw_at lw_m3 35 rfl) rfl
theorem q590 : (Jvm.Cond.methodLink "SeenByOne$Ground" (76 : Nat) ({ cls := "java/lang/Math", name := "abs", desc := "(I)I" } : Jvm.MethodName)) ∈ lw_all := lw_g (lw_at lw_m3 36 rfl) rfl
theorem q593 : (Jvm.Cond.methodLink "SeenByOne$Ground" (82 : Nat) ({ cls := "java/lang/Math", name := "max", desc := "(II)I" } : Jvm.MethodName)) ∈ lw_all := lw_g (lw_at lw_m3 39 rfl) rfl
theorem q596 : (Jvm.Cond.methodLink "SeenByOne$Ground" (101 : Nat) ({ cls := "SeenByOne$Ground", name := "bars", desc := "(II)I" } : Jvm.MethodName)) ∈ lw_all := lw_g (lw_at lw_m3 42 rfl) rfl
theorem q597 : (Jvm.Cond.instanceMethod ({ cls := "SeenByOne$Ground", name := "bars", desc := "(II)I" } : Jvm.MethodName)) ∈ lw_all := lw_g (lw_at lw_m3 43 rfl) rfl
theorem q598 : (Jvm.Cond.selects "SeenByOne$Ground" ({ cls := "SeenByOne$Ground", name := "bars", desc := "(II)I" } : Jvm.MethodName) ({ cls := "SeenByOne$Ground", name := "bars", desc := "(II)I" } : Jvm.MethodName)) ∈ lw_all := lw_g (lw_at lw_m3 44 rfl) rfl
theorem q599 : (Jvm.Cond.code ({ cls := "SeenByOne$Ground", name := "bars", desc := "(II)I" } : Jvm.MethodName) prog_6_method_12_code (5 : Nat) (Option.some Jvm.ClassFile.FieldType.int)) ∈ lw_all := lw_g (lw_at lw_m3 45 rfl) rfl
theorem q600 : (Jvm.Cond.methodLink "SeenByOne$Ground" (94 : Nat) ({ cls := "SeenByOne$Ground", name := "isInWay", desc := "(IIII)Z" } : Jvm.MethodName)) ∈ lw_all := lw_g (lw_at lw_m3 46 rfl) rfl
theorem q601 : (Jvm.Cond.privateMethod ({ cls := "SeenByOne$Ground", name := "isInWay", desc := "(IIII)Z" } : Jvm.MethodName)) ∈ lw_tbl := lw_at lw_m3 47 rfl
theorem q602 : (Jvm.Cond.instanceMethod ({ cls := "SeenByOne$Ground", name := "isInWay", desc := "(IIII)Z" } : Jvm.MethodName)) ∈ lw_all := lw_g (lw_at lw_m3 48 rfl) rfl
theorem q603 : (Jvm.Cond.code ({ cls := "SeenByOne$Ground", name := "isInWay", desc := "(IIII)Z" } : Jvm.MethodName) prog_6_method_10_code (10 : Nat) (Option.some Jvm.ClassFile.FieldType.boolean)) ∈ lw_all := lw_g (lw_at lw_m3 49 rfl) rfl
theorem q604 : (Jvm.Cond.methodLink "SeenByOne$Ground" (86 : Nat) ({ cls := "SeenByOne$Ground", name := "common", desc := "(II)I" } : Jvm.MethodName)) ∈ lw_all := lw_g (lw_at lw_m3 50 rfl) rfl
theorem q605 : (Jvm.Cond.static ({ cls := "SeenByOne$Ground", name := "common", desc := "(II)I" } : Jvm.MethodName)) ∈ lw_all := lw_g (lw_at lw_m3 51 rfl) rfl
theorem q606 : (Jvm.Cond.code ({ cls := "SeenByOne$Ground", name := "common", desc := "(II)I" } : Jvm.MethodName) prog_6_method_11_code (2 : Nat) (Option.some Jvm.ClassFile.FieldType.int)) ∈ lw_all := lw_g (lw_at lw_m3 52 rfl) rfl
theorem q607 : (Jvm.Cond.methodLink "SeenByOne$Ground" (89 : Nat) ({ cls := "SeenByOne$Ground", name := "tall", desc := "(I)I" } : Jvm.MethodName)) ∈ lw_all := lw_g (lw_at lw_m3 53 rfl) rfl
theorem q608 : (Jvm.Cond.instanceMethod ({ cls := "SeenByOne$Ground", name := "tall", desc := "(I)I" } : Jvm.MethodName)) ∈ lw_all := lw_g (lw_at lw_m3 54 rfl) rfl
theorem q609 : (Jvm.Cond.selects "SeenByOne$Ground" ({ cls := "SeenByOne$Ground", name := "tall", desc := "(I)I" } : Jvm.MethodName) ({ cls := "SeenByOne$Ground", name := "tall", desc := "(I)I" } : Jvm.MethodName)) ∈ lw_all := lw_g (lw_at lw_m3 55 rfl) rfl
theorem q610 : (Jvm.Cond.code ({ cls := "SeenByOne$Ground", name := "tall", desc := "(I)I" } : Jvm.MethodName) prog_6_method_8_code (2 : Nat) (Option.some Jvm.ClassFile.FieldType.int)) ∈ lw_all := lw_g (lw_at lw_m3 56 rfl) rfl
theorem q611 : (Jvm.Cond.methodLink "SeenByOne$Ground" (72 : Nat) ({ cls := "SeenByOne$Thing", name := "tall", desc := "(IZ)I" } : Jvm.MethodName)) ∈ lw_all := lw_g (lw_at lw_m3 57 rfl) rfl
theorem q630 : (Jvm.Cond.methodLink "SeenByOne$Ground" (116 : Nat) ({ cls := "SeenByOne$Thing", name := "counts", desc := "()Z" } : Jvm.MethodName)) ∈ lw_all := lw_g (lw_at lw_m3 76 rfl) rfl
theorem q656 : (Jvm.Cond.instanceMethod ({ cls := "SeenByOne$Ground", name := "isRight", desc := "(I)Z" } : Jvm.MethodName)) ∈ lw_all := lw_g (lw_at lw_m3 102 rfl) rfl
theorem q657 : (Jvm.Cond.selects "SeenByOne$Ground" ({ cls := "SeenByOne$Ground", name := "isRight", desc := "(I)Z" } : Jvm.MethodName) ({ cls := "SeenByOne$Ground", name := "isRight", desc := "(I)Z" } : Jvm.MethodName)) ∈ lw_all := lw_g (lw_at lw_m3 103 rfl) rfl
theorem q658 : (Jvm.Cond.code ({ cls := "SeenByOne$Ground", name := "isRight", desc := "(I)Z" } : Jvm.MethodName) prog_6_method_17_code (2 : Nat) (Option.some Jvm.ClassFile.FieldType.boolean)) ∈ lw_all := lw_g (lw_at lw_m3 104 rfl) rfl
theorem q659 : (Jvm.Cond.methodLink "SeenByOne$Ground" (119 : Nat) ({ cls := "SeenByOne$Ground", name := "seers", desc := "(I)I" } : Jvm.MethodName)) ∈ lw_all := lw_g (lw_at lw_m3 105 rfl) rfl
theorem q660 : (Jvm.Cond.methodLink "SeenByOne$Ground" (122 : Nat) ({ cls := "java/lang/Integer", name := "bitCount", desc := "(I)I" } : Jvm.MethodName)) ∈ lw_all := lw_g (lw_at lw_m3 106 rfl) rfl
theorem q661 : (Jvm.Cond.methodLink "SeenByOne$Ground" (127 : Nat) ({ cls := "SeenByOne$Thing", name := "wanted", desc := "()I" } : Jvm.MethodName)) ∈ lw_all := lw_g (lw_at lw_m3 107 rfl) rfl
theorem q696 : (Jvm.Cond.instanceMethod ({ cls := "SeenByOne$Ground", name := "isFree", desc := "(II)Z" } : Jvm.MethodName)) ∈ lw_all := lw_g (lw_at lw_m3 142 rfl) rfl
theorem q697 : (Jvm.Cond.selects "SeenByOne$Ground" ({ cls := "SeenByOne$Ground", name := "isFree", desc := "(II)Z" } : Jvm.MethodName) ({ cls := "SeenByOne$Ground", name := "isFree", desc := "(II)Z" } : Jvm.MethodName)) ∈ lw_all := lw_g (lw_at lw_m3 143 rfl) rfl
theorem q698 : (Jvm.Cond.code ({ cls := "SeenByOne$Ground", name := "isFree", desc := "(II)Z" } : Jvm.MethodName) prog_6_method_7_code (4 : Nat) (Option.some Jvm.ClassFile.FieldType.boolean)) ∈ lw_all := lw_g (lw_at lw_m3 144 rfl) rfl
theorem q700 : (Jvm.Cond.instanceMethod ({ cls := "SeenByOne$Ground", name := "add", desc := "(IIIII)I" } : Jvm.MethodName)) ∈ lw_all := lw_g (lw_at lw_m3 146 rfl) rfl
theorem q701 : (Jvm.Cond.selects "SeenByOne$Ground" ({ cls := "SeenByOne$Ground", name := "add", desc := "(IIIII)I" } : Jvm.MethodName) ({ cls := "SeenByOne$Ground", name := "add", desc := "(IIIII)I" } : Jvm.MethodName)) ∈ lw_all := lw_g (lw_at lw_m3 147 rfl) rfl
theorem q702 : (Jvm.Cond.code ({ cls := "SeenByOne$Ground", name := "add", desc := "(IIIII)I" } : Jvm.MethodName) prog_6_method_3_code (6 : Nat) (Option.some Jvm.ClassFile.FieldType.int)) ∈ lw_all := lw_g (lw_at lw_m3 148 rfl) rfl
theorem q703 : (Jvm.Cond.methodLink "SeenByOne$Ground" (50 : Nat) ({ cls := "SeenByOne", name := "thingOfKind", desc := "(IIIII)LSeenByOne$Thing;" } : Jvm.MethodName)) ∈ lw_all := lw_g (lw_at lw_m3 149 rfl) rfl
theorem q728 : (Jvm.Cond.fieldLink "SeenByOne$Ground" (66 : Nat) "SeenByOne$Thing" "x" "I") ∈ lw_all := lw_g (lw_at lw_m3 174 rfl) rfl
theorem q731 : (Jvm.Cond.fieldLink "SeenByOne$Ground" (69 : Nat) "SeenByOne$Thing" "y" "I") ∈ lw_all := lw_g (lw_at lw_m3 177 rfl) rfl
theorem q742 : (Jvm.Cond.fieldLink "SeenByOne$Ground" (137 : Nat) "SeenByOne$Thing" "by" "I") ∈ lw_all := lw_g (lw_at lw_m3 188 rfl) rfl
theorem q873 : (Jvm.Cond.instanceMethod ({ cls := "SeenByOne$Ground", name := "take", desc := "(LSeenByOne$Ground;)LSeenByOne$Ground;" } : Jvm.MethodName)) ∈ lw_all := lw_g (lw_at lw_m4 79 rfl) rfl
theorem q874 : (Jvm.Cond.selects "SeenByOne$Ground" ({ cls := "SeenByOne$Ground", name := "take", desc := "(LSeenByOne$Ground;)LSeenByOne$Ground;" } : Jvm.MethodName) ({ cls := "SeenByOne$Ground", name := "take", desc := "(LSeenByOne$Ground;)LSeenByOne$Ground;" } : Jvm.MethodName)) ∈ lw_all := lw_g (lw_at lw_m4 80 rfl) rfl
theorem q875 : (Jvm.Cond.code ({ cls := "SeenByOne$Ground", name := "take", desc := "(LSeenByOne$Ground;)LSeenByOne$Ground;" } : Jvm.MethodName) prog_6_method_2_code (2 : Nat) (Option.some (Jvm.ClassFile.FieldType.object "SeenByOne$Ground"))) ∈ lw_all := lw_g (lw_at lw_m4 81 rfl) rfl
theorem q876 : (Jvm.Cond.methodLink "SeenByOne$Ground" (44 : Nat) ({ cls := "java/lang/System", name := "arraycopy", desc := "(Ljava/lang/Object;ILjava/lang/Object;II)V" } : Jvm.MethodName)) ∈ lw_all := lw_g (lw_at lw_m4 82 rfl) rfl
theorem q1065 : (Jvm.Cond.instanceMethod ({ cls := "SeenByOne$Ground", name := "right", desc := "()I" } : Jvm.MethodName)) ∈ lw_all := lw_g (lw_at lw_m5 31 rfl) rfl
theorem q1066 : (Jvm.Cond.selects "SeenByOne$Ground" ({ cls := "SeenByOne$Ground", name := "right", desc := "()I" } : Jvm.MethodName) ({ cls := "SeenByOne$Ground", name := "right", desc := "()I" } : Jvm.MethodName)) ∈ lw_all := lw_g (lw_at lw_m5 32 rfl) rfl
theorem q1067 : (Jvm.Cond.code ({ cls := "SeenByOne$Ground", name := "right", desc := "()I" } : Jvm.MethodName) prog_6_method_18_code (3 : Nat) (Option.some Jvm.ClassFile.FieldType.int)) ∈ lw_all := lw_g (lw_at lw_m5 33 rfl) rfl
theorem q1068 : (Jvm.Cond.methodLink "SeenByOne$Ground" (131 : Nat) ({ cls := "SeenByOne$Ground", name := "isRight", desc := "(I)Z" } : Jvm.MethodName)) ∈ lw_all := lw_g (lw_at lw_m5 34 rfl) rfl
theorem q1074 : (Jvm.Cond.instanceMethod ({ cls := "SeenByOne$Ground", name := "houses", desc := "()I" } : Jvm.MethodName)) ∈ lw_all := lw_g (lw_at lw_m5 40 rfl) rfl
theorem q1075 : (Jvm.Cond.selects "SeenByOne$Ground" ({ cls := "SeenByOne$Ground", name := "houses", desc := "()I" } : Jvm.MethodName) ({ cls := "SeenByOne$Ground", name := "houses", desc := "()I" } : Jvm.MethodName)) ∈ lw_all := lw_g (lw_at lw_m5 41 rfl) rfl
theorem q1076 : (Jvm.Cond.code ({ cls := "SeenByOne$Ground", name := "houses", desc := "()I" } : Jvm.MethodName) prog_6_method_6_code (3 : Nat) (Option.some Jvm.ClassFile.FieldType.int)) ∈ lw_all := lw_g (lw_at lw_m5 42 rfl) rfl
theorem q1086 : (Jvm.Cond.instanceMethod ({ cls := "SeenByOne$Ground", name := "cost", desc := "(II)I" } : Jvm.MethodName)) ∈ lw_all := lw_g (lw_at lw_m5 52 rfl) rfl
theorem q1087 : (Jvm.Cond.selects "SeenByOne$Ground" ({ cls := "SeenByOne$Ground", name := "cost", desc := "(II)I" } : Jvm.MethodName) ({ cls := "SeenByOne$Ground", name := "cost", desc := "(II)I" } : Jvm.MethodName)) ∈ lw_all := lw_g (lw_at lw_m5 53 rfl) rfl
theorem q1088 : (Jvm.Cond.code ({ cls := "SeenByOne$Ground", name := "cost", desc := "(II)I" } : Jvm.MethodName) prog_6_method_20_code (3 : Nat) (Option.some Jvm.ClassFile.FieldType.int)) ∈ lw_all := lw_g (lw_at lw_m5 54 rfl) rfl
theorem q1095 : (Jvm.Cond.instanceMethod ({ cls := "SeenByOne$Ground", name := "canBe", desc := "(I)Z" } : Jvm.MethodName)) ∈ lw_all := lw_g (lw_at lw_m5 61 rfl) rfl
theorem q1096 : (Jvm.Cond.selects "SeenByOne$Ground" ({ cls := "SeenByOne$Ground", name := "canBe", desc := "(I)Z" } : Jvm.MethodName) ({ cls := "SeenByOne$Ground", name := "canBe", desc := "(I)Z" } : Jvm.MethodName)) ∈ lw_all := lw_g (lw_at lw_m5 62 rfl) rfl
theorem q1097 : (Jvm.Cond.code ({ cls := "SeenByOne$Ground", name := "canBe", desc := "(I)Z" } : Jvm.MethodName) prog_6_method_23_code (2 : Nat) (Option.some Jvm.ClassFile.FieldType.boolean)) ∈ lw_all := lw_g (lw_at lw_m5 63 rfl) rfl
theorem q1099 : (Jvm.Cond.instanceMethod ({ cls := "SeenByOne$Ground", name := "toShut", desc := "(I)I" } : Jvm.MethodName)) ∈ lw_all := lw_g (lw_at lw_m5 65 rfl) rfl
theorem q1100 : (Jvm.Cond.selects "SeenByOne$Ground" ({ cls := "SeenByOne$Ground", name := "toShut", desc := "(I)I" } : Jvm.MethodName) ({ cls := "SeenByOne$Ground", name := "toShut", desc := "(I)I" } : Jvm.MethodName)) ∈ lw_all := lw_g (lw_at lw_m5 66 rfl) rfl
theorem q1101 : (Jvm.Cond.code ({ cls := "SeenByOne$Ground", name := "toShut", desc := "(I)I" } : Jvm.MethodName) prog_6_method_24_code (3 : Nat) (Option.some Jvm.ClassFile.FieldType.int)) ∈ lw_all := lw_g (lw_at lw_m5 67 rfl) rfl
theorem q1102 : (Jvm.Cond.methodLink "SeenByOne$Ground" (146 : Nat) ({ cls := "SeenByOne$Ground", name := "keeps", desc := "(I)I" } : Jvm.MethodName)) ∈ lw_all := lw_g (lw_at lw_m5 68 rfl) rfl
theorem q1103 : (Jvm.Cond.instanceMethod ({ cls := "SeenByOne$Ground", name := "keeps", desc := "(I)I" } : Jvm.MethodName)) ∈ lw_all := lw_g (lw_at lw_m5 69 rfl) rfl
theorem q1104 : (Jvm.Cond.selects "SeenByOne$Ground" ({ cls := "SeenByOne$Ground", name := "keeps", desc := "(I)I" } : Jvm.MethodName) ({ cls := "SeenByOne$Ground", name := "keeps", desc := "(I)I" } : Jvm.MethodName)) ∈ lw_all := lw_g (lw_at lw_m5 70 rfl) rfl
theorem q1105 : (Jvm.Cond.code ({ cls := "SeenByOne$Ground", name := "keeps", desc := "(I)I" } : Jvm.MethodName) prog_6_method_22_code (2 : Nat) (Option.some Jvm.ClassFile.FieldType.int)) ∈ lw_all := lw_g (lw_at lw_m5 71 rfl) rfl
theorem q1106 : (Jvm.Cond.methodLink "SeenByOne$Ground" (143 : Nat) ({ cls := "SeenByOne$Ground", name := "dearest", desc := "(I)I" } : Jvm.MethodName)) ∈ lw_all := lw_g (lw_at lw_m5 72 rfl) rfl
theorem q1107 : (Jvm.Cond.instanceMethod ({ cls := "SeenByOne$Ground", name := "dearest", desc := "(I)I" } : Jvm.MethodName)) ∈ lw_all := lw_g (lw_at lw_m5 73 rfl) rfl
theorem q1108 : (Jvm.Cond.selects "SeenByOne$Ground" ({ cls := "SeenByOne$Ground", name := "dearest", desc := "(I)I" } : Jvm.MethodName) ({ cls := "SeenByOne$Ground", name := "dearest", desc := "(I)I" } : Jvm.MethodName)) ∈ lw_all := lw_g (lw_at lw_m5 74 rfl) rfl
theorem q1109 : (Jvm.Cond.code ({ cls := "SeenByOne$Ground", name := "dearest", desc := "(I)I" } : Jvm.MethodName) prog_6_method_21_code (6 : Nat) (Option.some Jvm.ClassFile.FieldType.int)) ∈ lw_all := lw_g (lw_at lw_m5 75 rfl) rfl
theorem q1110 : (Jvm.Cond.methodLink "SeenByOne$Ground" (140 : Nat) ({ cls := "SeenByOne$Ground", name := "cost", desc := "(II)I" } : Jvm.MethodName)) ∈ lw_all := lw_g (lw_at lw_m5 76 rfl) rfl
theorem q1127 : (Jvm.Cond.instanceMethod ({ cls := "SeenByOne$Ground", name := "shutters", desc := "()I" } : Jvm.MethodName)) ∈ lw_all := lw_g (lw_at lw_m5 93 rfl) rfl
theorem q1128 : (Jvm.Cond.selects "SeenByOne$Ground" ({ cls := "SeenByOne$Ground", name := "shutters", desc := "()I" } : Jvm.MethodName) ({ cls := "SeenByOne$Ground", name := "shutters", desc := "()I" } : Jvm.MethodName)) ∈ lw_all := lw_g (lw_at lw_m5 94 rfl) rfl
theorem q1129 : (Jvm.Cond.code ({ cls := "SeenByOne$Ground", name := "shutters", desc := "()I" } : Jvm.MethodName) prog_6_method_25_code (3 : Nat) (Option.some Jvm.ClassFile.FieldType.int)) ∈ lw_all := lw_g (lw_at lw_m5 95 rfl) rfl
theorem q1152 : (Jvm.Cond.instanceMethod ({ cls := "SeenByOne$Ground", name := "rights", desc := "()I" } : Jvm.MethodName)) ∈ lw_all := lw_g (lw_at lw_m5 118 rfl) rfl
theorem q1153 : (Jvm.Cond.selects "SeenByOne$Ground" ({ cls := "SeenByOne$Ground", name := "rights", desc := "()I" } : Jvm.MethodName) ({ cls := "SeenByOne$Ground", name := "rights", desc := "()I" } : Jvm.MethodName)) ∈ lw_all := lw_g (lw_at lw_m5 119 rfl) rfl
theorem q1154 : (Jvm.Cond.code ({ cls := "SeenByOne$Ground", name := "rights", desc := "()I" } : Jvm.MethodName) prog_6_method_19_code (1 : Nat) (Option.some Jvm.ClassFile.FieldType.int)) ∈ lw_all := lw_g (lw_at lw_m5 120 rfl) rfl
theorem q1155 : (Jvm.Cond.methodLink "SeenByOne$Ground" (134 : Nat) ({ cls := "SeenByOne$Ground", name := "right", desc := "()I" } : Jvm.MethodName)) ∈ lw_all := lw_g (lw_at lw_m5 121 rfl) rfl
theorem q1208 : (Jvm.Cond.instanceMethod ({ cls := "SeenByOne$Ground", name := "year", desc := "()I" } : Jvm.MethodName)) ∈ lw_all := lw_g (lw_at lw_m5 174 rfl) rfl
theorem q1209 : (Jvm.Cond.selects "SeenByOne$Ground" ({ cls := "SeenByOne$Ground", name := "year", desc := "()I" } : Jvm.MethodName) ({ cls := "SeenByOne$Ground", name := "year", desc := "()I" } : Jvm.MethodName)) ∈ lw_all := lw_g (lw_at lw_m5 175 rfl) rfl
theorem q1210 : (Jvm.Cond.code ({ cls := "SeenByOne$Ground", name := "year", desc := "()I" } : Jvm.MethodName) prog_6_method_27_code (2 : Nat) (Option.some Jvm.ClassFile.FieldType.int)) ∈ lw_all := lw_g (lw_at lw_m5 176 rfl) rfl
theorem q1211 : (Jvm.Cond.methodLink "SeenByOne$Ground" (150 : Nat) ({ cls := "SeenByOne$Thing", name := "grows", desc := "()Z" } : Jvm.MethodName)) ∈ lw_all := lw_g (lw_at lw_m5 177 rfl) rfl
theorem q1224 : (Jvm.Cond.methodLink "SeenByOne$Ground" (153 : Nat) ({ cls := "SeenByOne$Ground", name := "draw", desc := "(I)I" } : Jvm.MethodName)) ∈ lw_all := lw_g (lw_at lw_m5 190 rfl) rfl
theorem q1225 : (Jvm.Cond.instanceMethod ({ cls := "SeenByOne$Ground", name := "draw", desc := "(I)I" } : Jvm.MethodName)) ∈ lw_all := lw_g (lw_at lw_m5 191 rfl) rfl
theorem q1226 : (Jvm.Cond.selects "SeenByOne$Ground" ({ cls := "SeenByOne$Ground", name := "draw", desc := "(I)I" } : Jvm.MethodName) ({ cls := "SeenByOne$Ground", name := "draw", desc := "(I)I" } : Jvm.MethodName)) ∈ lw_all := lw_g (lw_at lw_m5 192 rfl) rfl
theorem q1227 : (Jvm.Cond.code ({ cls := "SeenByOne$Ground", name := "draw", desc := "(I)I" } : Jvm.MethodName) prog_6_method_26_code (2 : Nat) (Option.some Jvm.ClassFile.FieldType.int)) ∈ lw_all := lw_g (lw_at lw_m5 193 rfl) rfl
theorem q1228 : (Jvm.Cond.constant "SeenByOne$Ground" (149 : Nat) (1103515245 : Int32)) ∈ lw_all := lw_g (lw_at lw_m5 194 rfl) rfl
theorem q1229 : (Jvm.Cond.methodLink "SeenByOne$Ground" (156 : Nat) ({ cls := "java/lang/Math", name := "min", desc := "(II)I" } : Jvm.MethodName)) ∈ lw_all := lw_g (lw_at lw_m5 195 rfl) rfl
theorem q1232 : (Jvm.Cond.methodLink "SeenByOne$Ground" (159 : Nat) ({ cls := "SeenByOne$Ground", name := "houses", desc := "()I" } : Jvm.MethodName)) ∈ lw_all := lw_g (lw_at lw_m5 198 rfl) rfl
theorem q1233 : (Jvm.Cond.methodLink "SeenByOne$Ground" (162 : Nat) ({ cls := "SeenByOne$Ground", name := "rights", desc := "()I" } : Jvm.MethodName)) ∈ lw_all := lw_g (lw_at lw_m5 199 rfl) rfl
theorem in_X2 : ∀ w ∈ wsX20, w ∈ lw_all := lw_in wsX20 [167, 169, 171, 173, 175, 177, 179, 181, 183] (by decide +kernel) (by decide +kernel)

/-! SeenByOne$Shelf -/
set_option maxRecDepth 100000
def RX3 : String := "SeenByOne$Shelf"
def TX3 : u_T := fun k => match k with
  | _ => ("SeenByOne$Shelf", "held", "Ljava/lang/Object;", false)
def tyX3 : Nat → FieldType := fun k => match k with
  | _ => .object "java/lang/Object"
abbrev wsX30 : List Cond := u_ws RX3 TX3 1
theorem nmX3 : ∀ a, a < 1 → ∀ b, b < 1 → a ≠ b → (TX3 a).2.1 ≠ (TX3 b).2.1 := by decide +kernel
theorem tyX3_ok : ∀ k, k < 1 → parseFieldDescriptor (TX3 k).2.2.1 = some (tyX3 k) := by decide +kernel
abbrev cX3_init : ByteArray := prog_13_method_1_code
def yX3_init : MethodName := ⟨RX3, "<init>", "()V"⟩
theorem dX3_init_0 : decode cX3_init 0 = .ok (.aload_n 0, 1) := by decide +kernel
theorem dX3_init_1 : decode cX3_init 1 = .ok (.invokespecial 3, 3) := by decide +kernel
theorem dX3_init_4 : decode cX3_init 4 = .ok (.return_, 1) := by decide +kernel
abbrev cX3_row : ByteArray := prog_13_method_2_code
def yX3_row : MethodName := ⟨RX3, "row", "()LSeenByOne$Row;"⟩
def dkwX3_row_1 : List UInt8 := [76, 187, 0, 23, 89, 16, 254, 183, 0, 25, 191]
abbrev dktX3_row_1 : List UInt8 := dkwX3_row_1 ++ []
def dkwX3_row_0 : List UInt8 := [42, 180, 0, 9, 192, 0, 15, 76, 43, 198, 0, 7, 4, 167, 0, 4, 3, 16, 253, 184, 0, 17, 43, 176]
abbrev dktX3_row_0 : List UInt8 := dkwX3_row_0 ++ dktX3_row_1
theorem dksX3_row_0 : cX3_row.data.toList.drop 0 = dktX3_row_0 := by decide +kernel
theorem dksX3_row_1 : cX3_row.data.toList.drop 24 = dktX3_row_1 := dk_seg dksX3_row_0 24 rfl rfl
theorem dX3_row_0 : decode cX3_row 0 = .ok (.aload_n 0, 1) := dk_42 (dk_at dksX3_row_0 0 rfl rfl)
theorem dX3_row_1 : decode cX3_row 1 = .ok (.getfield 9, 3) := dk_180 0 9 (dk_at dksX3_row_0 1 rfl rfl)
theorem dX3_row_4 : decode cX3_row 4 = .ok (.checkcast 15, 3) := dk_192 0 15 (dk_at dksX3_row_0 4 rfl rfl)
theorem dX3_row_7 : decode cX3_row 7 = .ok (.astore_n 1, 1) := dk_76 (dk_at dksX3_row_0 7 rfl rfl)
theorem dX3_row_8 : decode cX3_row 8 = .ok (.aload_n 1, 1) := dk_43 (dk_at dksX3_row_0 8 rfl rfl)
theorem dX3_row_9 : decode cX3_row 9 = .ok (.ifnull 7, 3) := dk_198 0 7 (dk_at dksX3_row_0 9 rfl rfl)
theorem dX3_row_12 : decode cX3_row 12 = .ok (.iconst 1, 1) := dk_4 (dk_at dksX3_row_0 12 rfl rfl)
theorem dX3_row_13 : decode cX3_row 13 = .ok (.goto 4, 3) := dk_167 0 4 (dk_at dksX3_row_0 13 rfl rfl)
theorem dX3_row_16 : decode cX3_row 16 = .ok (.iconst 0, 1) := dk_3 (dk_at dksX3_row_0 16 rfl rfl)
theorem dX3_row_17 : decode cX3_row 17 = .ok (.bipush (-3), 2) := dk_16 253 (dk_at dksX3_row_0 17 rfl rfl)
theorem dX3_row_19 : decode cX3_row 19 = .ok (.invokestatic 17, 3) := dk_184 0 17 (dk_at dksX3_row_0 19 rfl rfl)
theorem dX3_row_22 : decode cX3_row 22 = .ok (.aload_n 1, 1) := dk_43 (dk_at dksX3_row_0 22 rfl rfl)
theorem dX3_row_23 : decode cX3_row 23 = .ok (.areturn, 1) := dk_176 (dk_at dksX3_row_0 23 rfl rfl)
theorem dX3_row_24 : decode cX3_row 24 = .ok (.astore_n 1, 1) := dk_76 (dk_at dksX3_row_1 0 rfl rfl)
theorem dX3_row_25 : decode cX3_row 25 = .ok (.new 23, 3) := dk_187 0 23 (dk_at dksX3_row_1 1 rfl rfl)
theorem dX3_row_28 : decode cX3_row 28 = .ok (.dup, 1) := dk_89 (dk_at dksX3_row_1 4 rfl rfl)
theorem dX3_row_29 : decode cX3_row 29 = .ok (.bipush (-2), 2) := dk_16 254 (dk_at dksX3_row_1 5 rfl rfl)
theorem dX3_row_31 : decode cX3_row 31 = .ok (.invokespecial 25, 3) := dk_183 0 25 (dk_at dksX3_row_1 7 rfl rfl)
theorem dX3_row_34 : decode cX3_row 34 = .ok (.athrow, 1) := dk_191 (dk_at dksX3_row_1 10 rfl rfl)
abbrev cX3_holdsThing : ByteArray := prog_13_method_3_code
def yX3_holdsThing : MethodName := ⟨RX3, "holdsThing", "()Z"⟩
def dkwX3_holdsThing_0 : List UInt8 := [42, 180, 0, 9, 193, 0, 28, 172]
abbrev dktX3_holdsThing_0 : List UInt8 := dkwX3_holdsThing_0 ++ []
theorem dksX3_holdsThing_0 : cX3_holdsThing.data.toList.drop 0 = dktX3_holdsThing_0 := by decide +kernel
theorem dX3_holdsThing_0 : decode cX3_holdsThing 0 = .ok (.aload_n 0, 1) := dk_42 (dk_at dksX3_holdsThing_0 0 rfl rfl)
theorem dX3_holdsThing_1 : decode cX3_holdsThing 1 = .ok (.getfield 9, 3) := dk_180 0 9 (dk_at dksX3_holdsThing_0 1 rfl rfl)
theorem dX3_holdsThing_4 : decode cX3_holdsThing 4 = .ok (.instanceof 28, 3) := dk_193 0 28 (dk_at dksX3_holdsThing_0 4 rfl rfl)
theorem dX3_holdsThing_7 : decode cX3_holdsThing 7 = .ok (.ireturn, 1) := dk_172 (dk_at dksX3_holdsThing_0 7 rfl rfl)
abbrev cX3_says : ByteArray := prog_13_method_4_code
def yX3_says : MethodName := ⟨RX3, "says", "(ILSeenByOne$Ground;)I"⟩
def dkwX3_says_13 : List UInt8 := [187, 0, 23, 89, 16, 254, 183, 0, 25, 191]
abbrev dktX3_says_13 : List UInt8 := dkwX3_says_13 ++ []
def dkwX3_says_12 : List UInt8 := [182, 0, 50, 62, 42, 180, 0, 9, 198, 0, 7, 4, 167, 0, 4, 3, 16, 253, 184, 0, 17, 29, 172, 78]
abbrev dktX3_says_12 : List UInt8 := dkwX3_says_12 ++ dktX3_says_13
def dkwX3_says_11 : List UInt8 := [42, 180, 0, 9, 199, 0, 7, 2, 167, 0, 17, 44, 42, 180, 0, 9, 192, 0, 28, 180, 0, 87]
abbrev dktX3_says_11 : List UInt8 := dkwX3_says_11 ++ dktX3_says_12
def dkwX3_says_10 : List UInt8 := [180, 0, 9, 199, 0, 7, 2, 167, 0, 13, 42, 180, 0, 9, 192, 0, 82, 182, 0, 84, 62, 167, 0, 29]
abbrev dktX3_says_10 : List UInt8 := dkwX3_says_10 ++ dktX3_says_11
def dkwX3_says_9 : List UInt8 := [199, 0, 7, 2, 167, 0, 13, 42, 180, 0, 9, 192, 0, 76, 182, 0, 78, 62, 167, 0, 54, 42]
abbrev dktX3_says_9 : List UInt8 := dkwX3_says_9 ++ dktX3_says_10
def dkwX3_says_8 : List UInt8 := [180, 0, 71, 182, 0, 72, 153, 0, 7, 4, 167, 0, 4, 3, 62, 167, 0, 79, 42, 180, 0, 9]
abbrev dktX3_says_8 : List UInt8 := dkwX3_says_8 ++ dktX3_says_9
def dkwX3_says_7 : List UInt8 := [62, 167, 0, 116, 42, 180, 0, 9, 199, 0, 7, 2, 167, 0, 25, 44, 42, 180, 0, 9, 192, 0, 69]
abbrev dktX3_says_7 : List UInt8 := dkwX3_says_7 ++ dktX3_says_8
def dkwX3_says_6 : List UInt8 := [180, 0, 9, 192, 0, 63, 44, 180, 0, 53, 42, 180, 0, 9, 192, 0, 63, 180, 0, 65, 46, 182, 0, 66]
abbrev dktX3_says_6 : List UInt8 := dkwX3_says_6 ++ dktX3_says_7
def dkwX3_says_5 : List UInt8 := [180, 0, 49, 46, 100, 184, 0, 57, 62, 167, 0, 156, 42, 180, 0, 9, 199, 0, 7, 2, 167, 0, 28, 42]
abbrev dktX3_says_5 : List UInt8 := dkwX3_says_5 ++ dktX3_says_6
def dkwX3_says_4 : List UInt8 := [180, 0, 9, 192, 0, 47, 180, 0, 49, 182, 0, 50, 44, 180, 0, 53, 42, 180, 0, 9, 192, 0, 47]
abbrev dktX3_says_4 : List UInt8 := dkwX3_says_4 ++ dktX3_says_5
def dkwX3_says_3 : List UInt8 := [182, 0, 36, 184, 0, 42, 62, 167, 0, 205, 42, 180, 0, 9, 199, 0, 7, 2, 167, 0, 37, 3, 44, 42]
abbrev dktX3_says_3 : List UInt8 := dkwX3_says_3 ++ dktX3_says_4
def dkwX3_says_2 : List UInt8 := [42, 180, 0, 9, 199, 0, 7, 2, 167, 0, 20, 44, 42, 180, 0, 9, 192, 0, 30, 180, 0, 32]
abbrev dktX3_says_2 : List UInt8 := dkwX3_says_2 ++ dktX3_says_3
def dkwX3_says_1 : List UInt8 := [170, 0, 0, 0, 0, 0, 247, 0, 0, 0, 1, 0, 0, 0, 6, 0, 0, 0, 39, 0, 0, 0, 71, 0, 0, 0, 120, 0, 0, 0, 160, 0, 0, 0, 197, 0, 0, 0, 222]
abbrev dktX3_says_1 : List UInt8 := dkwX3_says_1 ++ dktX3_says_2
def dkwX3_says_0 : List UInt8 := [27]
abbrev dktX3_says_0 : List UInt8 := dkwX3_says_0 ++ dktX3_says_1
theorem dksX3_says_0 : cX3_says.data.toList.drop 0 = dktX3_says_0 := by decide +kernel
theorem dksX3_says_1 : cX3_says.data.toList.drop 1 = dktX3_says_1 := dk_seg dksX3_says_0 1 rfl rfl
theorem dksX3_says_2 : cX3_says.data.toList.drop 40 = dktX3_says_2 := dk_seg dksX3_says_1 39 rfl rfl
theorem dksX3_says_3 : cX3_says.data.toList.drop 62 = dktX3_says_3 := dk_seg dksX3_says_2 22 rfl rfl
theorem dksX3_says_4 : cX3_says.data.toList.drop 86 = dktX3_says_4 := dk_seg dksX3_says_3 24 rfl rfl
theorem dksX3_says_5 : cX3_says.data.toList.drop 109 = dktX3_says_5 := dk_seg dksX3_says_4 23 rfl rfl
theorem dksX3_says_6 : cX3_says.data.toList.drop 133 = dktX3_says_6 := dk_seg dksX3_says_5 24 rfl rfl
theorem dksX3_says_7 : cX3_says.data.toList.drop 157 = dktX3_says_7 := dk_seg dksX3_says_6 24 rfl rfl
theorem dksX3_says_8 : cX3_says.data.toList.drop 180 = dktX3_says_8 := dk_seg dksX3_says_7 23 rfl rfl
theorem dksX3_says_9 : cX3_says.data.toList.drop 202 = dktX3_says_9 := dk_seg dksX3_says_8 22 rfl rfl
theorem dksX3_says_10 : cX3_says.data.toList.drop 224 = dktX3_says_10 := dk_seg dksX3_says_9 22 rfl rfl
theorem dksX3_says_11 : cX3_says.data.toList.drop 248 = dktX3_says_11 := dk_seg dksX3_says_10 24 rfl rfl
theorem dksX3_says_12 : cX3_says.data.toList.drop 270 = dktX3_says_12 := dk_seg dksX3_says_11 22 rfl rfl
theorem dksX3_says_13 : cX3_says.data.toList.drop 294 = dktX3_says_13 := dk_seg dksX3_says_12 24 rfl rfl
theorem dX3_says_0 : decode cX3_says 0 = .ok (.iload_n 1, 1) := dk_27 (dk_at dksX3_says_0 0 rfl rfl)
theorem dX3_says_1 : decode cX3_says 1 = .ok (.tableswitch 247 1 6 #[39, 71, 120, 160, 197, 222], 39) := by decide +kernel
theorem dX3_says_40 : decode cX3_says 40 = .ok (.aload_n 0, 1) := dk_42 (dk_at dksX3_says_2 0 rfl rfl)
theorem dX3_says_41 : decode cX3_says 41 = .ok (.getfield 9, 3) := dk_180 0 9 (dk_at dksX3_says_2 1 rfl rfl)
theorem dX3_says_44 : decode cX3_says 44 = .ok (.ifnonnull 7, 3) := dk_199 0 7 (dk_at dksX3_says_2 4 rfl rfl)
theorem dX3_says_47 : decode cX3_says 47 = .ok (.iconst (-1), 1) := dk_2 (dk_at dksX3_says_2 7 rfl rfl)
theorem dX3_says_48 : decode cX3_says 48 = .ok (.goto 20, 3) := dk_167 0 20 (dk_at dksX3_says_2 8 rfl rfl)
theorem dX3_says_51 : decode cX3_says 51 = .ok (.aload_n 2, 1) := dk_44 (dk_at dksX3_says_2 11 rfl rfl)
theorem dX3_says_52 : decode cX3_says 52 = .ok (.aload_n 0, 1) := dk_42 (dk_at dksX3_says_2 12 rfl rfl)
theorem dX3_says_53 : decode cX3_says 53 = .ok (.getfield 9, 3) := dk_180 0 9 (dk_at dksX3_says_2 13 rfl rfl)
theorem dX3_says_56 : decode cX3_says 56 = .ok (.checkcast 30, 3) := dk_192 0 30 (dk_at dksX3_says_2 16 rfl rfl)
theorem dX3_says_59 : decode cX3_says 59 = .ok (.getfield 32, 3) := dk_180 0 32 (dk_at dksX3_says_2 19 rfl rfl)
theorem dX3_says_62 : decode cX3_says 62 = .ok (.invokevirtual 36, 3) := dk_182 0 36 (dk_at dksX3_says_3 0 rfl rfl)
theorem dX3_says_65 : decode cX3_says 65 = .ok (.invokestatic 42, 3) := dk_184 0 42 (dk_at dksX3_says_3 3 rfl rfl)
theorem dX3_says_68 : decode cX3_says 68 = .ok (.istore_n 3, 1) := dk_62 (dk_at dksX3_says_3 6 rfl rfl)
theorem dX3_says_69 : decode cX3_says 69 = .ok (.goto 205, 3) := dk_167 0 205 (dk_at dksX3_says_3 7 rfl rfl)
theorem dX3_says_72 : decode cX3_says 72 = .ok (.aload_n 0, 1) := dk_42 (dk_at dksX3_says_3 10 rfl rfl)
theorem dX3_says_73 : decode cX3_says 73 = .ok (.getfield 9, 3) := dk_180 0 9 (dk_at dksX3_says_3 11 rfl rfl)
theorem dX3_says_76 : decode cX3_says 76 = .ok (.ifnonnull 7, 3) := dk_199 0 7 (dk_at dksX3_says_3 14 rfl rfl)
theorem dX3_says_79 : decode cX3_says 79 = .ok (.iconst (-1), 1) := dk_2 (dk_at dksX3_says_3 17 rfl rfl)
theorem dX3_says_80 : decode cX3_says 80 = .ok (.goto 37, 3) := dk_167 0 37 (dk_at dksX3_says_3 18 rfl rfl)
theorem dX3_says_83 : decode cX3_says 83 = .ok (.iconst 0, 1) := dk_3 (dk_at dksX3_says_3 21 rfl rfl)
theorem dX3_says_84 : decode cX3_says 84 = .ok (.aload_n 2, 1) := dk_44 (dk_at dksX3_says_3 22 rfl rfl)
theorem dX3_says_85 : decode cX3_says 85 = .ok (.aload_n 0, 1) := dk_42 (dk_at dksX3_says_3 23 rfl rfl)
theorem dX3_says_86 : decode cX3_says 86 = .ok (.getfield 9, 3) := dk_180 0 9 (dk_at dksX3_says_4 0 rfl rfl)
theorem dX3_says_89 : decode cX3_says 89 = .ok (.checkcast 47, 3) := dk_192 0 47 (dk_at dksX3_says_4 3 rfl rfl)
theorem dX3_says_92 : decode cX3_says 92 = .ok (.getfield 49, 3) := dk_180 0 49 (dk_at dksX3_says_4 6 rfl rfl)
theorem dX3_says_95 : decode cX3_says 95 = .ok (.invokevirtual 50, 3) := dk_182 0 50 (dk_at dksX3_says_4 9 rfl rfl)
theorem dX3_says_98 : decode cX3_says 98 = .ok (.aload_n 2, 1) := dk_44 (dk_at dksX3_says_4 12 rfl rfl)
theorem dX3_says_99 : decode cX3_says 99 = .ok (.getfield 53, 3) := dk_180 0 53 (dk_at dksX3_says_4 13 rfl rfl)
theorem dX3_says_102 : decode cX3_says 102 = .ok (.aload_n 0, 1) := dk_42 (dk_at dksX3_says_4 16 rfl rfl)
theorem dX3_says_103 : decode cX3_says 103 = .ok (.getfield 9, 3) := dk_180 0 9 (dk_at dksX3_says_4 17 rfl rfl)
theorem dX3_says_106 : decode cX3_says 106 = .ok (.checkcast 47, 3) := dk_192 0 47 (dk_at dksX3_says_4 20 rfl rfl)
theorem dX3_says_109 : decode cX3_says 109 = .ok (.getfield 49, 3) := dk_180 0 49 (dk_at dksX3_says_5 0 rfl rfl)
theorem dX3_says_112 : decode cX3_says 112 = .ok (.iaload, 1) := dk_46 (dk_at dksX3_says_5 3 rfl rfl)
theorem dX3_says_113 : decode cX3_says 113 = .ok (.isub, 1) := dk_100 (dk_at dksX3_says_5 4 rfl rfl)
theorem dX3_says_114 : decode cX3_says 114 = .ok (.invokestatic 57, 3) := dk_184 0 57 (dk_at dksX3_says_5 5 rfl rfl)
theorem dX3_says_117 : decode cX3_says 117 = .ok (.istore_n 3, 1) := dk_62 (dk_at dksX3_says_5 8 rfl rfl)
theorem dX3_says_118 : decode cX3_says 118 = .ok (.goto 156, 3) := dk_167 0 156 (dk_at dksX3_says_5 9 rfl rfl)
theorem dX3_says_121 : decode cX3_says 121 = .ok (.aload_n 0, 1) := dk_42 (dk_at dksX3_says_5 12 rfl rfl)
theorem dX3_says_122 : decode cX3_says 122 = .ok (.getfield 9, 3) := dk_180 0 9 (dk_at dksX3_says_5 13 rfl rfl)
theorem dX3_says_125 : decode cX3_says 125 = .ok (.ifnonnull 7, 3) := dk_199 0 7 (dk_at dksX3_says_5 16 rfl rfl)
theorem dX3_says_128 : decode cX3_says 128 = .ok (.iconst (-1), 1) := dk_2 (dk_at dksX3_says_5 19 rfl rfl)
theorem dX3_says_129 : decode cX3_says 129 = .ok (.goto 28, 3) := dk_167 0 28 (dk_at dksX3_says_5 20 rfl rfl)
theorem dX3_says_132 : decode cX3_says 132 = .ok (.aload_n 0, 1) := dk_42 (dk_at dksX3_says_5 23 rfl rfl)
theorem dX3_says_133 : decode cX3_says 133 = .ok (.getfield 9, 3) := dk_180 0 9 (dk_at dksX3_says_6 0 rfl rfl)
theorem dX3_says_136 : decode cX3_says 136 = .ok (.checkcast 63, 3) := dk_192 0 63 (dk_at dksX3_says_6 3 rfl rfl)
theorem dX3_says_139 : decode cX3_says 139 = .ok (.aload_n 2, 1) := dk_44 (dk_at dksX3_says_6 6 rfl rfl)
theorem dX3_says_140 : decode cX3_says 140 = .ok (.getfield 53, 3) := dk_180 0 53 (dk_at dksX3_says_6 7 rfl rfl)
theorem dX3_says_143 : decode cX3_says 143 = .ok (.aload_n 0, 1) := dk_42 (dk_at dksX3_says_6 10 rfl rfl)
theorem dX3_says_144 : decode cX3_says 144 = .ok (.getfield 9, 3) := dk_180 0 9 (dk_at dksX3_says_6 11 rfl rfl)
theorem dX3_says_147 : decode cX3_says 147 = .ok (.checkcast 63, 3) := dk_192 0 63 (dk_at dksX3_says_6 14 rfl rfl)
theorem dX3_says_150 : decode cX3_says 150 = .ok (.getfield 65, 3) := dk_180 0 65 (dk_at dksX3_says_6 17 rfl rfl)
theorem dX3_says_153 : decode cX3_says 153 = .ok (.iaload, 1) := dk_46 (dk_at dksX3_says_6 20 rfl rfl)
theorem dX3_says_154 : decode cX3_says 154 = .ok (.invokevirtual 66, 3) := dk_182 0 66 (dk_at dksX3_says_6 21 rfl rfl)
theorem dX3_says_157 : decode cX3_says 157 = .ok (.istore_n 3, 1) := dk_62 (dk_at dksX3_says_7 0 rfl rfl)
theorem dX3_says_158 : decode cX3_says 158 = .ok (.goto 116, 3) := dk_167 0 116 (dk_at dksX3_says_7 1 rfl rfl)
theorem dX3_says_161 : decode cX3_says 161 = .ok (.aload_n 0, 1) := dk_42 (dk_at dksX3_says_7 4 rfl rfl)
theorem dX3_says_162 : decode cX3_says 162 = .ok (.getfield 9, 3) := dk_180 0 9 (dk_at dksX3_says_7 5 rfl rfl)
theorem dX3_says_165 : decode cX3_says 165 = .ok (.ifnonnull 7, 3) := dk_199 0 7 (dk_at dksX3_says_7 8 rfl rfl)
theorem dX3_says_168 : decode cX3_says 168 = .ok (.iconst (-1), 1) := dk_2 (dk_at dksX3_says_7 11 rfl rfl)
theorem dX3_says_169 : decode cX3_says 169 = .ok (.goto 25, 3) := dk_167 0 25 (dk_at dksX3_says_7 12 rfl rfl)
theorem dX3_says_172 : decode cX3_says 172 = .ok (.aload_n 2, 1) := dk_44 (dk_at dksX3_says_7 15 rfl rfl)
theorem dX3_says_173 : decode cX3_says 173 = .ok (.aload_n 0, 1) := dk_42 (dk_at dksX3_says_7 16 rfl rfl)
theorem dX3_says_174 : decode cX3_says 174 = .ok (.getfield 9, 3) := dk_180 0 9 (dk_at dksX3_says_7 17 rfl rfl)
theorem dX3_says_177 : decode cX3_says 177 = .ok (.checkcast 69, 3) := dk_192 0 69 (dk_at dksX3_says_7 20 rfl rfl)
theorem dX3_says_180 : decode cX3_says 180 = .ok (.getfield 71, 3) := dk_180 0 71 (dk_at dksX3_says_8 0 rfl rfl)
theorem dX3_says_183 : decode cX3_says 183 = .ok (.invokevirtual 72, 3) := dk_182 0 72 (dk_at dksX3_says_8 3 rfl rfl)
theorem dX3_says_186 : decode cX3_says 186 = .ok (.ifCond .eq 7, 3) := dk_153 0 7 (dk_at dksX3_says_8 6 rfl rfl)
theorem dX3_says_189 : decode cX3_says 189 = .ok (.iconst 1, 1) := dk_4 (dk_at dksX3_says_8 9 rfl rfl)
theorem dX3_says_190 : decode cX3_says 190 = .ok (.goto 4, 3) := dk_167 0 4 (dk_at dksX3_says_8 10 rfl rfl)
theorem dX3_says_193 : decode cX3_says 193 = .ok (.iconst 0, 1) := dk_3 (dk_at dksX3_says_8 13 rfl rfl)
theorem dX3_says_194 : decode cX3_says 194 = .ok (.istore_n 3, 1) := dk_62 (dk_at dksX3_says_8 14 rfl rfl)
theorem dX3_says_195 : decode cX3_says 195 = .ok (.goto 79, 3) := dk_167 0 79 (dk_at dksX3_says_8 15 rfl rfl)
theorem dX3_says_198 : decode cX3_says 198 = .ok (.aload_n 0, 1) := dk_42 (dk_at dksX3_says_8 18 rfl rfl)
theorem dX3_says_199 : decode cX3_says 199 = .ok (.getfield 9, 3) := dk_180 0 9 (dk_at dksX3_says_8 19 rfl rfl)
theorem dX3_says_202 : decode cX3_says 202 = .ok (.ifnonnull 7, 3) := dk_199 0 7 (dk_at dksX3_says_9 0 rfl rfl)
theorem dX3_says_205 : decode cX3_says 205 = .ok (.iconst (-1), 1) := dk_2 (dk_at dksX3_says_9 3 rfl rfl)
theorem dX3_says_206 : decode cX3_says 206 = .ok (.goto 13, 3) := dk_167 0 13 (dk_at dksX3_says_9 4 rfl rfl)
theorem dX3_says_209 : decode cX3_says 209 = .ok (.aload_n 0, 1) := dk_42 (dk_at dksX3_says_9 7 rfl rfl)
theorem dX3_says_210 : decode cX3_says 210 = .ok (.getfield 9, 3) := dk_180 0 9 (dk_at dksX3_says_9 8 rfl rfl)
theorem dX3_says_213 : decode cX3_says 213 = .ok (.checkcast 76, 3) := dk_192 0 76 (dk_at dksX3_says_9 11 rfl rfl)
theorem dX3_says_216 : decode cX3_says 216 = .ok (.invokevirtual 78, 3) := dk_182 0 78 (dk_at dksX3_says_9 14 rfl rfl)
theorem dX3_says_219 : decode cX3_says 219 = .ok (.istore_n 3, 1) := dk_62 (dk_at dksX3_says_9 17 rfl rfl)
theorem dX3_says_220 : decode cX3_says 220 = .ok (.goto 54, 3) := dk_167 0 54 (dk_at dksX3_says_9 18 rfl rfl)
theorem dX3_says_223 : decode cX3_says 223 = .ok (.aload_n 0, 1) := dk_42 (dk_at dksX3_says_9 21 rfl rfl)
theorem dX3_says_224 : decode cX3_says 224 = .ok (.getfield 9, 3) := dk_180 0 9 (dk_at dksX3_says_10 0 rfl rfl)
theorem dX3_says_227 : decode cX3_says 227 = .ok (.ifnonnull 7, 3) := dk_199 0 7 (dk_at dksX3_says_10 3 rfl rfl)
theorem dX3_says_230 : decode cX3_says 230 = .ok (.iconst (-1), 1) := dk_2 (dk_at dksX3_says_10 6 rfl rfl)
theorem dX3_says_231 : decode cX3_says 231 = .ok (.goto 13, 3) := dk_167 0 13 (dk_at dksX3_says_10 7 rfl rfl)
theorem dX3_says_234 : decode cX3_says 234 = .ok (.aload_n 0, 1) := dk_42 (dk_at dksX3_says_10 10 rfl rfl)
theorem dX3_says_235 : decode cX3_says 235 = .ok (.getfield 9, 3) := dk_180 0 9 (dk_at dksX3_says_10 11 rfl rfl)
theorem dX3_says_238 : decode cX3_says 238 = .ok (.checkcast 82, 3) := dk_192 0 82 (dk_at dksX3_says_10 14 rfl rfl)
theorem dX3_says_241 : decode cX3_says 241 = .ok (.invokevirtual 84, 3) := dk_182 0 84 (dk_at dksX3_says_10 17 rfl rfl)
theorem dX3_says_244 : decode cX3_says 244 = .ok (.istore_n 3, 1) := dk_62 (dk_at dksX3_says_10 20 rfl rfl)
theorem dX3_says_245 : decode cX3_says 245 = .ok (.goto 29, 3) := dk_167 0 29 (dk_at dksX3_says_10 21 rfl rfl)
theorem dX3_says_248 : decode cX3_says 248 = .ok (.aload_n 0, 1) := dk_42 (dk_at dksX3_says_11 0 rfl rfl)
theorem dX3_says_249 : decode cX3_says 249 = .ok (.getfield 9, 3) := dk_180 0 9 (dk_at dksX3_says_11 1 rfl rfl)
theorem dX3_says_252 : decode cX3_says 252 = .ok (.ifnonnull 7, 3) := dk_199 0 7 (dk_at dksX3_says_11 4 rfl rfl)
theorem dX3_says_255 : decode cX3_says 255 = .ok (.iconst (-1), 1) := dk_2 (dk_at dksX3_says_11 7 rfl rfl)
theorem dX3_says_256 : decode cX3_says 256 = .ok (.goto 17, 3) := dk_167 0 17 (dk_at dksX3_says_11 8 rfl rfl)
theorem dX3_says_259 : decode cX3_says 259 = .ok (.aload_n 2, 1) := dk_44 (dk_at dksX3_says_11 11 rfl rfl)
theorem dX3_says_260 : decode cX3_says 260 = .ok (.aload_n 0, 1) := dk_42 (dk_at dksX3_says_11 12 rfl rfl)
theorem dX3_says_261 : decode cX3_says 261 = .ok (.getfield 9, 3) := dk_180 0 9 (dk_at dksX3_says_11 13 rfl rfl)
theorem dX3_says_264 : decode cX3_says 264 = .ok (.checkcast 28, 3) := dk_192 0 28 (dk_at dksX3_says_11 16 rfl rfl)
theorem dX3_says_267 : decode cX3_says 267 = .ok (.getfield 87, 3) := dk_180 0 87 (dk_at dksX3_says_11 19 rfl rfl)
theorem dX3_says_270 : decode cX3_says 270 = .ok (.invokevirtual 50, 3) := dk_182 0 50 (dk_at dksX3_says_12 0 rfl rfl)
theorem dX3_says_273 : decode cX3_says 273 = .ok (.istore_n 3, 1) := dk_62 (dk_at dksX3_says_12 3 rfl rfl)
theorem dX3_says_274 : decode cX3_says 274 = .ok (.aload_n 0, 1) := dk_42 (dk_at dksX3_says_12 4 rfl rfl)
theorem dX3_says_275 : decode cX3_says 275 = .ok (.getfield 9, 3) := dk_180 0 9 (dk_at dksX3_says_12 5 rfl rfl)
theorem dX3_says_278 : decode cX3_says 278 = .ok (.ifnull 7, 3) := dk_198 0 7 (dk_at dksX3_says_12 8 rfl rfl)
theorem dX3_says_281 : decode cX3_says 281 = .ok (.iconst 1, 1) := dk_4 (dk_at dksX3_says_12 11 rfl rfl)
theorem dX3_says_282 : decode cX3_says 282 = .ok (.goto 4, 3) := dk_167 0 4 (dk_at dksX3_says_12 12 rfl rfl)
theorem dX3_says_285 : decode cX3_says 285 = .ok (.iconst 0, 1) := dk_3 (dk_at dksX3_says_12 15 rfl rfl)
theorem dX3_says_286 : decode cX3_says 286 = .ok (.bipush (-3), 2) := dk_16 253 (dk_at dksX3_says_12 16 rfl rfl)
theorem dX3_says_288 : decode cX3_says 288 = .ok (.invokestatic 17, 3) := dk_184 0 17 (dk_at dksX3_says_12 18 rfl rfl)
theorem dX3_says_291 : decode cX3_says 291 = .ok (.iload_n 3, 1) := dk_29 (dk_at dksX3_says_12 21 rfl rfl)
theorem dX3_says_292 : decode cX3_says 292 = .ok (.ireturn, 1) := dk_172 (dk_at dksX3_says_12 22 rfl rfl)
theorem dX3_says_293 : decode cX3_says 293 = .ok (.astore_n 3, 1) := dk_78 (dk_at dksX3_says_12 23 rfl rfl)
theorem dX3_says_294 : decode cX3_says 294 = .ok (.new 23, 3) := dk_187 0 23 (dk_at dksX3_says_13 0 rfl rfl)
theorem dX3_says_297 : decode cX3_says 297 = .ok (.dup, 1) := dk_89 (dk_at dksX3_says_13 3 rfl rfl)
theorem dX3_says_298 : decode cX3_says 298 = .ok (.bipush (-2), 2) := dk_16 254 (dk_at dksX3_says_13 4 rfl rfl)
theorem dX3_says_300 : decode cX3_says 300 = .ok (.invokespecial 25, 3) := dk_183 0 25 (dk_at dksX3_says_13 6 rfl rfl)
theorem dX3_says_303 : decode cX3_says 303 = .ok (.athrow, 1) := dk_191 (dk_at dksX3_says_13 9 rfl rfl)
theorem q78 : (Jvm.Cond.initialized "SeenByOne$Shelf") ∈ lw_all := lw_g (lw_at lw_m1 4 rfl) rfl
theorem q162 : (Jvm.Cond.fieldLink "SeenByOne$Shelf" (53 : Nat) "SeenByOne$Ground" "height" "[I") ∈ lw_all := lw_g (lw_at lw_m1 88 rfl) rfl
theorem q186 : (Jvm.Cond.instantiable "SeenByOne$Shelf" (1 : Nat)) ∈ lw_all := lw_g (lw_at lw_m1 112 rfl) rfl
theorem q188 : (Jvm.Cond.instanceMethod ({ cls := "SeenByOne$Shelf", name := "<init>", desc := "()V" } : Jvm.MethodName)) ∈ lw_all := lw_g (lw_at lw_m1 114 rfl) rfl
theorem q189 : (Jvm.Cond.code ({ cls := "SeenByOne$Shelf", name := "<init>", desc := "()V" } : Jvm.MethodName) prog_13_method_1_code (1 : Nat) (Option.none : Option Jvm.ClassFile.FieldType)) ∈ lw_all := lw_g (lw_at lw_m1 115 rfl) rfl
theorem q190 : (Jvm.Cond.methodLink "SeenByOne$Shelf" (3 : Nat) ({ cls := "java/lang/Object", name := "<init>", desc := "()V" } : Jvm.MethodName)) ∈ lw_all := lw_g (lw_at lw_m1 116 rfl) rfl
theorem q191 : (Jvm.Cond.fieldLink "SeenByOne$Shelf" (9 : Nat) "SeenByOne$Shelf" "held" "Ljava/lang/Object;") ∈ lw_all := lw_g (lw_at lw_m1 117 rfl) rfl
theorem q193 : (Jvm.Cond.lays "SeenByOne$Shelf" "SeenByOne$Shelf" "held" "Ljava/lang/Object;") ∈ lw_all := lw_g (lw_at lw_m1 119 rfl) rfl
theorem q194 : (Jvm.Cond.soleField "SeenByOne$Shelf" "held") ∈ lw_all := lw_g (lw_at lw_m1 120 rfl) rfl
theorem q195 : (Jvm.Cond.superclass "SeenByOne$Shelf" "java/lang/Object") ∈ lw_all := lw_g (lw_at lw_m1 121 rfl) rfl
theorem q406 : (Jvm.Cond.instanceMethod ({ cls := "SeenByOne$Shelf", name := "row", desc := "()LSeenByOne$Row;" } : Jvm.MethodName)) ∈ lw_all := lw_g (lw_at lw_m2 92 rfl) rfl
theorem q407 : (Jvm.Cond.selects "SeenByOne$Shelf" ({ cls := "SeenByOne$Shelf", name := "row", desc := "()LSeenByOne$Row;" } : Jvm.MethodName) ({ cls := "SeenByOne$Shelf", name := "row", desc := "()LSeenByOne$Row;" } : Jvm.MethodName)) ∈ lw_all := lw_g (lw_at lw_m2 93 rfl) rfl
theorem q408 : (Jvm.Cond.codeWith ({ cls := "SeenByOne$Shelf", name := "row", desc := "()LSeenByOne$Row;" } : Jvm.MethodName) prog_13_method_2_code (2 : Nat) (Option.some (Jvm.ClassFile.FieldType.object "SeenByOne$Row")) [((0 : Nat), (23 : Nat), (24 : Nat), (21 : Nat))]) ∈ lw_all := lw_g (lw_at lw_m2 94 rfl) rfl
theorem q409 : (Jvm.Cond.classLink "SeenByOne$Shelf" (21 : Nat) "java/lang/ClassCastException") ∈ lw_all := lw_g (lw_at lw_m2 95 rfl) rfl
theorem q423 : (Jvm.Cond.classLink "SeenByOne$Shelf" (15 : Nat) "SeenByOne$Row") ∈ lw_all := lw_g (lw_at lw_m2 109 rfl) rfl
theorem q424 : (Jvm.Cond.methodLink "SeenByOne$Shelf" (17 : Nat) ({ cls := "SeenByOne", name := "need", desc := "(ZI)V" } : Jvm.MethodName)) ∈ lw_all := lw_g (lw_at lw_m2 110 rfl) rfl
theorem q425 : (Jvm.Cond.classLink "SeenByOne$Shelf" (23 : Nat) "SeenByOne$Refused") ∈ lw_all := lw_g (lw_at lw_m2 111 rfl) rfl
theorem q426 : (Jvm.Cond.methodLink "SeenByOne$Shelf" (25 : Nat) ({ cls := "SeenByOne$Refused", name := "<init>", desc := "(I)V" } : Jvm.MethodName)) ∈ lw_all := lw_g (lw_at lw_m2 112 rfl) rfl
theorem q448 : (Jvm.Cond.instanceMethod ({ cls := "SeenByOne$Shelf", name := "holdsThing", desc := "()Z" } : Jvm.MethodName)) ∈ lw_all := lw_g (lw_at lw_m2 134 rfl) rfl
theorem q449 : (Jvm.Cond.selects "SeenByOne$Shelf" ({ cls := "SeenByOne$Shelf", name := "holdsThing", desc := "()Z" } : Jvm.MethodName) ({ cls := "SeenByOne$Shelf", name := "holdsThing", desc := "()Z" } : Jvm.MethodName)) ∈ lw_all := lw_g (lw_at lw_m2 135 rfl) rfl
theorem q450 : (Jvm.Cond.code ({ cls := "SeenByOne$Shelf", name := "holdsThing", desc := "()Z" } : Jvm.MethodName) prog_13_method_3_code (1 : Nat) (Option.some Jvm.ClassFile.FieldType.boolean)) ∈ lw_all := lw_g (lw_at lw_m2 136 rfl) rfl
theorem q451 : (Jvm.Cond.classLink "SeenByOne$Shelf" (28 : Nat) "SeenByOne$Thing") ∈ lw_all := lw_g (lw_at lw_m2 137 rfl) rfl
theorem q529 : (Jvm.Cond.instanceMethod ({ cls := "SeenByOne$Shelf", name := "says", desc := "(ILSeenByOne$Ground;)I" } : Jvm.MethodName)) ∈ lw_all := lw_g (lw_at lw_m2 215 rfl) rfl
theorem q530 : (Jvm.Cond.selects "SeenByOne$Shelf" ({ cls := "SeenByOne$Shelf", name := "says", desc := "(ILSeenByOne$Ground;)I" } : Jvm.MethodName) ({ cls := "SeenByOne$Shelf", name := "says", desc := "(ILSeenByOne$Ground;)I" } : Jvm.MethodName)) ∈ lw_all := lw_g (lw_at lw_m2 216 rfl) rfl
theorem q531 : (Jvm.Cond.codeWith ({ cls := "SeenByOne$Shelf", name := "says", desc := "(ILSeenByOne$Ground;)I" } : Jvm.MethodName) prog_13_method_4_code (4 : Nat) (Option.some Jvm.ClassFile.FieldType.int) [((0 : Nat), (292 : Nat), (293 : Nat), (21 : Nat))]) ∈ lw_all := lw_g (lw_at lw_m2 217 rfl) rfl
theorem q532 : (Jvm.Cond.classLink "SeenByOne$Shelf" (30 : Nat) "SeenByOne$House") ∈ lw_all := lw_g (lw_at lw_m2 218 rfl) rfl
theorem q533 : (Jvm.Cond.methodLink "SeenByOne$Shelf" (36 : Nat) ({ cls := "SeenByOne$Ground", name := "seers", desc := "(I)I" } : Jvm.MethodName)) ∈ lw_all := lw_g (lw_at lw_m2 219 rfl) rfl
theorem q643 : (Jvm.Cond.methodLink "SeenByOne$Shelf" (42 : Nat) ({ cls := "java/lang/Integer", name := "bitCount", desc := "(I)I" } : Jvm.MethodName)) ∈ lw_all := lw_g (lw_at lw_m3 89 rfl) rfl
theorem q649 : (Jvm.Cond.classLink "SeenByOne$Shelf" (47 : Nat) "SeenByOne$Tree") ∈ lw_all := lw_g (lw_at lw_m3 95 rfl) rfl
theorem q650 : (Jvm.Cond.methodLink "SeenByOne$Shelf" (50 : Nat) ({ cls := "SeenByOne$Ground", name := "tall", desc := "(I)I" } : Jvm.MethodName)) ∈ lw_all := lw_g (lw_at lw_m3 96 rfl) rfl
theorem q651 : (Jvm.Cond.methodLink "SeenByOne$Shelf" (57 : Nat) ({ cls := "java/lang/Math", name := "max", desc := "(II)I" } : Jvm.MethodName)) ∈ lw_all := lw_g (lw_at lw_m3 97 rfl) rfl
theorem q652 : (Jvm.Cond.classLink "SeenByOne$Shelf" (63 : Nat) "SeenByOne$Tower") ∈ lw_all := lw_g (lw_at lw_m3 98 rfl) rfl
theorem q653 : (Jvm.Cond.methodLink "SeenByOne$Shelf" (66 : Nat) ({ cls := "SeenByOne$Tower", name := "eyes", desc := "(I)I" } : Jvm.MethodName)) ∈ lw_all := lw_g (lw_at lw_m3 99 rfl) rfl
theorem q654 : (Jvm.Cond.classLink "SeenByOne$Shelf" (69 : Nat) "SeenByOne$Shy") ∈ lw_all := lw_g (lw_at lw_m3 100 rfl) rfl
theorem q655 : (Jvm.Cond.methodLink "SeenByOne$Shelf" (72 : Nat) ({ cls := "SeenByOne$Ground", name := "isRight", desc := "(I)Z" } : Jvm.MethodName)) ∈ lw_all := lw_g (lw_at lw_m3 101 rfl) rfl
theorem q679 : (Jvm.Cond.classLink "SeenByOne$Shelf" (76 : Nat) "SeenByOne$Blind") ∈ lw_all := lw_g (lw_at lw_m3 125 rfl) rfl
theorem q680 : (Jvm.Cond.methodLink "SeenByOne$Shelf" (78 : Nat) ({ cls := "SeenByOne$Blind", name := "sight", desc := "()I" } : Jvm.MethodName)) ∈ lw_all := lw_g (lw_at lw_m3 126 rfl) rfl
theorem q684 : (Jvm.Cond.classLink "SeenByOne$Shelf" (82 : Nat) "SeenByOne$Fir") ∈ lw_all := lw_g (lw_at lw_m3 130 rfl) rfl
theorem q685 : (Jvm.Cond.methodLink "SeenByOne$Shelf" (84 : Nat) ({ cls := "SeenByOne$Fir", name := "leaves", desc := "()I" } : Jvm.MethodName)) ∈ lw_all := lw_g (lw_at lw_m3 131 rfl) rfl
theorem q716 : (Jvm.Cond.fieldLink "SeenByOne$Shelf" (32 : Nat) "SeenByOne$House" "index" "I") ∈ lw_all := lw_g (lw_at lw_m3 162 rfl) rfl
theorem q718 : (Jvm.Cond.fieldLink "SeenByOne$Shelf" (49 : Nat) "SeenByOne$Tree" "index" "I") ∈ lw_all := lw_g (lw_at lw_m3 164 rfl) rfl
theorem q720 : (Jvm.Cond.fieldLink "SeenByOne$Shelf" (65 : Nat) "SeenByOne$Tower" "index" "I") ∈ lw_all := lw_g (lw_at lw_m3 166 rfl) rfl
theorem q722 : (Jvm.Cond.fieldLink "SeenByOne$Shelf" (71 : Nat) "SeenByOne$Shy" "index" "I") ∈ lw_all := lw_g (lw_at lw_m3 168 rfl) rfl
theorem q724 : (Jvm.Cond.fieldLink "SeenByOne$Shelf" (87 : Nat) "SeenByOne$Thing" "index" "I") ∈ lw_all := lw_g (lw_at lw_m3 170 rfl) rfl
theorem in_X3 : ∀ w ∈ wsX30, w ∈ lw_all := lw_in wsX30 [193] (by decide +kernel) (by decide +kernel)

/-! SeenByOne$Refused -/
set_option maxRecDepth 100000
def RX5 : String := "SeenByOne$Refused"
def TX5 : u_T := fun k => match k with
  | 0 => ("java/lang/Throwable", "cause", "Ljava/lang/Throwable;", false)
  | 1 => ("java/lang/Throwable", "stackTrace", "[Ljava/lang/StackTraceElement;", false)
  | 2 => ("java/lang/Throwable", "suppressedExceptions", "Ljava/util/List;", false)
  | 3 => ("java/lang/Throwable", "detailMessage", "Ljava/lang/String;", false)
  | 4 => ("java/lang/Throwable", "backtrace", "Ljava/lang/Object;", false)
  | 5 => ("java/lang/Throwable", "depth", "I", false)
  | _ => ("SeenByOne$Refused", "why", "I", true)
def tyX5 : Nat → FieldType := fun k => match k with
  | 0 => .object "java/lang/Throwable"
  | 1 => .array (.object "java/lang/StackTraceElement")
  | 2 => .object "java/util/List"
  | 3 => .object "java/lang/String"
  | 4 => .object "java/lang/Object"
  | 5 => .int
  | _ => .int
abbrev wsX50 : List Cond := u_ws RX5 TX5 7
theorem nmX5 : ∀ a, a < 7 → ∀ b, b < 7 → a ≠ b → (TX5 a).2.1 ≠ (TX5 b).2.1 := by decide +kernel
theorem tyX5_ok : ∀ k, k < 7 → parseFieldDescriptor (TX5 k).2.2.1 = some (tyX5 k) := by decide +kernel
abbrev cX5_init : ByteArray := prog_11_method_1_code
def yX5_init : MethodName := ⟨RX5, "<init>", "(I)V"⟩
def dkwX5_init_0 : List UInt8 := [42, 1, 1, 3, 3, 183, 0, 1, 42, 27, 181, 0, 7, 177]
abbrev dktX5_init_0 : List UInt8 := dkwX5_init_0 ++ []
theorem dksX5_init_0 : cX5_init.data.toList.drop 0 = dktX5_init_0 := by decide +kernel
theorem dX5_init_0 : decode cX5_init 0 = .ok (.aload_n 0, 1) := dk_42 (dk_at dksX5_init_0 0 rfl rfl)
theorem dX5_init_1 : decode cX5_init 1 = .ok (.aconst_null, 1) := dk_1 (dk_at dksX5_init_0 1 rfl rfl)
theorem dX5_init_2 : decode cX5_init 2 = .ok (.aconst_null, 1) := dk_1 (dk_at dksX5_init_0 2 rfl rfl)
theorem dX5_init_3 : decode cX5_init 3 = .ok (.iconst 0, 1) := dk_3 (dk_at dksX5_init_0 3 rfl rfl)
theorem dX5_init_4 : decode cX5_init 4 = .ok (.iconst 0, 1) := dk_3 (dk_at dksX5_init_0 4 rfl rfl)
theorem dX5_init_5 : decode cX5_init 5 = .ok (.invokespecial 1, 3) := dk_183 0 1 (dk_at dksX5_init_0 5 rfl rfl)
theorem dX5_init_8 : decode cX5_init 8 = .ok (.aload_n 0, 1) := dk_42 (dk_at dksX5_init_0 8 rfl rfl)
theorem dX5_init_9 : decode cX5_init 9 = .ok (.iload_n 1, 1) := dk_27 (dk_at dksX5_init_0 9 rfl rfl)
theorem dX5_init_10 : decode cX5_init 10 = .ok (.putfield 7, 3) := dk_181 0 7 (dk_at dksX5_init_0 10 rfl rfl)
theorem dX5_init_13 : decode cX5_init 13 = .ok (.return_, 1) := dk_177 (dk_at dksX5_init_0 13 rfl rfl)
theorem q86 : (Jvm.Cond.initialized "SeenByOne$Refused") ∈ lw_all := lw_g (lw_at lw_m1 12 rfl) rfl
theorem q252 : (Jvm.Cond.selects "SeenByOne$Refused" ({ cls := "java/lang/Throwable", name := "fillInStackTrace", desc := "()Ljava/lang/Throwable;" } : Jvm.MethodName) ({ cls := "java/lang/Throwable", name := "fillInStackTrace", desc := "()Ljava/lang/Throwable;" } : Jvm.MethodName)) ∈ lw_all := lw_g (lw_at lw_m1 178 rfl) rfl
theorem q305 : (Jvm.Cond.instantiable "SeenByOne$Refused" (7 : Nat)) ∈ lw_all := lw_g (lw_at lw_m1 231 rfl) rfl
theorem q306 : (Jvm.Cond.castable "SeenByOne$Refused" "SeenByOne$Refused") ∈ lw_tbl := lw_at lw_m1 232 rfl
theorem q307 : (Jvm.Cond.selects "SeenByOne$Refused" ({ cls := "java/lang/Throwable", name := "fillInStackTrace", desc := "(I)Ljava/lang/Throwable;" } : Jvm.MethodName) ({ cls := "java/lang/Throwable", name := "fillInStackTrace", desc := "(I)Ljava/lang/Throwable;" } : Jvm.MethodName)) ∈ lw_all := lw_g (lw_at lw_m1 233 rfl) rfl
theorem q308 : (Jvm.Cond.lays "SeenByOne$Refused" "java/lang/Throwable" "cause" "Ljava/lang/Throwable;") ∈ lw_all := lw_g (lw_at lw_m1 234 rfl) rfl
theorem q309 : (Jvm.Cond.lays "SeenByOne$Refused" "java/lang/Throwable" "stackTrace" "[Ljava/lang/StackTraceElement;") ∈ lw_all := lw_g (lw_at lw_m1 235 rfl) rfl
theorem q310 : (Jvm.Cond.lays "SeenByOne$Refused" "java/lang/Throwable" "suppressedExceptions" "Ljava/util/List;") ∈ lw_all := lw_g (lw_at lw_m1 236 rfl) rfl
theorem q311 : (Jvm.Cond.lays "SeenByOne$Refused" "java/lang/Throwable" "detailMessage" "Ljava/lang/String;") ∈ lw_all := lw_g (lw_at lw_m1 237 rfl) rfl
theorem q312 : (Jvm.Cond.lays "SeenByOne$Refused" "java/lang/Throwable" "backtrace" "Ljava/lang/Object;") ∈ lw_all := lw_g (lw_at lw_m1 238 rfl) rfl
theorem q314 : (Jvm.Cond.instanceMethod ({ cls := "SeenByOne$Refused", name := "<init>", desc := "(I)V" } : Jvm.MethodName)) ∈ lw_all := lw_g (lw_at lw_m2 0 rfl) rfl
theorem q315 : (Jvm.Cond.code ({ cls := "SeenByOne$Refused", name := "<init>", desc := "(I)V" } : Jvm.MethodName) prog_11_method_1_code (2 : Nat) (Option.none : Option Jvm.ClassFile.FieldType)) ∈ lw_all := lw_g (lw_at lw_m2 1 rfl) rfl
theorem q316 : (Jvm.Cond.methodLink "SeenByOne$Refused" (1 : Nat) ({ cls := "java/lang/Exception", name := "<init>", desc := "(Ljava/lang/String;Ljava/lang/Throwable;ZZ)V" } : Jvm.MethodName)) ∈ lw_all := lw_g (lw_at lw_m2 2 rfl) rfl
theorem q322 : (Jvm.Cond.fieldLink "SeenByOne$Refused" (7 : Nat) "SeenByOne$Refused" "why" "I") ∈ lw_all := lw_g (lw_at lw_m2 8 rfl) rfl
theorem q324 : (Jvm.Cond.laysFinal "SeenByOne$Refused" "SeenByOne$Refused" "why" "I") ∈ lw_all := lw_g (lw_at lw_m2 10 rfl) rfl
theorem q325 : (Jvm.Cond.soleField "SeenByOne$Refused" "why") ∈ lw_all := lw_g (lw_at lw_m2 11 rfl) rfl
theorem q326 : (Jvm.Cond.lays "SeenByOne$Refused" "java/lang/Throwable" "depth" "I") ∈ lw_all := lw_g (lw_at lw_m2 12 rfl) rfl
theorem q327 : (Jvm.Cond.superclass "SeenByOne$Refused" "java/lang/Exception") ∈ lw_all := lw_g (lw_at lw_m2 13 rfl) rfl
theorem in_X5 : ∀ w ∈ wsX50, w ∈ lw_all := lw_in wsX50 [308, 309, 310, 311, 312, 326, 324] (by decide +kernel) (by decide +kernel)

/-! SeenByOne$Row -/
set_option maxRecDepth 100000
def RX6 : String := "SeenByOne$Row"
abbrev cX6_init : ByteArray := prog_12_method_1_code
def yX6_init : MethodName := ⟨RX6, "<init>", "()V"⟩
theorem dX6_init_0 : decode cX6_init 0 = .ok (.aload_n 0, 1) := by decide +kernel
theorem dX6_init_1 : decode cX6_init 1 = .ok (.invokespecial 1, 3) := by decide +kernel
theorem dX6_init_4 : decode cX6_init 4 = .ok (.return_, 1) := by decide +kernel
abbrev cX6_asInt : ByteArray := prog_12_method_9_code
def yX6_asInt : MethodName := ⟨RX6, "asInt", "(I)I"⟩
def dkwX6_asInt_0 : List UInt8 := [42, 27, 182, 0, 7, 136, 172]
abbrev dktX6_asInt_0 : List UInt8 := dkwX6_asInt_0 ++ []
theorem dksX6_asInt_0 : cX6_asInt.data.toList.drop 0 = dktX6_asInt_0 := by decide +kernel
theorem dX6_asInt_0 : decode cX6_asInt 0 = .ok (.aload_n 0, 1) := dk_42 (dk_at dksX6_asInt_0 0 rfl rfl)
theorem dX6_asInt_1 : decode cX6_asInt 1 = .ok (.iload_n 1, 1) := dk_27 (dk_at dksX6_asInt_0 1 rfl rfl)
theorem dX6_asInt_2 : decode cX6_asInt 2 = .ok (.invokevirtual 7, 3) := dk_182 0 7 (dk_at dksX6_asInt_0 2 rfl rfl)
theorem dX6_asInt_5 : decode cX6_asInt 5 = .ok (.l2i, 1) := dk_136 (dk_at dksX6_asInt_0 5 rfl rfl)
theorem dX6_asInt_6 : decode cX6_asInt 6 = .ok (.ireturn, 1) := dk_172 (dk_at dksX6_asInt_0 6 rfl rfl)
theorem q88 : (Jvm.Cond.initialized "SeenByOne$Row") ∈ lw_all := lw_g (lw_at lw_m1 14 rfl) rfl
theorem q358 : (Jvm.Cond.instanceMethod ({ cls := "SeenByOne$Row", name := "<init>", desc := "()V" } : Jvm.MethodName)) ∈ lw_all := lw_g (lw_at lw_m2 44 rfl) rfl
theorem q359 : (Jvm.Cond.code ({ cls := "SeenByOne$Row", name := "<init>", desc := "()V" } : Jvm.MethodName) prog_12_method_1_code (1 : Nat) (Option.none : Option Jvm.ClassFile.FieldType)) ∈ lw_all := lw_g (lw_at lw_m2 45 rfl) rfl
theorem q360 : (Jvm.Cond.methodLink "SeenByOne$Row" (1 : Nat) ({ cls := "java/lang/Object", name := "<init>", desc := "()V" } : Jvm.MethodName)) ∈ lw_all := lw_g (lw_at lw_m2 46 rfl) rfl
theorem q428 : (Jvm.Cond.declares ({ cls := "SeenByOne$Row", name := "put", desc := "(IJ)V" } : Jvm.MethodName)) ∈ lw_tbl := lw_at lw_m2 114 rfl
theorem q429 : (Jvm.Cond.sameMethod "SeenByOne$Row" "SeenByOne$Row" "put" "(IJ)V") ∈ lw_all := lw_g (lw_at lw_m2 115 rfl) rfl
theorem q453 : (Jvm.Cond.declares ({ cls := "SeenByOne$Row", name := "sort", desc := "()I" } : Jvm.MethodName)) ∈ lw_tbl := lw_at lw_m2 139 rfl
theorem q454 : (Jvm.Cond.sameMethod "SeenByOne$Row" "SeenByOne$Row" "sort" "()I") ∈ lw_all := lw_g (lw_at lw_m2 140 rfl) rfl
theorem q468 : (Jvm.Cond.declares ({ cls := "SeenByOne$Row", name := "held", desc := "()Ljava/lang/Object;" } : Jvm.MethodName)) ∈ lw_tbl := lw_at lw_m2 154 rfl
theorem q469 : (Jvm.Cond.sameMethod "SeenByOne$Row" "SeenByOne$Row" "held" "()Ljava/lang/Object;") ∈ lw_all := lw_g (lw_at lw_m2 155 rfl) rfl
theorem q490 : (Jvm.Cond.declares ({ cls := "SeenByOne$Row", name := "get", desc := "(I)J" } : Jvm.MethodName)) ∈ lw_tbl := lw_at lw_m2 176 rfl
theorem q491 : (Jvm.Cond.sameMethod "SeenByOne$Row" "SeenByOne$Row" "get" "(I)J") ∈ lw_all := lw_g (lw_at lw_m2 177 rfl) rfl
theorem q913 : (Jvm.Cond.declares ({ cls := "SeenByOne$Row", name := "length", desc := "()I" } : Jvm.MethodName)) ∈ lw_tbl := lw_at lw_m4 119 rfl
theorem q914 : (Jvm.Cond.sameMethod "SeenByOne$Row" "SeenByOne$Row" "length" "()I") ∈ lw_all := lw_g (lw_at lw_m4 120 rfl) rfl
theorem q928 : (Jvm.Cond.instanceMethod ({ cls := "SeenByOne$Row", name := "asInt", desc := "(I)I" } : Jvm.MethodName)) ∈ lw_all := lw_g (lw_at lw_m4 134 rfl) rfl
theorem q929 : (Jvm.Cond.sameMethod "SeenByOne$Row" "SeenByOne$Row" "asInt" "(I)I") ∈ lw_all := lw_g (lw_at lw_m4 135 rfl) rfl
theorem q934 : (Jvm.Cond.code ({ cls := "SeenByOne$Row", name := "asInt", desc := "(I)I" } : Jvm.MethodName) prog_12_method_9_code (2 : Nat) (Option.some Jvm.ClassFile.FieldType.int)) ∈ lw_all := lw_g (lw_at lw_m4 140 rfl) rfl
theorem q935 : (Jvm.Cond.methodLink "SeenByOne$Row" (7 : Nat) ({ cls := "SeenByOne$Row", name := "get", desc := "(I)J" } : Jvm.MethodName)) ∈ lw_all := lw_g (lw_at lw_m4 141 rfl) rfl

/-! SeenByOne$Bytes -/
set_option maxRecDepth 100000
def RX7 : String := "SeenByOne$Bytes"
def TX7 : u_T := fun k => match k with
  | _ => ("SeenByOne$Bytes", "e", "[B", true)
def tyX7 : Nat → FieldType := fun k => match k with
  | _ => .array .byte
abbrev wsX70 : List Cond := u_ws RX7 TX7 1
theorem nmX7 : ∀ a, a < 1 → ∀ b, b < 1 → a ≠ b → (TX7 a).2.1 ≠ (TX7 b).2.1 := by decide +kernel
theorem tyX7_ok : ∀ k, k < 1 → parseFieldDescriptor (TX7 k).2.2.1 = some (tyX7 k) := by decide +kernel
abbrev cX7_init : ByteArray := prog_3_method_1_code
def yX7_init : MethodName := ⟨RX7, "<init>", "(I)V"⟩
def dkwX7_init_0 : List UInt8 := [42, 183, 0, 1, 42, 27, 188, 8, 181, 0, 7, 177]
abbrev dktX7_init_0 : List UInt8 := dkwX7_init_0 ++ []
theorem dksX7_init_0 : cX7_init.data.toList.drop 0 = dktX7_init_0 := by decide +kernel
theorem dX7_init_0 : decode cX7_init 0 = .ok (.aload_n 0, 1) := dk_42 (dk_at dksX7_init_0 0 rfl rfl)
theorem dX7_init_1 : decode cX7_init 1 = .ok (.invokespecial 1, 3) := dk_183 0 1 (dk_at dksX7_init_0 1 rfl rfl)
theorem dX7_init_4 : decode cX7_init 4 = .ok (.aload_n 0, 1) := dk_42 (dk_at dksX7_init_0 4 rfl rfl)
theorem dX7_init_5 : decode cX7_init 5 = .ok (.iload_n 1, 1) := dk_27 (dk_at dksX7_init_0 5 rfl rfl)
theorem dX7_init_6 : decode cX7_init 6 = .ok (.newarray .byte, 2) := dk_188_8 (dk_at dksX7_init_0 6 rfl rfl)
theorem dX7_init_8 : decode cX7_init 8 = .ok (.putfield 7, 3) := dk_181 0 7 (dk_at dksX7_init_0 8 rfl rfl)
theorem dX7_init_11 : decode cX7_init 11 = .ok (.return_, 1) := dk_177 (dk_at dksX7_init_0 11 rfl rfl)
abbrev cX7_put : ByteArray := prog_3_method_4_code
def yX7_put : MethodName := ⟨RX7, "put", "(IJ)V"⟩
def dkwX7_put_0 : List UInt8 := [42, 180, 0, 7, 27, 32, 136, 145, 84, 177]
abbrev dktX7_put_0 : List UInt8 := dkwX7_put_0 ++ []
theorem dksX7_put_0 : cX7_put.data.toList.drop 0 = dktX7_put_0 := by decide +kernel
theorem dX7_put_0 : decode cX7_put 0 = .ok (.aload_n 0, 1) := dk_42 (dk_at dksX7_put_0 0 rfl rfl)
theorem dX7_put_1 : decode cX7_put 1 = .ok (.getfield 7, 3) := dk_180 0 7 (dk_at dksX7_put_0 1 rfl rfl)
theorem dX7_put_4 : decode cX7_put 4 = .ok (.iload_n 1, 1) := dk_27 (dk_at dksX7_put_0 4 rfl rfl)
theorem dX7_put_5 : decode cX7_put 5 = .ok (.lload_n 2, 1) := dk_32 (dk_at dksX7_put_0 5 rfl rfl)
theorem dX7_put_6 : decode cX7_put 6 = .ok (.l2i, 1) := dk_136 (dk_at dksX7_put_0 6 rfl rfl)
theorem dX7_put_7 : decode cX7_put 7 = .ok (.i2b, 1) := dk_145 (dk_at dksX7_put_0 7 rfl rfl)
theorem dX7_put_8 : decode cX7_put 8 = .ok (.bastore, 1) := dk_84 (dk_at dksX7_put_0 8 rfl rfl)
theorem dX7_put_9 : decode cX7_put 9 = .ok (.return_, 1) := dk_177 (dk_at dksX7_put_0 9 rfl rfl)
abbrev cX7_sort : ByteArray := prog_3_method_2_code
def yX7_sort : MethodName := ⟨RX7, "sort", "()I"⟩
theorem dX7_sort_0 : decode cX7_sort 0 = .ok (.iconst 0, 1) := by decide +kernel
theorem dX7_sort_1 : decode cX7_sort 1 = .ok (.ireturn, 1) := by decide +kernel
abbrev cX7_held : ByteArray := prog_3_method_8_code
def yX7_held : MethodName := ⟨RX7, "held", "()Ljava/lang/Object;"⟩
theorem dX7_held_0 : decode cX7_held 0 = .ok (.aload_n 0, 1) := by decide +kernel
theorem dX7_held_1 : decode cX7_held 1 = .ok (.getfield 7, 3) := by decide +kernel
theorem dX7_held_4 : decode cX7_held 4 = .ok (.areturn, 1) := by decide +kernel
abbrev cX7_get : ByteArray := prog_3_method_5_code
def yX7_get : MethodName := ⟨RX7, "get", "(I)J"⟩
def dkwX7_get_0 : List UInt8 := [42, 180, 0, 7, 27, 51, 133, 173]
abbrev dktX7_get_0 : List UInt8 := dkwX7_get_0 ++ []
theorem dksX7_get_0 : cX7_get.data.toList.drop 0 = dktX7_get_0 := by decide +kernel
theorem dX7_get_0 : decode cX7_get 0 = .ok (.aload_n 0, 1) := dk_42 (dk_at dksX7_get_0 0 rfl rfl)
theorem dX7_get_1 : decode cX7_get 1 = .ok (.getfield 7, 3) := dk_180 0 7 (dk_at dksX7_get_0 1 rfl rfl)
theorem dX7_get_4 : decode cX7_get 4 = .ok (.iload_n 1, 1) := dk_27 (dk_at dksX7_get_0 4 rfl rfl)
theorem dX7_get_5 : decode cX7_get 5 = .ok (.baload, 1) := dk_51 (dk_at dksX7_get_0 5 rfl rfl)
theorem dX7_get_6 : decode cX7_get 6 = .ok (.i2l, 1) := dk_133 (dk_at dksX7_get_0 6 rfl rfl)
theorem dX7_get_7 : decode cX7_get 7 = .ok (.lreturn, 1) := dk_173 (dk_at dksX7_get_0 7 rfl rfl)
abbrev cX7_length : ByteArray := prog_3_method_3_code
def yX7_length : MethodName := ⟨RX7, "length", "()I"⟩
def dkwX7_length_0 : List UInt8 := [42, 180, 0, 7, 190, 172]
abbrev dktX7_length_0 : List UInt8 := dkwX7_length_0 ++ []
theorem dksX7_length_0 : cX7_length.data.toList.drop 0 = dktX7_length_0 := by decide +kernel
theorem dX7_length_0 : decode cX7_length 0 = .ok (.aload_n 0, 1) := dk_42 (dk_at dksX7_length_0 0 rfl rfl)
theorem dX7_length_1 : decode cX7_length 1 = .ok (.getfield 7, 3) := dk_180 0 7 (dk_at dksX7_length_0 1 rfl rfl)
theorem dX7_length_4 : decode cX7_length 4 = .ok (.arraylength, 1) := dk_190 (dk_at dksX7_length_0 4 rfl rfl)
theorem dX7_length_5 : decode cX7_length 5 = .ok (.ireturn, 1) := dk_172 (dk_at dksX7_length_0 5 rfl rfl)
theorem q89 : (Jvm.Cond.initialized "SeenByOne$Bytes") ∈ lw_all := lw_g (lw_at lw_m1 15 rfl) rfl
theorem q353 : (Jvm.Cond.instantiable "SeenByOne$Bytes" (1 : Nat)) ∈ lw_all := lw_g (lw_at lw_m2 39 rfl) rfl
theorem q355 : (Jvm.Cond.instanceMethod ({ cls := "SeenByOne$Bytes", name := "<init>", desc := "(I)V" } : Jvm.MethodName)) ∈ lw_all := lw_g (lw_at lw_m2 41 rfl) rfl
theorem q356 : (Jvm.Cond.code ({ cls := "SeenByOne$Bytes", name := "<init>", desc := "(I)V" } : Jvm.MethodName) prog_3_method_1_code (2 : Nat) (Option.none : Option Jvm.ClassFile.FieldType)) ∈ lw_all := lw_g (lw_at lw_m2 42 rfl) rfl
theorem q357 : (Jvm.Cond.methodLink "SeenByOne$Bytes" (1 : Nat) ({ cls := "SeenByOne$Row", name := "<init>", desc := "()V" } : Jvm.MethodName)) ∈ lw_all := lw_g (lw_at lw_m2 43 rfl) rfl
theorem q361 : (Jvm.Cond.fieldLink "SeenByOne$Bytes" (7 : Nat) "SeenByOne$Bytes" "e" "[B") ∈ lw_all := lw_g (lw_at lw_m2 47 rfl) rfl
theorem q362 : (Jvm.Cond.laysFinal "SeenByOne$Bytes" "SeenByOne$Bytes" "e" "[B") ∈ lw_all := lw_g (lw_at lw_m2 48 rfl) rfl
theorem q363 : (Jvm.Cond.soleField "SeenByOne$Bytes" "e") ∈ lw_all := lw_g (lw_at lw_m2 49 rfl) rfl
theorem q364 : (Jvm.Cond.superclass "SeenByOne$Bytes" "SeenByOne$Row") ∈ lw_all := lw_g (lw_at lw_m2 50 rfl) rfl
theorem q430 : (Jvm.Cond.selects "SeenByOne$Bytes" ({ cls := "SeenByOne$Row", name := "put", desc := "(IJ)V" } : Jvm.MethodName) ({ cls := "SeenByOne$Bytes", name := "put", desc := "(IJ)V" } : Jvm.MethodName)) ∈ lw_all := lw_g (lw_at lw_m2 116 rfl) rfl
theorem q431 : (Jvm.Cond.instanceMethod ({ cls := "SeenByOne$Bytes", name := "put", desc := "(IJ)V" } : Jvm.MethodName)) ∈ lw_all := lw_g (lw_at lw_m2 117 rfl) rfl
theorem q432 : (Jvm.Cond.code ({ cls := "SeenByOne$Bytes", name := "put", desc := "(IJ)V" } : Jvm.MethodName) prog_3_method_4_code (4 : Nat) (Option.none : Option Jvm.ClassFile.FieldType)) ∈ lw_all := lw_g (lw_at lw_m2 118 rfl) rfl
theorem q455 : (Jvm.Cond.selects "SeenByOne$Bytes" ({ cls := "SeenByOne$Row", name := "sort", desc := "()I" } : Jvm.MethodName) ({ cls := "SeenByOne$Bytes", name := "sort", desc := "()I" } : Jvm.MethodName)) ∈ lw_all := lw_g (lw_at lw_m2 141 rfl) rfl
theorem q456 : (Jvm.Cond.instanceMethod ({ cls := "SeenByOne$Bytes", name := "sort", desc := "()I" } : Jvm.MethodName)) ∈ lw_all := lw_g (lw_at lw_m2 142 rfl) rfl
theorem q457 : (Jvm.Cond.code ({ cls := "SeenByOne$Bytes", name := "sort", desc := "()I" } : Jvm.MethodName) prog_3_method_2_code (1 : Nat) (Option.some Jvm.ClassFile.FieldType.int)) ∈ lw_all := lw_g (lw_at lw_m2 143 rfl) rfl
theorem q470 : (Jvm.Cond.selects "SeenByOne$Bytes" ({ cls := "SeenByOne$Row", name := "held", desc := "()Ljava/lang/Object;" } : Jvm.MethodName) ({ cls := "SeenByOne$Bytes", name := "held", desc := "()Ljava/lang/Object;" } : Jvm.MethodName)) ∈ lw_all := lw_g (lw_at lw_m2 156 rfl) rfl
theorem q471 : (Jvm.Cond.instanceMethod ({ cls := "SeenByOne$Bytes", name := "held", desc := "()Ljava/lang/Object;" } : Jvm.MethodName)) ∈ lw_all := lw_g (lw_at lw_m2 157 rfl) rfl
theorem q472 : (Jvm.Cond.code ({ cls := "SeenByOne$Bytes", name := "held", desc := "()Ljava/lang/Object;" } : Jvm.MethodName) prog_3_method_8_code (1 : Nat) (Option.some (Jvm.ClassFile.FieldType.object "java/lang/Object"))) ∈ lw_all := lw_g (lw_at lw_m2 158 rfl) rfl
theorem q492 : (Jvm.Cond.selects "SeenByOne$Bytes" ({ cls := "SeenByOne$Row", name := "get", desc := "(I)J" } : Jvm.MethodName) ({ cls := "SeenByOne$Bytes", name := "get", desc := "(I)J" } : Jvm.MethodName)) ∈ lw_all := lw_g (lw_at lw_m2 178 rfl) rfl
theorem q493 : (Jvm.Cond.instanceMethod ({ cls := "SeenByOne$Bytes", name := "get", desc := "(I)J" } : Jvm.MethodName)) ∈ lw_all := lw_g (lw_at lw_m2 179 rfl) rfl
theorem q494 : (Jvm.Cond.code ({ cls := "SeenByOne$Bytes", name := "get", desc := "(I)J" } : Jvm.MethodName) prog_3_method_5_code (2 : Nat) (Option.some Jvm.ClassFile.FieldType.long)) ∈ lw_all := lw_g (lw_at lw_m2 180 rfl) rfl
theorem q915 : (Jvm.Cond.selects "SeenByOne$Bytes" ({ cls := "SeenByOne$Row", name := "length", desc := "()I" } : Jvm.MethodName) ({ cls := "SeenByOne$Bytes", name := "length", desc := "()I" } : Jvm.MethodName)) ∈ lw_all := lw_g (lw_at lw_m4 121 rfl) rfl
theorem q916 : (Jvm.Cond.instanceMethod ({ cls := "SeenByOne$Bytes", name := "length", desc := "()I" } : Jvm.MethodName)) ∈ lw_all := lw_g (lw_at lw_m4 122 rfl) rfl
theorem q917 : (Jvm.Cond.code ({ cls := "SeenByOne$Bytes", name := "length", desc := "()I" } : Jvm.MethodName) prog_3_method_3_code (1 : Nat) (Option.some Jvm.ClassFile.FieldType.int)) ∈ lw_all := lw_g (lw_at lw_m4 123 rfl) rfl
theorem q930 : (Jvm.Cond.selects "SeenByOne$Bytes" ({ cls := "SeenByOne$Row", name := "asInt", desc := "(I)I" } : Jvm.MethodName) ({ cls := "SeenByOne$Row", name := "asInt", desc := "(I)I" } : Jvm.MethodName)) ∈ lw_all := lw_g (lw_at lw_m4 136 rfl) rfl
theorem q1838 : (Jvm.Cond.castable "SeenByOne$Bytes" "SeenByOne$Row") ∈ lw_tbl := lw_at lw_m8 84 rfl
theorem in_X7 : ∀ w ∈ wsX70, w ∈ lw_all := lw_in wsX70 [362] (by decide +kernel) (by decide +kernel)

/-! SeenByOne$Shorts -/
set_option maxRecDepth 100000
def RX8 : String := "SeenByOne$Shorts"
def TX8 : u_T := fun k => match k with
  | _ => ("SeenByOne$Shorts", "e", "[S", true)
def tyX8 : Nat → FieldType := fun k => match k with
  | _ => .array .short
abbrev wsX80 : List Cond := u_ws RX8 TX8 1
theorem nmX8 : ∀ a, a < 1 → ∀ b, b < 1 → a ≠ b → (TX8 a).2.1 ≠ (TX8 b).2.1 := by decide +kernel
theorem tyX8_ok : ∀ k, k < 1 → parseFieldDescriptor (TX8 k).2.2.1 = some (tyX8 k) := by decide +kernel
abbrev cX8_init : ByteArray := prog_14_method_1_code
def yX8_init : MethodName := ⟨RX8, "<init>", "(I)V"⟩
def dkwX8_init_0 : List UInt8 := [42, 183, 0, 1, 42, 27, 188, 9, 181, 0, 7, 177]
abbrev dktX8_init_0 : List UInt8 := dkwX8_init_0 ++ []
theorem dksX8_init_0 : cX8_init.data.toList.drop 0 = dktX8_init_0 := by decide +kernel
theorem dX8_init_0 : decode cX8_init 0 = .ok (.aload_n 0, 1) := dk_42 (dk_at dksX8_init_0 0 rfl rfl)
theorem dX8_init_1 : decode cX8_init 1 = .ok (.invokespecial 1, 3) := dk_183 0 1 (dk_at dksX8_init_0 1 rfl rfl)
theorem dX8_init_4 : decode cX8_init 4 = .ok (.aload_n 0, 1) := dk_42 (dk_at dksX8_init_0 4 rfl rfl)
theorem dX8_init_5 : decode cX8_init 5 = .ok (.iload_n 1, 1) := dk_27 (dk_at dksX8_init_0 5 rfl rfl)
theorem dX8_init_6 : decode cX8_init 6 = .ok (.newarray .short, 2) := dk_188_9 (dk_at dksX8_init_0 6 rfl rfl)
theorem dX8_init_8 : decode cX8_init 8 = .ok (.putfield 7, 3) := dk_181 0 7 (dk_at dksX8_init_0 8 rfl rfl)
theorem dX8_init_11 : decode cX8_init 11 = .ok (.return_, 1) := dk_177 (dk_at dksX8_init_0 11 rfl rfl)
abbrev cX8_put : ByteArray := prog_14_method_4_code
def yX8_put : MethodName := ⟨RX8, "put", "(IJ)V"⟩
def dkwX8_put_0 : List UInt8 := [42, 180, 0, 7, 27, 32, 136, 147, 86, 177]
abbrev dktX8_put_0 : List UInt8 := dkwX8_put_0 ++ []
theorem dksX8_put_0 : cX8_put.data.toList.drop 0 = dktX8_put_0 := by decide +kernel
theorem dX8_put_0 : decode cX8_put 0 = .ok (.aload_n 0, 1) := dk_42 (dk_at dksX8_put_0 0 rfl rfl)
theorem dX8_put_1 : decode cX8_put 1 = .ok (.getfield 7, 3) := dk_180 0 7 (dk_at dksX8_put_0 1 rfl rfl)
theorem dX8_put_4 : decode cX8_put 4 = .ok (.iload_n 1, 1) := dk_27 (dk_at dksX8_put_0 4 rfl rfl)
theorem dX8_put_5 : decode cX8_put 5 = .ok (.lload_n 2, 1) := dk_32 (dk_at dksX8_put_0 5 rfl rfl)
theorem dX8_put_6 : decode cX8_put 6 = .ok (.l2i, 1) := dk_136 (dk_at dksX8_put_0 6 rfl rfl)
theorem dX8_put_7 : decode cX8_put 7 = .ok (.i2s, 1) := dk_147 (dk_at dksX8_put_0 7 rfl rfl)
theorem dX8_put_8 : decode cX8_put 8 = .ok (.sastore, 1) := dk_86 (dk_at dksX8_put_0 8 rfl rfl)
theorem dX8_put_9 : decode cX8_put 9 = .ok (.return_, 1) := dk_177 (dk_at dksX8_put_0 9 rfl rfl)
abbrev cX8_sort : ByteArray := prog_14_method_2_code
def yX8_sort : MethodName := ⟨RX8, "sort", "()I"⟩
theorem dX8_sort_0 : decode cX8_sort 0 = .ok (.iconst 1, 1) := by decide +kernel
theorem dX8_sort_1 : decode cX8_sort 1 = .ok (.ireturn, 1) := by decide +kernel
abbrev cX8_held : ByteArray := prog_14_method_8_code
def yX8_held : MethodName := ⟨RX8, "held", "()Ljava/lang/Object;"⟩
theorem dX8_held_0 : decode cX8_held 0 = .ok (.aload_n 0, 1) := by decide +kernel
theorem dX8_held_1 : decode cX8_held 1 = .ok (.getfield 7, 3) := by decide +kernel
theorem dX8_held_4 : decode cX8_held 4 = .ok (.areturn, 1) := by decide +kernel
abbrev cX8_get : ByteArray := prog_14_method_5_code
def yX8_get : MethodName := ⟨RX8, "get", "(I)J"⟩
def dkwX8_get_0 : List UInt8 := [42, 180, 0, 7, 27, 53, 133, 173]
abbrev dktX8_get_0 : List UInt8 := dkwX8_get_0 ++ []
theorem dksX8_get_0 : cX8_get.data.toList.drop 0 = dktX8_get_0 := by decide +kernel
theorem dX8_get_0 : decode cX8_get 0 = .ok (.aload_n 0, 1) := dk_42 (dk_at dksX8_get_0 0 rfl rfl)
theorem dX8_get_1 : decode cX8_get 1 = .ok (.getfield 7, 3) := dk_180 0 7 (dk_at dksX8_get_0 1 rfl rfl)
theorem dX8_get_4 : decode cX8_get 4 = .ok (.iload_n 1, 1) := dk_27 (dk_at dksX8_get_0 4 rfl rfl)
theorem dX8_get_5 : decode cX8_get 5 = .ok (.saload, 1) := dk_53 (dk_at dksX8_get_0 5 rfl rfl)
theorem dX8_get_6 : decode cX8_get 6 = .ok (.i2l, 1) := dk_133 (dk_at dksX8_get_0 6 rfl rfl)
theorem dX8_get_7 : decode cX8_get 7 = .ok (.lreturn, 1) := dk_173 (dk_at dksX8_get_0 7 rfl rfl)
abbrev cX8_length : ByteArray := prog_14_method_3_code
def yX8_length : MethodName := ⟨RX8, "length", "()I"⟩
def dkwX8_length_0 : List UInt8 := [42, 180, 0, 7, 190, 172]
abbrev dktX8_length_0 : List UInt8 := dkwX8_length_0 ++ []
theorem dksX8_length_0 : cX8_length.data.toList.drop 0 = dktX8_length_0 := by decide +kernel
theorem dX8_length_0 : decode cX8_length 0 = .ok (.aload_n 0, 1) := dk_42 (dk_at dksX8_length_0 0 rfl rfl)
theorem dX8_length_1 : decode cX8_length 1 = .ok (.getfield 7, 3) := dk_180 0 7 (dk_at dksX8_length_0 1 rfl rfl)
theorem dX8_length_4 : decode cX8_length 4 = .ok (.arraylength, 1) := dk_190 (dk_at dksX8_length_0 4 rfl rfl)
theorem dX8_length_5 : decode cX8_length 5 = .ok (.ireturn, 1) := dk_172 (dk_at dksX8_length_0 5 rfl rfl)
theorem q90 : (Jvm.Cond.initialized "SeenByOne$Shorts") ∈ lw_all := lw_g (lw_at lw_m1 16 rfl) rfl
theorem q366 : (Jvm.Cond.instantiable "SeenByOne$Shorts" (1 : Nat)) ∈ lw_all := lw_g (lw_at lw_m2 52 rfl) rfl
theorem q368 : (Jvm.Cond.instanceMethod ({ cls := "SeenByOne$Shorts", name := "<init>", desc := "(I)V" } : Jvm.MethodName)) ∈ lw_all := lw_g (lw_at lw_m2 54 rfl) rfl
theorem q369 : (Jvm.Cond.code ({ cls := "SeenByOne$Shorts", name := "<init>", desc := "(I)V" } : Jvm.MethodName) prog_14_method_1_code (2 : Nat) (Option.none : Option Jvm.ClassFile.FieldType)) ∈ lw_all := lw_g (lw_at lw_m2 55 rfl) rfl
theorem q370 : (Jvm.Cond.methodLink "SeenByOne$Shorts" (1 : Nat) ({ cls := "SeenByOne$Row", name := "<init>", desc := "()V" } : Jvm.MethodName)) ∈ lw_all := lw_g (lw_at lw_m2 56 rfl) rfl
theorem q371 : (Jvm.Cond.fieldLink "SeenByOne$Shorts" (7 : Nat) "SeenByOne$Shorts" "e" "[S") ∈ lw_all := lw_g (lw_at lw_m2 57 rfl) rfl
theorem q372 : (Jvm.Cond.laysFinal "SeenByOne$Shorts" "SeenByOne$Shorts" "e" "[S") ∈ lw_all := lw_g (lw_at lw_m2 58 rfl) rfl
theorem q373 : (Jvm.Cond.soleField "SeenByOne$Shorts" "e") ∈ lw_all := lw_g (lw_at lw_m2 59 rfl) rfl
theorem q374 : (Jvm.Cond.superclass "SeenByOne$Shorts" "SeenByOne$Row") ∈ lw_all := lw_g (lw_at lw_m2 60 rfl) rfl
theorem q439 : (Jvm.Cond.selects "SeenByOne$Shorts" ({ cls := "SeenByOne$Row", name := "put", desc := "(IJ)V" } : Jvm.MethodName) ({ cls := "SeenByOne$Shorts", name := "put", desc := "(IJ)V" } : Jvm.MethodName)) ∈ lw_all := lw_g (lw_at lw_m2 125 rfl) rfl
theorem q440 : (Jvm.Cond.instanceMethod ({ cls := "SeenByOne$Shorts", name := "put", desc := "(IJ)V" } : Jvm.MethodName)) ∈ lw_all := lw_g (lw_at lw_m2 126 rfl) rfl
theorem q441 : (Jvm.Cond.code ({ cls := "SeenByOne$Shorts", name := "put", desc := "(IJ)V" } : Jvm.MethodName) prog_14_method_4_code (4 : Nat) (Option.none : Option Jvm.ClassFile.FieldType)) ∈ lw_all := lw_g (lw_at lw_m2 127 rfl) rfl
theorem q464 : (Jvm.Cond.selects "SeenByOne$Shorts" ({ cls := "SeenByOne$Row", name := "sort", desc := "()I" } : Jvm.MethodName) ({ cls := "SeenByOne$Shorts", name := "sort", desc := "()I" } : Jvm.MethodName)) ∈ lw_all := lw_g (lw_at lw_m2 150 rfl) rfl
theorem q465 : (Jvm.Cond.instanceMethod ({ cls := "SeenByOne$Shorts", name := "sort", desc := "()I" } : Jvm.MethodName)) ∈ lw_all := lw_g (lw_at lw_m2 151 rfl) rfl
theorem q466 : (Jvm.Cond.code ({ cls := "SeenByOne$Shorts", name := "sort", desc := "()I" } : Jvm.MethodName) prog_14_method_2_code (1 : Nat) (Option.some Jvm.ClassFile.FieldType.int)) ∈ lw_all := lw_g (lw_at lw_m2 152 rfl) rfl
theorem q479 : (Jvm.Cond.selects "SeenByOne$Shorts" ({ cls := "SeenByOne$Row", name := "held", desc := "()Ljava/lang/Object;" } : Jvm.MethodName) ({ cls := "SeenByOne$Shorts", name := "held", desc := "()Ljava/lang/Object;" } : Jvm.MethodName)) ∈ lw_all := lw_g (lw_at lw_m2 165 rfl) rfl
theorem q480 : (Jvm.Cond.instanceMethod ({ cls := "SeenByOne$Shorts", name := "held", desc := "()Ljava/lang/Object;" } : Jvm.MethodName)) ∈ lw_all := lw_g (lw_at lw_m2 166 rfl) rfl
theorem q481 : (Jvm.Cond.code ({ cls := "SeenByOne$Shorts", name := "held", desc := "()Ljava/lang/Object;" } : Jvm.MethodName) prog_14_method_8_code (1 : Nat) (Option.some (Jvm.ClassFile.FieldType.object "java/lang/Object"))) ∈ lw_all := lw_g (lw_at lw_m2 167 rfl) rfl
theorem q501 : (Jvm.Cond.selects "SeenByOne$Shorts" ({ cls := "SeenByOne$Row", name := "get", desc := "(I)J" } : Jvm.MethodName) ({ cls := "SeenByOne$Shorts", name := "get", desc := "(I)J" } : Jvm.MethodName)) ∈ lw_all := lw_g (lw_at lw_m2 187 rfl) rfl
theorem q502 : (Jvm.Cond.instanceMethod ({ cls := "SeenByOne$Shorts", name := "get", desc := "(I)J" } : Jvm.MethodName)) ∈ lw_all := lw_g (lw_at lw_m2 188 rfl) rfl
theorem q503 : (Jvm.Cond.code ({ cls := "SeenByOne$Shorts", name := "get", desc := "(I)J" } : Jvm.MethodName) prog_14_method_5_code (2 : Nat) (Option.some Jvm.ClassFile.FieldType.long)) ∈ lw_all := lw_g (lw_at lw_m2 189 rfl) rfl
theorem q924 : (Jvm.Cond.selects "SeenByOne$Shorts" ({ cls := "SeenByOne$Row", name := "length", desc := "()I" } : Jvm.MethodName) ({ cls := "SeenByOne$Shorts", name := "length", desc := "()I" } : Jvm.MethodName)) ∈ lw_all := lw_g (lw_at lw_m4 130 rfl) rfl
theorem q925 : (Jvm.Cond.instanceMethod ({ cls := "SeenByOne$Shorts", name := "length", desc := "()I" } : Jvm.MethodName)) ∈ lw_all := lw_g (lw_at lw_m4 131 rfl) rfl
theorem q926 : (Jvm.Cond.code ({ cls := "SeenByOne$Shorts", name := "length", desc := "()I" } : Jvm.MethodName) prog_14_method_3_code (1 : Nat) (Option.some Jvm.ClassFile.FieldType.int)) ∈ lw_all := lw_g (lw_at lw_m4 132 rfl) rfl
theorem q933 : (Jvm.Cond.selects "SeenByOne$Shorts" ({ cls := "SeenByOne$Row", name := "asInt", desc := "(I)I" } : Jvm.MethodName) ({ cls := "SeenByOne$Row", name := "asInt", desc := "(I)I" } : Jvm.MethodName)) ∈ lw_all := lw_g (lw_at lw_m4 139 rfl) rfl
theorem q1841 : (Jvm.Cond.castable "SeenByOne$Shorts" "SeenByOne$Row") ∈ lw_tbl := lw_at lw_m8 87 rfl
theorem in_X8 : ∀ w ∈ wsX80, w ∈ lw_all := lw_in wsX80 [372] (by decide +kernel) (by decide +kernel)

/-! SeenByOne$Ints -/
set_option maxRecDepth 100000
def RX9 : String := "SeenByOne$Ints"
def TX9 : u_T := fun k => match k with
  | _ => ("SeenByOne$Ints", "e", "[I", true)
def tyX9 : Nat → FieldType := fun k => match k with
  | _ => .array .int
abbrev wsX90 : List Cond := u_ws RX9 TX9 1
theorem nmX9 : ∀ a, a < 1 → ∀ b, b < 1 → a ≠ b → (TX9 a).2.1 ≠ (TX9 b).2.1 := by decide +kernel
theorem tyX9_ok : ∀ k, k < 1 → parseFieldDescriptor (TX9 k).2.2.1 = some (tyX9 k) := by decide +kernel
abbrev cX9_init : ByteArray := prog_8_method_1_code
def yX9_init : MethodName := ⟨RX9, "<init>", "(I)V"⟩
def dkwX9_init_0 : List UInt8 := [42, 183, 0, 1, 42, 27, 188, 10, 181, 0, 7, 177]
abbrev dktX9_init_0 : List UInt8 := dkwX9_init_0 ++ []
theorem dksX9_init_0 : cX9_init.data.toList.drop 0 = dktX9_init_0 := by decide +kernel
theorem dX9_init_0 : decode cX9_init 0 = .ok (.aload_n 0, 1) := dk_42 (dk_at dksX9_init_0 0 rfl rfl)
theorem dX9_init_1 : decode cX9_init 1 = .ok (.invokespecial 1, 3) := dk_183 0 1 (dk_at dksX9_init_0 1 rfl rfl)
theorem dX9_init_4 : decode cX9_init 4 = .ok (.aload_n 0, 1) := dk_42 (dk_at dksX9_init_0 4 rfl rfl)
theorem dX9_init_5 : decode cX9_init 5 = .ok (.iload_n 1, 1) := dk_27 (dk_at dksX9_init_0 5 rfl rfl)
theorem dX9_init_6 : decode cX9_init 6 = .ok (.newarray .int, 2) := dk_188_10 (dk_at dksX9_init_0 6 rfl rfl)
theorem dX9_init_8 : decode cX9_init 8 = .ok (.putfield 7, 3) := dk_181 0 7 (dk_at dksX9_init_0 8 rfl rfl)
theorem dX9_init_11 : decode cX9_init 11 = .ok (.return_, 1) := dk_177 (dk_at dksX9_init_0 11 rfl rfl)
abbrev cX9_put : ByteArray := prog_8_method_4_code
def yX9_put : MethodName := ⟨RX9, "put", "(IJ)V"⟩
def dkwX9_put_0 : List UInt8 := [42, 180, 0, 7, 27, 32, 136, 79, 177]
abbrev dktX9_put_0 : List UInt8 := dkwX9_put_0 ++ []
theorem dksX9_put_0 : cX9_put.data.toList.drop 0 = dktX9_put_0 := by decide +kernel
theorem dX9_put_0 : decode cX9_put 0 = .ok (.aload_n 0, 1) := dk_42 (dk_at dksX9_put_0 0 rfl rfl)
theorem dX9_put_1 : decode cX9_put 1 = .ok (.getfield 7, 3) := dk_180 0 7 (dk_at dksX9_put_0 1 rfl rfl)
theorem dX9_put_4 : decode cX9_put 4 = .ok (.iload_n 1, 1) := dk_27 (dk_at dksX9_put_0 4 rfl rfl)
theorem dX9_put_5 : decode cX9_put 5 = .ok (.lload_n 2, 1) := dk_32 (dk_at dksX9_put_0 5 rfl rfl)
theorem dX9_put_6 : decode cX9_put 6 = .ok (.l2i, 1) := dk_136 (dk_at dksX9_put_0 6 rfl rfl)
theorem dX9_put_7 : decode cX9_put 7 = .ok (.iastore, 1) := dk_79 (dk_at dksX9_put_0 7 rfl rfl)
theorem dX9_put_8 : decode cX9_put 8 = .ok (.return_, 1) := dk_177 (dk_at dksX9_put_0 8 rfl rfl)
abbrev cX9_sort : ByteArray := prog_8_method_2_code
def yX9_sort : MethodName := ⟨RX9, "sort", "()I"⟩
theorem dX9_sort_0 : decode cX9_sort 0 = .ok (.iconst 2, 1) := by decide +kernel
theorem dX9_sort_1 : decode cX9_sort 1 = .ok (.ireturn, 1) := by decide +kernel
abbrev cX9_held : ByteArray := prog_8_method_8_code
def yX9_held : MethodName := ⟨RX9, "held", "()Ljava/lang/Object;"⟩
theorem dX9_held_0 : decode cX9_held 0 = .ok (.aload_n 0, 1) := by decide +kernel
theorem dX9_held_1 : decode cX9_held 1 = .ok (.getfield 7, 3) := by decide +kernel
theorem dX9_held_4 : decode cX9_held 4 = .ok (.areturn, 1) := by decide +kernel
abbrev cX9_get : ByteArray := prog_8_method_5_code
def yX9_get : MethodName := ⟨RX9, "get", "(I)J"⟩
def dkwX9_get_0 : List UInt8 := [42, 180, 0, 7, 27, 46, 133, 173]
abbrev dktX9_get_0 : List UInt8 := dkwX9_get_0 ++ []
theorem dksX9_get_0 : cX9_get.data.toList.drop 0 = dktX9_get_0 := by decide +kernel
theorem dX9_get_0 : decode cX9_get 0 = .ok (.aload_n 0, 1) := dk_42 (dk_at dksX9_get_0 0 rfl rfl)
theorem dX9_get_1 : decode cX9_get 1 = .ok (.getfield 7, 3) := dk_180 0 7 (dk_at dksX9_get_0 1 rfl rfl)
theorem dX9_get_4 : decode cX9_get 4 = .ok (.iload_n 1, 1) := dk_27 (dk_at dksX9_get_0 4 rfl rfl)
theorem dX9_get_5 : decode cX9_get 5 = .ok (.iaload, 1) := dk_46 (dk_at dksX9_get_0 5 rfl rfl)
theorem dX9_get_6 : decode cX9_get 6 = .ok (.i2l, 1) := dk_133 (dk_at dksX9_get_0 6 rfl rfl)
theorem dX9_get_7 : decode cX9_get 7 = .ok (.lreturn, 1) := dk_173 (dk_at dksX9_get_0 7 rfl rfl)
abbrev cX9_length : ByteArray := prog_8_method_3_code
def yX9_length : MethodName := ⟨RX9, "length", "()I"⟩
def dkwX9_length_0 : List UInt8 := [42, 180, 0, 7, 190, 172]
abbrev dktX9_length_0 : List UInt8 := dkwX9_length_0 ++ []
theorem dksX9_length_0 : cX9_length.data.toList.drop 0 = dktX9_length_0 := by decide +kernel
theorem dX9_length_0 : decode cX9_length 0 = .ok (.aload_n 0, 1) := dk_42 (dk_at dksX9_length_0 0 rfl rfl)
theorem dX9_length_1 : decode cX9_length 1 = .ok (.getfield 7, 3) := dk_180 0 7 (dk_at dksX9_length_0 1 rfl rfl)
theorem dX9_length_4 : decode cX9_length 4 = .ok (.arraylength, 1) := dk_190 (dk_at dksX9_length_0 4 rfl rfl)
theorem dX9_length_5 : decode cX9_length 5 = .ok (.ireturn, 1) := dk_172 (dk_at dksX9_length_0 5 rfl rfl)
theorem q91 : (Jvm.Cond.initialized "SeenByOne$Ints") ∈ lw_all := lw_g (lw_at lw_m1 17 rfl) rfl
theorem q377 : (Jvm.Cond.instantiable "SeenByOne$Ints" (1 : Nat)) ∈ lw_all := lw_g (lw_at lw_m2 63 rfl) rfl
theorem q379 : (Jvm.Cond.instanceMethod ({ cls := "SeenByOne$Ints", name := "<init>", desc := "(I)V" } : Jvm.MethodName)) ∈ lw_all := lw_g (lw_at lw_m2 65 rfl) rfl
theorem q380 : (Jvm.Cond.code ({ cls := "SeenByOne$Ints", name := "<init>", desc := "(I)V" } : Jvm.MethodName) prog_8_method_1_code (2 : Nat) (Option.none : Option Jvm.ClassFile.FieldType)) ∈ lw_all := lw_g (lw_at lw_m2 66 rfl) rfl
theorem q381 : (Jvm.Cond.methodLink "SeenByOne$Ints" (1 : Nat) ({ cls := "SeenByOne$Row", name := "<init>", desc := "()V" } : Jvm.MethodName)) ∈ lw_all := lw_g (lw_at lw_m2 67 rfl) rfl
theorem q382 : (Jvm.Cond.fieldLink "SeenByOne$Ints" (7 : Nat) "SeenByOne$Ints" "e" "[I") ∈ lw_all := lw_g (lw_at lw_m2 68 rfl) rfl
theorem q383 : (Jvm.Cond.laysFinal "SeenByOne$Ints" "SeenByOne$Ints" "e" "[I") ∈ lw_all := lw_g (lw_at lw_m2 69 rfl) rfl
theorem q384 : (Jvm.Cond.soleField "SeenByOne$Ints" "e") ∈ lw_all := lw_g (lw_at lw_m2 70 rfl) rfl
theorem q385 : (Jvm.Cond.superclass "SeenByOne$Ints" "SeenByOne$Row") ∈ lw_all := lw_g (lw_at lw_m2 71 rfl) rfl
theorem q433 : (Jvm.Cond.selects "SeenByOne$Ints" ({ cls := "SeenByOne$Row", name := "put", desc := "(IJ)V" } : Jvm.MethodName) ({ cls := "SeenByOne$Ints", name := "put", desc := "(IJ)V" } : Jvm.MethodName)) ∈ lw_all := lw_g (lw_at lw_m2 119 rfl) rfl
theorem q434 : (Jvm.Cond.instanceMethod ({ cls := "SeenByOne$Ints", name := "put", desc := "(IJ)V" } : Jvm.MethodName)) ∈ lw_all := lw_g (lw_at lw_m2 120 rfl) rfl
theorem q435 : (Jvm.Cond.code ({ cls := "SeenByOne$Ints", name := "put", desc := "(IJ)V" } : Jvm.MethodName) prog_8_method_4_code (4 : Nat) (Option.none : Option Jvm.ClassFile.FieldType)) ∈ lw_all := lw_g (lw_at lw_m2 121 rfl) rfl
theorem q458 : (Jvm.Cond.selects "SeenByOne$Ints" ({ cls := "SeenByOne$Row", name := "sort", desc := "()I" } : Jvm.MethodName) ({ cls := "SeenByOne$Ints", name := "sort", desc := "()I" } : Jvm.MethodName)) ∈ lw_all := lw_g (lw_at lw_m2 144 rfl) rfl
theorem q459 : (Jvm.Cond.instanceMethod ({ cls := "SeenByOne$Ints", name := "sort", desc := "()I" } : Jvm.MethodName)) ∈ lw_all := lw_g (lw_at lw_m2 145 rfl) rfl
theorem q460 : (Jvm.Cond.code ({ cls := "SeenByOne$Ints", name := "sort", desc := "()I" } : Jvm.MethodName) prog_8_method_2_code (1 : Nat) (Option.some Jvm.ClassFile.FieldType.int)) ∈ lw_all := lw_g (lw_at lw_m2 146 rfl) rfl
theorem q473 : (Jvm.Cond.selects "SeenByOne$Ints" ({ cls := "SeenByOne$Row", name := "held", desc := "()Ljava/lang/Object;" } : Jvm.MethodName) ({ cls := "SeenByOne$Ints", name := "held", desc := "()Ljava/lang/Object;" } : Jvm.MethodName)) ∈ lw_all := lw_g (lw_at lw_m2 159 rfl) rfl
theorem q474 : (Jvm.Cond.instanceMethod ({ cls := "SeenByOne$Ints", name := "held", desc := "()Ljava/lang/Object;" } : Jvm.MethodName)) ∈ lw_all := lw_g (lw_at lw_m2 160 rfl) rfl
theorem q475 : (Jvm.Cond.code ({ cls := "SeenByOne$Ints", name := "held", desc := "()Ljava/lang/Object;" } : Jvm.MethodName) prog_8_method_8_code (1 : Nat) (Option.some (Jvm.ClassFile.FieldType.object "java/lang/Object"))) ∈ lw_all := lw_g (lw_at lw_m2 161 rfl) rfl
theorem q495 : (Jvm.Cond.selects "SeenByOne$Ints" ({ cls := "SeenByOne$Row", name := "get", desc := "(I)J" } : Jvm.MethodName) ({ cls := "SeenByOne$Ints", name := "get", desc := "(I)J" } : Jvm.MethodName)) ∈ lw_all := lw_g (lw_at lw_m2 181 rfl) rfl
theorem q496 : (Jvm.Cond.instanceMethod ({ cls := "SeenByOne$Ints", name := "get", desc := "(I)J" } : Jvm.MethodName)) ∈ lw_all := lw_g (lw_at lw_m2 182 rfl) rfl
theorem q497 : (Jvm.Cond.code ({ cls := "SeenByOne$Ints", name := "get", desc := "(I)J" } : Jvm.MethodName) prog_8_method_5_code (2 : Nat) (Option.some Jvm.ClassFile.FieldType.long)) ∈ lw_all := lw_g (lw_at lw_m2 183 rfl) rfl
theorem q918 : (Jvm.Cond.selects "SeenByOne$Ints" ({ cls := "SeenByOne$Row", name := "length", desc := "()I" } : Jvm.MethodName) ({ cls := "SeenByOne$Ints", name := "length", desc := "()I" } : Jvm.MethodName)) ∈ lw_all := lw_g (lw_at lw_m4 124 rfl) rfl
theorem q919 : (Jvm.Cond.instanceMethod ({ cls := "SeenByOne$Ints", name := "length", desc := "()I" } : Jvm.MethodName)) ∈ lw_all := lw_g (lw_at lw_m4 125 rfl) rfl
theorem q920 : (Jvm.Cond.code ({ cls := "SeenByOne$Ints", name := "length", desc := "()I" } : Jvm.MethodName) prog_8_method_3_code (1 : Nat) (Option.some Jvm.ClassFile.FieldType.int)) ∈ lw_all := lw_g (lw_at lw_m4 126 rfl) rfl
theorem q931 : (Jvm.Cond.selects "SeenByOne$Ints" ({ cls := "SeenByOne$Row", name := "asInt", desc := "(I)I" } : Jvm.MethodName) ({ cls := "SeenByOne$Row", name := "asInt", desc := "(I)I" } : Jvm.MethodName)) ∈ lw_all := lw_g (lw_at lw_m4 137 rfl) rfl
theorem q1839 : (Jvm.Cond.castable "SeenByOne$Ints" "SeenByOne$Row") ∈ lw_tbl := lw_at lw_m8 85 rfl
theorem in_X9 : ∀ w ∈ wsX90, w ∈ lw_all := lw_in wsX90 [383] (by decide +kernel) (by decide +kernel)
