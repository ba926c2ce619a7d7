/-! java/lang/Throwable -/
set_option maxRecDepth 100000
def RJ0 : String := "java/lang/Throwable"
def TJ0 : u_T := fun k => match k with
  | 0 => ("java/lang/Throwable", "cause", "Ljava/lang/Throwable;", false)
  | 1 => ("java/lang/Throwable", "stackTrace", "[Ljava/lang/StackTraceElement;", false)
  | 2 => ("java/lang/Throwable", "suppressedExceptions", "Ljava/util/List;", false)
  | 3 => ("java/lang/Throwable", "detailMessage", "Ljava/lang/String;", false)
  | _ => ("java/lang/Throwable", "backtrace", "Ljava/lang/Object;", false)
def tyJ0 : Nat → FieldType := fun k => match k with
  | 0 => .object "java/lang/Throwable"
  | 1 => .array (.object "java/lang/StackTraceElement")
  | 2 => .object "java/util/List"
  | 3 => .object "java/lang/String"
  | _ => .object "java/lang/Object"
abbrev wsJ00 : List Cond := u_ws RJ0 TJ0 5
theorem nmJ0 : ∀ a, a < 5 → ∀ b, b < 5 → a ≠ b → (TJ0 a).2.1 ≠ (TJ0 b).2.1 := by decide +kernel
theorem tyJ0_ok : ∀ k, k < 5 → parseFieldDescriptor (TJ0 k).2.2.1 = some (tyJ0 k) := by decide +kernel
abbrev cJ0_init : ByteArray := prog_34_method_2_code
def yJ0_init : MethodName := ⟨RJ0, "<init>", "(Ljava/lang/String;)V"⟩
def dkwJ0_init_1 : List UInt8 := [182, 0, 27, 87, 42, 43, 181, 0, 31, 177]
abbrev dktJ0_init_1 : List UInt8 := dkwJ0_init_1 ++ []
def dkwJ0_init_0 : List UInt8 := [42, 183, 0, 1, 42, 42, 181, 0, 7, 42, 178, 0, 13, 181, 0, 17, 42, 178, 0, 20, 181, 0, 24, 42]
abbrev dktJ0_init_0 : List UInt8 := dkwJ0_init_0 ++ dktJ0_init_1
theorem dksJ0_init_0 : cJ0_init.data.toList.drop 0 = dktJ0_init_0 := by decide +kernel
theorem dksJ0_init_1 : cJ0_init.data.toList.drop 24 = dktJ0_init_1 := dk_seg dksJ0_init_0 24 rfl rfl
theorem dJ0_init_0 : decode cJ0_init 0 = .ok (.aload_n 0, 1) := dk_42 (dk_at dksJ0_init_0 0 rfl rfl)
theorem dJ0_init_1 : decode cJ0_init 1 = .ok (.invokespecial 1, 3) := dk_183 0 1 (dk_at dksJ0_init_0 1 rfl rfl)
theorem dJ0_init_4 : decode cJ0_init 4 = .ok (.aload_n 0, 1) := dk_42 (dk_at dksJ0_init_0 4 rfl rfl)
theorem dJ0_init_5 : decode cJ0_init 5 = .ok (.aload_n 0, 1) := dk_42 (dk_at dksJ0_init_0 5 rfl rfl)
theorem dJ0_init_6 : decode cJ0_init 6 = .ok (.putfield 7, 3) := dk_181 0 7 (dk_at dksJ0_init_0 6 rfl rfl)
theorem dJ0_init_9 : decode cJ0_init 9 = .ok (.aload_n 0, 1) := dk_42 (dk_at dksJ0_init_0 9 rfl rfl)
theorem dJ0_init_10 : decode cJ0_init 10 = .ok (.getstatic 13, 3) := dk_178 0 13 (dk_at dksJ0_init_0 10 rfl rfl)
theorem dJ0_init_13 : decode cJ0_init 13 = .ok (.putfield 17, 3) := dk_181 0 17 (dk_at dksJ0_init_0 13 rfl rfl)
theorem dJ0_init_16 : decode cJ0_init 16 = .ok (.aload_n 0, 1) := dk_42 (dk_at dksJ0_init_0 16 rfl rfl)
theorem dJ0_init_17 : decode cJ0_init 17 = .ok (.getstatic 20, 3) := dk_178 0 20 (dk_at dksJ0_init_0 17 rfl rfl)
theorem dJ0_init_20 : decode cJ0_init 20 = .ok (.putfield 24, 3) := dk_181 0 24 (dk_at dksJ0_init_0 20 rfl rfl)
theorem dJ0_init_23 : decode cJ0_init 23 = .ok (.aload_n 0, 1) := dk_42 (dk_at dksJ0_init_0 23 rfl rfl)
theorem dJ0_init_24 : decode cJ0_init 24 = .ok (.invokevirtual 27, 3) := dk_182 0 27 (dk_at dksJ0_init_1 0 rfl rfl)
theorem dJ0_init_27 : decode cJ0_init 27 = .ok (.pop, 1) := dk_87 (dk_at dksJ0_init_1 3 rfl rfl)
theorem dJ0_init_28 : decode cJ0_init 28 = .ok (.aload_n 0, 1) := dk_42 (dk_at dksJ0_init_1 4 rfl rfl)
theorem dJ0_init_29 : decode cJ0_init 29 = .ok (.aload_n 1, 1) := dk_43 (dk_at dksJ0_init_1 5 rfl rfl)
theorem dJ0_init_30 : decode cJ0_init 30 = .ok (.putfield 31, 3) := dk_181 0 31 (dk_at dksJ0_init_1 6 rfl rfl)
theorem dJ0_init_33 : decode cJ0_init 33 = .ok (.return_, 1) := dk_177 (dk_at dksJ0_init_1 9 rfl rfl)
abbrev cJ0_init_2 : ByteArray := prog_34_method_1_code
def yJ0_init_2 : MethodName := ⟨RJ0, "<init>", "()V"⟩
def dkwJ0_init_2_1 : List UInt8 := [182, 0, 27, 87, 177]
abbrev dktJ0_init_2_1 : List UInt8 := dkwJ0_init_2_1 ++ []
def dkwJ0_init_2_0 : List UInt8 := [42, 183, 0, 1, 42, 42, 181, 0, 7, 42, 178, 0, 13, 181, 0, 17, 42, 178, 0, 20, 181, 0, 24, 42]
abbrev dktJ0_init_2_0 : List UInt8 := dkwJ0_init_2_0 ++ dktJ0_init_2_1
theorem dksJ0_init_2_0 : cJ0_init_2.data.toList.drop 0 = dktJ0_init_2_0 := by decide +kernel
theorem dksJ0_init_2_1 : cJ0_init_2.data.toList.drop 24 = dktJ0_init_2_1 := dk_seg dksJ0_init_2_0 24 rfl rfl
theorem dJ0_init_2_0 : decode cJ0_init_2 0 = .ok (.aload_n 0, 1) := dk_42 (dk_at dksJ0_init_2_0 0 rfl rfl)
theorem dJ0_init_2_1 : decode cJ0_init_2 1 = .ok (.invokespecial 1, 3) := dk_183 0 1 (dk_at dksJ0_init_2_0 1 rfl rfl)
theorem dJ0_init_2_4 : decode cJ0_init_2 4 = .ok (.aload_n 0, 1) := dk_42 (dk_at dksJ0_init_2_0 4 rfl rfl)
theorem dJ0_init_2_5 : decode cJ0_init_2 5 = .ok (.aload_n 0, 1) := dk_42 (dk_at dksJ0_init_2_0 5 rfl rfl)
theorem dJ0_init_2_6 : decode cJ0_init_2 6 = .ok (.putfield 7, 3) := dk_181 0 7 (dk_at dksJ0_init_2_0 6 rfl rfl)
theorem dJ0_init_2_9 : decode cJ0_init_2 9 = .ok (.aload_n 0, 1) := dk_42 (dk_at dksJ0_init_2_0 9 rfl rfl)
theorem dJ0_init_2_10 : decode cJ0_init_2 10 = .ok (.getstatic 13, 3) := dk_178 0 13 (dk_at dksJ0_init_2_0 10 rfl rfl)
theorem dJ0_init_2_13 : decode cJ0_init_2 13 = .ok (.putfield 17, 3) := dk_181 0 17 (dk_at dksJ0_init_2_0 13 rfl rfl)
theorem dJ0_init_2_16 : decode cJ0_init_2 16 = .ok (.aload_n 0, 1) := dk_42 (dk_at dksJ0_init_2_0 16 rfl rfl)
theorem dJ0_init_2_17 : decode cJ0_init_2 17 = .ok (.getstatic 20, 3) := dk_178 0 20 (dk_at dksJ0_init_2_0 17 rfl rfl)
theorem dJ0_init_2_20 : decode cJ0_init_2 20 = .ok (.putfield 24, 3) := dk_181 0 24 (dk_at dksJ0_init_2_0 20 rfl rfl)
theorem dJ0_init_2_23 : decode cJ0_init_2 23 = .ok (.aload_n 0, 1) := dk_42 (dk_at dksJ0_init_2_0 23 rfl rfl)
theorem dJ0_init_2_24 : decode cJ0_init_2 24 = .ok (.invokevirtual 27, 3) := dk_182 0 27 (dk_at dksJ0_init_2_1 0 rfl rfl)
theorem dJ0_init_2_27 : decode cJ0_init_2 27 = .ok (.pop, 1) := dk_87 (dk_at dksJ0_init_2_1 3 rfl rfl)
theorem dJ0_init_2_28 : decode cJ0_init_2 28 = .ok (.return_, 1) := dk_177 (dk_at dksJ0_init_2_1 4 rfl rfl)
abbrev cJ0_init_3 : ByteArray := prog_34_method_5_code
def yJ0_init_3 : MethodName := ⟨RJ0, "<init>", "(Ljava/lang/String;Ljava/lang/Throwable;ZZ)V"⟩
def dkwJ0_init_3_2 : List UInt8 := [44, 181, 0, 7, 29, 154, 0, 8, 42, 1, 181, 0, 24, 177]
abbrev dktJ0_init_3_2 : List UInt8 := dkwJ0_init_3_2 ++ []
def dkwJ0_init_3_1 : List UInt8 := [21, 4, 153, 0, 11, 42, 182, 0, 27, 87, 167, 0, 8, 42, 1, 181, 0, 17, 42, 43, 181, 0, 31, 42]
abbrev dktJ0_init_3_1 : List UInt8 := dkwJ0_init_3_1 ++ dktJ0_init_3_2
def dkwJ0_init_3_0 : List UInt8 := [42, 183, 0, 1, 42, 42, 181, 0, 7, 42, 178, 0, 13, 181, 0, 17, 42, 178, 0, 20, 181, 0, 24]
abbrev dktJ0_init_3_0 : List UInt8 := dkwJ0_init_3_0 ++ dktJ0_init_3_1
theorem dksJ0_init_3_0 : cJ0_init_3.data.toList.drop 0 = dktJ0_init_3_0 := by decide +kernel
theorem dksJ0_init_3_1 : cJ0_init_3.data.toList.drop 23 = dktJ0_init_3_1 := dk_seg dksJ0_init_3_0 23 rfl rfl
theorem dksJ0_init_3_2 : cJ0_init_3.data.toList.drop 47 = dktJ0_init_3_2 := dk_seg dksJ0_init_3_1 24 rfl rfl
theorem dJ0_init_3_0 : decode cJ0_init_3 0 = .ok (.aload_n 0, 1) := dk_42 (dk_at dksJ0_init_3_0 0 rfl rfl)
theorem dJ0_init_3_1 : decode cJ0_init_3 1 = .ok (.invokespecial 1, 3) := dk_183 0 1 (dk_at dksJ0_init_3_0 1 rfl rfl)
theorem dJ0_init_3_4 : decode cJ0_init_3 4 = .ok (.aload_n 0, 1) := dk_42 (dk_at dksJ0_init_3_0 4 rfl rfl)
theorem dJ0_init_3_5 : decode cJ0_init_3 5 = .ok (.aload_n 0, 1) := dk_42 (dk_at dksJ0_init_3_0 5 rfl rfl)
theorem dJ0_init_3_6 : decode cJ0_init_3 6 = .ok (.putfield 7, 3) := dk_181 0 7 (dk_at dksJ0_init_3_0 6 rfl rfl)
theorem dJ0_init_3_9 : decode cJ0_init_3 9 = .ok (.aload_n 0, 1) := dk_42 (dk_at dksJ0_init_3_0 9 rfl rfl)
theorem dJ0_init_3_10 : decode cJ0_init_3 10 = .ok (.getstatic 13, 3) := dk_178 0 13 (dk_at dksJ0_init_3_0 10 rfl rfl)
theorem dJ0_init_3_13 : decode cJ0_init_3 13 = .ok (.putfield 17, 3) := dk_181 0 17 (dk_at dksJ0_init_3_0 13 rfl rfl)
theorem dJ0_init_3_16 : decode cJ0_init_3 16 = .ok (.aload_n 0, 1) := dk_42 (dk_at dksJ0_init_3_0 16 rfl rfl)
theorem dJ0_init_3_17 : decode cJ0_init_3 17 = .ok (.getstatic 20, 3) := dk_178 0 20 (dk_at dksJ0_init_3_0 17 rfl rfl)
theorem dJ0_init_3_20 : decode cJ0_init_3 20 = .ok (.putfield 24, 3) := dk_181 0 24 (dk_at dksJ0_init_3_0 20 rfl rfl)
theorem dJ0_init_3_23 : decode cJ0_init_3 23 = .ok (.iload 4, 2) := dk_21 4 (dk_at dksJ0_init_3_1 0 rfl rfl)
theorem dJ0_init_3_25 : decode cJ0_init_3 25 = .ok (.ifCond .eq 11, 3) := dk_153 0 11 (dk_at dksJ0_init_3_1 2 rfl rfl)
theorem dJ0_init_3_28 : decode cJ0_init_3 28 = .ok (.aload_n 0, 1) := dk_42 (dk_at dksJ0_init_3_1 5 rfl rfl)
theorem dJ0_init_3_29 : decode cJ0_init_3 29 = .ok (.invokevirtual 27, 3) := dk_182 0 27 (dk_at dksJ0_init_3_1 6 rfl rfl)
theorem dJ0_init_3_32 : decode cJ0_init_3 32 = .ok (.pop, 1) := dk_87 (dk_at dksJ0_init_3_1 9 rfl rfl)
theorem dJ0_init_3_33 : decode cJ0_init_3 33 = .ok (.goto 8, 3) := dk_167 0 8 (dk_at dksJ0_init_3_1 10 rfl rfl)
theorem dJ0_init_3_36 : decode cJ0_init_3 36 = .ok (.aload_n 0, 1) := dk_42 (dk_at dksJ0_init_3_1 13 rfl rfl)
theorem dJ0_init_3_37 : decode cJ0_init_3 37 = .ok (.aconst_null, 1) := dk_1 (dk_at dksJ0_init_3_1 14 rfl rfl)
theorem dJ0_init_3_38 : decode cJ0_init_3 38 = .ok (.putfield 17, 3) := dk_181 0 17 (dk_at dksJ0_init_3_1 15 rfl rfl)
theorem dJ0_init_3_41 : decode cJ0_init_3 41 = .ok (.aload_n 0, 1) := dk_42 (dk_at dksJ0_init_3_1 18 rfl rfl)
theorem dJ0_init_3_42 : decode cJ0_init_3 42 = .ok (.aload_n 1, 1) := dk_43 (dk_at dksJ0_init_3_1 19 rfl rfl)
theorem dJ0_init_3_43 : decode cJ0_init_3 43 = .ok (.putfield 31, 3) := dk_181 0 31 (dk_at dksJ0_init_3_1 20 rfl rfl)
theorem dJ0_init_3_46 : decode cJ0_init_3 46 = .ok (.aload_n 0, 1) := dk_42 (dk_at dksJ0_init_3_1 23 rfl rfl)
theorem dJ0_init_3_47 : decode cJ0_init_3 47 = .ok (.aload_n 2, 1) := dk_44 (dk_at dksJ0_init_3_2 0 rfl rfl)
theorem dJ0_init_3_48 : decode cJ0_init_3 48 = .ok (.putfield 7, 3) := dk_181 0 7 (dk_at dksJ0_init_3_2 1 rfl rfl)
theorem dJ0_init_3_51 : decode cJ0_init_3 51 = .ok (.iload_n 3, 1) := dk_29 (dk_at dksJ0_init_3_2 4 rfl rfl)
theorem dJ0_init_3_52 : decode cJ0_init_3 52 = .ok (.ifCond .ne 8, 3) := dk_154 0 8 (dk_at dksJ0_init_3_2 5 rfl rfl)
theorem dJ0_init_3_55 : decode cJ0_init_3 55 = .ok (.aload_n 0, 1) := dk_42 (dk_at dksJ0_init_3_2 8 rfl rfl)
theorem dJ0_init_3_56 : decode cJ0_init_3 56 = .ok (.aconst_null, 1) := dk_1 (dk_at dksJ0_init_3_2 9 rfl rfl)
theorem dJ0_init_3_57 : decode cJ0_init_3 57 = .ok (.putfield 24, 3) := dk_181 0 24 (dk_at dksJ0_init_3_2 10 rfl rfl)
theorem dJ0_init_3_60 : decode cJ0_init_3 60 = .ok (.return_, 1) := dk_177 (dk_at dksJ0_init_3_2 13 rfl rfl)
theorem q80 : (Jvm.Cond.initialized "java/lang/Throwable") ∈ lw_all := lw_g (lw_at lw_m1 6 rfl) rfl
theorem q241 : (Jvm.Cond.instanceMethod ({ cls := "java/lang/Throwable", name := "<init>", desc := "(Ljava/lang/String;)V" } : Jvm.MethodName)) ∈ lw_all := lw_g (lw_at lw_m1 167 rfl) rfl
theorem q242 : (Jvm.Cond.code ({ cls := "java/lang/Throwable", name := "<init>", desc := "(Ljava/lang/String;)V" } : Jvm.MethodName) prog_34_method_2_code (2 : Nat) (Option.none : Option Jvm.ClassFile.FieldType)) ∈ lw_all := lw_g (lw_at lw_m1 168 rfl) rfl
theorem q243 : (Jvm.Cond.methodLink "java/lang/Throwable" (1 : Nat) ({ cls := "java/lang/Object", name := "<init>", desc := "()V" } : Jvm.MethodName)) ∈ lw_all := lw_g (lw_at lw_m1 169 rfl) rfl
theorem q244 : (Jvm.Cond.fieldLink "java/lang/Throwable" (13 : Nat) "java/lang/Throwable" "UNASSIGNED_STACK" "[Ljava/lang/StackTraceElement;") ∈ lw_all := lw_g (lw_at lw_m1 170 rfl) rfl
theorem q245 : (Jvm.Cond.laysStatic "java/lang/Throwable" "UNASSIGNED_STACK" "[Ljava/lang/StackTraceElement;") ∈ lw_tbl := lw_at lw_m1 171 rfl
theorem q246 : (Jvm.Cond.fieldLink "java/lang/Throwable" (20 : Nat) "java/lang/Throwable" "SUPPRESSED_SENTINEL" "Ljava/util/List;") ∈ lw_all := lw_g (lw_at lw_m1 172 rfl) rfl
theorem q247 : (Jvm.Cond.laysStatic "java/lang/Throwable" "SUPPRESSED_SENTINEL" "Ljava/util/List;") ∈ lw_tbl := lw_at lw_m1 173 rfl
theorem q248 : (Jvm.Cond.methodLink "java/lang/Throwable" (27 : Nat) ({ cls := "java/lang/Throwable", name := "fillInStackTrace", desc := "()Ljava/lang/Throwable;" } : Jvm.MethodName)) ∈ lw_all := lw_g (lw_at lw_m1 174 rfl) rfl
theorem q249 : (Jvm.Cond.instanceMethod ({ cls := "java/lang/Throwable", name := "fillInStackTrace", desc := "()Ljava/lang/Throwable;" } : Jvm.MethodName)) ∈ lw_all := lw_g (lw_at lw_m1 175 rfl) rfl
theorem q250 : (Jvm.Cond.sameMethod "java/lang/Throwable" "java/lang/Throwable" "fillInStackTrace" "()Ljava/lang/Throwable;") ∈ lw_all := lw_g (lw_at lw_m1 176 rfl) rfl
theorem q256 : (Jvm.Cond.codeSync ({ cls := "java/lang/Throwable", name := "fillInStackTrace", desc := "()Ljava/lang/Throwable;" } : Jvm.MethodName) prog_34_method_18_code (1 : Nat) (Option.some (Jvm.ClassFile.FieldType.object "java/lang/Throwable"))) ∈ lw_all := lw_g (lw_at lw_m1 182 rfl) rfl
theorem q257 : (Jvm.Cond.methodLink "java/lang/Throwable" (202 : Nat) ({ cls := "java/lang/Throwable", name := "fillInStackTrace", desc := "(I)Ljava/lang/Throwable;" } : Jvm.MethodName)) ∈ lw_all := lw_g (lw_at lw_m1 183 rfl) rfl
theorem q258 : (Jvm.Cond.privateMethod ({ cls := "java/lang/Throwable", name := "fillInStackTrace", desc := "(I)Ljava/lang/Throwable;" } : Jvm.MethodName)) ∈ lw_tbl := lw_at lw_m1 184 rfl
theorem q259 : (Jvm.Cond.instanceMethod ({ cls := "java/lang/Throwable", name := "fillInStackTrace", desc := "(I)Ljava/lang/Throwable;" } : Jvm.MethodName)) ∈ lw_all := lw_g (lw_at lw_m1 185 rfl) rfl
theorem q260 : (Jvm.Cond.instantiable "java/lang/Throwable" (6 : Nat)) ∈ lw_all := lw_g (lw_at lw_m1 186 rfl) rfl
theorem q261 : (Jvm.Cond.native ({ cls := "java/lang/Throwable", name := "fillInStackTrace", desc := "(I)Ljava/lang/Throwable;" } : Jvm.MethodName)) ∈ lw_all := lw_g (lw_at lw_m1 187 rfl) rfl
theorem q262 : (Jvm.Cond.fieldLink "java/lang/Throwable" (198 : Nat) "java/lang/Throwable" "backtrace" "Ljava/lang/Object;") ∈ lw_all := lw_g (lw_at lw_m1 188 rfl) rfl
theorem q263 : (Jvm.Cond.fieldLink "java/lang/Throwable" (31 : Nat) "java/lang/Throwable" "detailMessage" "Ljava/lang/String;") ∈ lw_all := lw_g (lw_at lw_m1 189 rfl) rfl
theorem q264 : (Jvm.Cond.fieldLink "java/lang/Throwable" (7 : Nat) "java/lang/Throwable" "cause" "Ljava/lang/Throwable;") ∈ lw_all := lw_g (lw_at lw_m1 190 rfl) rfl
theorem q265 : (Jvm.Cond.fieldLink "java/lang/Throwable" (17 : Nat) "java/lang/Throwable" "stackTrace" "[Ljava/lang/StackTraceElement;") ∈ lw_all := lw_g (lw_at lw_m1 191 rfl) rfl
theorem q266 : (Jvm.Cond.fieldLink "java/lang/Throwable" (24 : Nat) "java/lang/Throwable" "suppressedExceptions" "Ljava/util/List;") ∈ lw_all := lw_g (lw_at lw_m1 192 rfl) rfl
theorem q268 : (Jvm.Cond.soleField "java/lang/Throwable" "backtrace") ∈ lw_all := lw_g (lw_at lw_m1 194 rfl) rfl
theorem q270 : (Jvm.Cond.soleField "java/lang/Throwable" "detailMessage") ∈ lw_all := lw_g (lw_at lw_m1 196 rfl) rfl
theorem q272 : (Jvm.Cond.soleField "java/lang/Throwable" "cause") ∈ lw_all := lw_g (lw_at lw_m1 198 rfl) rfl
theorem q274 : (Jvm.Cond.soleField "java/lang/Throwable" "stackTrace") ∈ lw_all := lw_g (lw_at lw_m1 200 rfl) rfl
theorem q276 : (Jvm.Cond.soleField "java/lang/Throwable" "depth") ∈ lw_all := lw_g (lw_at lw_m1 202 rfl) rfl
theorem q278 : (Jvm.Cond.soleField "java/lang/Throwable" "suppressedExceptions") ∈ lw_all := lw_g (lw_at lw_m1 204 rfl) rfl
theorem q287 : (Jvm.Cond.declares ({ cls := "java/lang/Throwable", name := "<init>", desc := "()V" } : Jvm.MethodName)) ∈ lw_tbl := lw_at lw_m1 213 rfl
theorem q288 : (Jvm.Cond.declares ({ cls := "java/lang/Throwable", name := "<init>", desc := "(Ljava/lang/String;)V" } : Jvm.MethodName)) ∈ lw_tbl := lw_at lw_m1 214 rfl
theorem q290 : (Jvm.Cond.lays "java/lang/Throwable" "java/lang/Throwable" "cause" "Ljava/lang/Throwable;") ∈ lw_all := lw_g (lw_at lw_m1 216 rfl) rfl
theorem q291 : (Jvm.Cond.lays "java/lang/Throwable" "java/lang/Throwable" "stackTrace" "[Ljava/lang/StackTraceElement;") ∈ lw_all := lw_g (lw_at lw_m1 217 rfl) rfl
theorem q292 : (Jvm.Cond.lays "java/lang/Throwable" "java/lang/Throwable" "suppressedExceptions" "Ljava/util/List;") ∈ lw_all := lw_g (lw_at lw_m1 218 rfl) rfl
theorem q293 : (Jvm.Cond.lays "java/lang/Throwable" "java/lang/Throwable" "detailMessage" "Ljava/lang/String;") ∈ lw_all := lw_g (lw_at lw_m1 219 rfl) rfl
theorem q294 : (Jvm.Cond.lays "java/lang/Throwable" "java/lang/Throwable" "backtrace" "Ljava/lang/Object;") ∈ lw_all := lw_g (lw_at lw_m1 220 rfl) rfl
theorem q295 : (Jvm.Cond.fieldLink "java/lang/Throwable" (198 : Nat) "java/lang/Throwable" "backtrace" "Ljava/lang/Object;") ∈ lw_all := lw_g (lw_at lw_m1 221 rfl) rfl
theorem q296 : (Jvm.Cond.superclass "java/lang/Throwable" "java/lang/Object") ∈ lw_all := lw_g (lw_at lw_m1 222 rfl) rfl
theorem q297 : (Jvm.Cond.instanceMethod ({ cls := "java/lang/Throwable", name := "<init>", desc := "()V" } : Jvm.MethodName)) ∈ lw_all := lw_g (lw_at lw_m1 223 rfl) rfl
theorem q298 : (Jvm.Cond.code ({ cls := "java/lang/Throwable", name := "<init>", desc := "()V" } : Jvm.MethodName) prog_34_method_1_code (1 : Nat) (Option.none : Option Jvm.ClassFile.FieldType)) ∈ lw_all := lw_g (lw_at lw_m1 224 rfl) rfl
theorem q320 : (Jvm.Cond.instanceMethod ({ cls := "java/lang/Throwable", name := "<init>", desc := "(Ljava/lang/String;Ljava/lang/Throwable;ZZ)V" } : Jvm.MethodName)) ∈ lw_all := lw_g (lw_at lw_m2 6 rfl) rfl
theorem q321 : (Jvm.Cond.code ({ cls := "java/lang/Throwable", name := "<init>", desc := "(Ljava/lang/String;Ljava/lang/Throwable;ZZ)V" } : Jvm.MethodName) prog_34_method_5_code (5 : Nat) (Option.none : Option Jvm.ClassFile.FieldType)) ∈ lw_all := lw_g (lw_at lw_m2 7 rfl) rfl
theorem q1831 : (Jvm.Cond.sameMethod "java/lang/Throwable" "java/lang/Throwable" "fillInStackTrace" "(I)Ljava/lang/Throwable;") ∈ lw_all := lw_g (lw_at lw_m8 77 rfl) rfl
theorem in_J0 : ∀ w ∈ wsJ00, w ∈ lw_all := lw_in wsJ00 [290, 291, 292, 293, 294] (by decide +kernel) (by decide +kernel)

/-! java/lang/Exception -/
set_option maxRecDepth 100000
def RJ1 : String := "java/lang/Exception"
abbrev cJ1_init : ByteArray := prog_24_method_2_code
def yJ1_init : MethodName := ⟨RJ1, "<init>", "(Ljava/lang/String;)V"⟩
def dkwJ1_init_0 : List UInt8 := [42, 43, 183, 0, 7, 177]
abbrev dktJ1_init_0 : List UInt8 := dkwJ1_init_0 ++ []
theorem dksJ1_init_0 : cJ1_init.data.toList.drop 0 = dktJ1_init_0 := by decide +kernel
theorem dJ1_init_0 : decode cJ1_init 0 = .ok (.aload_n 0, 1) := dk_42 (dk_at dksJ1_init_0 0 rfl rfl)
theorem dJ1_init_1 : decode cJ1_init 1 = .ok (.aload_n 1, 1) := dk_43 (dk_at dksJ1_init_0 1 rfl rfl)
theorem dJ1_init_2 : decode cJ1_init 2 = .ok (.invokespecial 7, 3) := dk_183 0 7 (dk_at dksJ1_init_0 2 rfl rfl)
theorem dJ1_init_5 : decode cJ1_init 5 = .ok (.return_, 1) := dk_177 (dk_at dksJ1_init_0 5 rfl rfl)
abbrev cJ1_init_2 : ByteArray := prog_24_method_5_code
def yJ1_init_2 : MethodName := ⟨RJ1, "<init>", "(Ljava/lang/String;Ljava/lang/Throwable;ZZ)V"⟩
def dkwJ1_init_2_0 : List UInt8 := [42, 43, 44, 29, 21, 4, 183, 0, 16, 177]
abbrev dktJ1_init_2_0 : List UInt8 := dkwJ1_init_2_0 ++ []
theorem dksJ1_init_2_0 : cJ1_init_2.data.toList.drop 0 = dktJ1_init_2_0 := by decide +kernel
theorem dJ1_init_2_0 : decode cJ1_init_2 0 = .ok (.aload_n 0, 1) := dk_42 (dk_at dksJ1_init_2_0 0 rfl rfl)
theorem dJ1_init_2_1 : decode cJ1_init_2 1 = .ok (.aload_n 1, 1) := dk_43 (dk_at dksJ1_init_2_0 1 rfl rfl)
theorem dJ1_init_2_2 : decode cJ1_init_2 2 = .ok (.aload_n 2, 1) := dk_44 (dk_at dksJ1_init_2_0 2 rfl rfl)
theorem dJ1_init_2_3 : decode cJ1_init_2 3 = .ok (.iload_n 3, 1) := dk_29 (dk_at dksJ1_init_2_0 3 rfl rfl)
theorem dJ1_init_2_4 : decode cJ1_init_2 4 = .ok (.iload 4, 2) := dk_21 4 (dk_at dksJ1_init_2_0 4 rfl rfl)
theorem dJ1_init_2_6 : decode cJ1_init_2 6 = .ok (.invokespecial 16, 3) := dk_183 0 16 (dk_at dksJ1_init_2_0 6 rfl rfl)
theorem dJ1_init_2_9 : decode cJ1_init_2 9 = .ok (.return_, 1) := dk_177 (dk_at dksJ1_init_2_0 9 rfl rfl)
theorem q81 : (Jvm.Cond.initialized "java/lang/Exception") ∈ lw_all := lw_g (lw_at lw_m1 7 rfl) rfl
theorem q238 : (Jvm.Cond.instanceMethod ({ cls := "java/lang/Exception", name := "<init>", desc := "(Ljava/lang/String;)V" } : Jvm.MethodName)) ∈ lw_all := lw_g (lw_at lw_m1 164 rfl) rfl
theorem q239 : (Jvm.Cond.code ({ cls := "java/lang/Exception", name := "<init>", desc := "(Ljava/lang/String;)V" } : Jvm.MethodName) prog_24_method_2_code (2 : Nat) (Option.none : Option Jvm.ClassFile.FieldType)) ∈ lw_all := lw_g (lw_at lw_m1 165 rfl) rfl
theorem q240 : (Jvm.Cond.methodLink "java/lang/Exception" (7 : Nat) ({ cls := "java/lang/Throwable", name := "<init>", desc := "(Ljava/lang/String;)V" } : Jvm.MethodName)) ∈ lw_all := lw_g (lw_at lw_m1 166 rfl) rfl
theorem q285 : (Jvm.Cond.declares ({ cls := "java/lang/Exception", name := "<init>", desc := "()V" } : Jvm.MethodName)) ∈ lw_tbl := lw_at lw_m1 211 rfl
theorem q286 : (Jvm.Cond.declares ({ cls := "java/lang/Exception", name := "<init>", desc := "(Ljava/lang/String;)V" } : Jvm.MethodName)) ∈ lw_tbl := lw_at lw_m1 212 rfl
theorem q317 : (Jvm.Cond.instanceMethod ({ cls := "java/lang/Exception", name := "<init>", desc := "(Ljava/lang/String;Ljava/lang/Throwable;ZZ)V" } : Jvm.MethodName)) ∈ lw_all := lw_g (lw_at lw_m2 3 rfl) rfl
theorem q318 : (Jvm.Cond.code ({ cls := "java/lang/Exception", name := "<init>", desc := "(Ljava/lang/String;Ljava/lang/Throwable;ZZ)V" } : Jvm.MethodName) prog_24_method_5_code (5 : Nat) (Option.none : Option Jvm.ClassFile.FieldType)) ∈ lw_all := lw_g (lw_at lw_m2 4 rfl) rfl
theorem q319 : (Jvm.Cond.methodLink "java/lang/Exception" (16 : Nat) ({ cls := "java/lang/Throwable", name := "<init>", desc := "(Ljava/lang/String;Ljava/lang/Throwable;ZZ)V" } : Jvm.MethodName)) ∈ lw_all := lw_g (lw_at lw_m2 5 rfl) rfl

/-! java/lang/StringLatin1 -/
set_option maxRecDepth 100000
def RJ10 : String := "java/lang/StringLatin1"
abbrev cJ10_charAt : ByteArray := prog_31_method_2_code
def yJ10_charAt : MethodName := ⟨RJ10, "charAt", "([BI)C"⟩
def dkwJ10_charAt_0 : List UInt8 := [27, 42, 190, 184, 0, 9, 42, 27, 51, 17, 0, 255, 126, 146, 172]
abbrev dktJ10_charAt_0 : List UInt8 := dkwJ10_charAt_0 ++ []
theorem dksJ10_charAt_0 : cJ10_charAt.data.toList.drop 0 = dktJ10_charAt_0 := by decide +kernel
theorem dJ10_charAt_0 : decode cJ10_charAt 0 = .ok (.iload_n 1, 1) := dk_27 (dk_at dksJ10_charAt_0 0 rfl rfl)
theorem dJ10_charAt_1 : decode cJ10_charAt 1 = .ok (.aload_n 0, 1) := dk_42 (dk_at dksJ10_charAt_0 1 rfl rfl)
theorem dJ10_charAt_2 : decode cJ10_charAt 2 = .ok (.arraylength, 1) := dk_190 (dk_at dksJ10_charAt_0 2 rfl rfl)
theorem dJ10_charAt_3 : decode cJ10_charAt 3 = .ok (.invokestatic 9, 3) := dk_184 0 9 (dk_at dksJ10_charAt_0 3 rfl rfl)
theorem dJ10_charAt_6 : decode cJ10_charAt 6 = .ok (.aload_n 0, 1) := dk_42 (dk_at dksJ10_charAt_0 6 rfl rfl)
theorem dJ10_charAt_7 : decode cJ10_charAt 7 = .ok (.iload_n 1, 1) := dk_27 (dk_at dksJ10_charAt_0 7 rfl rfl)
theorem dJ10_charAt_8 : decode cJ10_charAt 8 = .ok (.baload, 1) := dk_51 (dk_at dksJ10_charAt_0 8 rfl rfl)
theorem dJ10_charAt_9 : decode cJ10_charAt 9 = .ok (.sipush 255, 3) := dk_17 0 255 (dk_at dksJ10_charAt_0 9 rfl rfl)
theorem dJ10_charAt_12 : decode cJ10_charAt 12 = .ok (.iand, 1) := dk_126 (dk_at dksJ10_charAt_0 12 rfl rfl)
theorem dJ10_charAt_13 : decode cJ10_charAt 13 = .ok (.i2c, 1) := dk_146 (dk_at dksJ10_charAt_0 13 rfl rfl)
theorem dJ10_charAt_14 : decode cJ10_charAt 14 = .ok (.ireturn, 1) := dk_172 (dk_at dksJ10_charAt_0 14 rfl rfl)
theorem q105 : (Jvm.Cond.initialized "java/lang/StringLatin1") ∈ lw_all := lw_g (lw_at lw_m1 31 rfl) rfl
theorem q960 : (Jvm.Cond.static ({ cls := "java/lang/StringLatin1", name := "charAt", desc := "([BI)C" } : Jvm.MethodName)) ∈ lw_all := lw_g (lw_at lw_m4 166 rfl) rfl
theorem q961 : (Jvm.Cond.code ({ cls := "java/lang/StringLatin1", name := "charAt", desc := "([BI)C" } : Jvm.MethodName) prog_31_method_2_code (2 : Nat) (Option.some Jvm.ClassFile.FieldType.char)) ∈ lw_all := lw_g (lw_at lw_m4 167 rfl) rfl
theorem q962 : (Jvm.Cond.methodLink "java/lang/StringLatin1" (9 : Nat) ({ cls := "java/lang/String", name := "checkIndex", desc := "(II)V" } : Jvm.MethodName)) ∈ lw_all := lw_g (lw_at lw_m4 168 rfl) rfl

/-! jdk/internal/util/Preconditions -/
set_option maxRecDepth 100000
def RJ11 : String := "jdk/internal/util/Preconditions"
abbrev cJ11_checkIndex : ByteArray := prog_35_method_11_code
def yJ11_checkIndex : MethodName := ⟨RJ11, "checkIndex", "(IILjava/util/function/BiFunction;)I"⟩
def dkwJ11_checkIndex_0 : List UInt8 := [26, 155, 0, 8, 26, 27, 161, 0, 10, 44, 26, 27, 184, 0, 95, 191, 26, 172]
abbrev dktJ11_checkIndex_0 : List UInt8 := dkwJ11_checkIndex_0 ++ []
theorem dksJ11_checkIndex_0 : cJ11_checkIndex.data.toList.drop 0 = dktJ11_checkIndex_0 := by decide +kernel
theorem dJ11_checkIndex_0 : decode cJ11_checkIndex 0 = .ok (.iload_n 0, 1) := dk_26 (dk_at dksJ11_checkIndex_0 0 rfl rfl)
theorem dJ11_checkIndex_1 : decode cJ11_checkIndex 1 = .ok (.ifCond .lt 8, 3) := dk_155 0 8 (dk_at dksJ11_checkIndex_0 1 rfl rfl)
theorem dJ11_checkIndex_4 : decode cJ11_checkIndex 4 = .ok (.iload_n 0, 1) := dk_26 (dk_at dksJ11_checkIndex_0 4 rfl rfl)
theorem dJ11_checkIndex_5 : decode cJ11_checkIndex 5 = .ok (.iload_n 1, 1) := dk_27 (dk_at dksJ11_checkIndex_0 5 rfl rfl)
theorem dJ11_checkIndex_6 : decode cJ11_checkIndex 6 = .ok (.if_icmp .lt 10, 3) := dk_161 0 10 (dk_at dksJ11_checkIndex_0 6 rfl rfl)
theorem dJ11_checkIndex_9 : decode cJ11_checkIndex 9 = .ok (.aload_n 2, 1) := dk_44 (dk_at dksJ11_checkIndex_0 9 rfl rfl)
theorem dJ11_checkIndex_10 : decode cJ11_checkIndex 10 = .ok (.iload_n 0, 1) := dk_26 (dk_at dksJ11_checkIndex_0 10 rfl rfl)
theorem dJ11_checkIndex_11 : decode cJ11_checkIndex 11 = .ok (.iload_n 1, 1) := dk_27 (dk_at dksJ11_checkIndex_0 11 rfl rfl)
theorem dJ11_checkIndex_12 : decode cJ11_checkIndex 12 = .ok (.invokestatic 95, 3) := dk_184 0 95 (dk_at dksJ11_checkIndex_0 12 rfl rfl)
theorem dJ11_checkIndex_15 : decode cJ11_checkIndex 15 = .ok (.athrow, 1) := dk_191 (dk_at dksJ11_checkIndex_0 15 rfl rfl)
theorem dJ11_checkIndex_16 : decode cJ11_checkIndex 16 = .ok (.iload_n 0, 1) := dk_26 (dk_at dksJ11_checkIndex_0 16 rfl rfl)
theorem dJ11_checkIndex_17 : decode cJ11_checkIndex 17 = .ok (.ireturn, 1) := dk_172 (dk_at dksJ11_checkIndex_0 17 rfl rfl)
theorem q106 : (Jvm.Cond.initialized "jdk/internal/util/Preconditions") ∈ lw_all := lw_g (lw_at lw_m1 32 rfl) rfl
theorem q966 : (Jvm.Cond.laysStatic "jdk/internal/util/Preconditions" "SIOOBE_FORMATTER" "Ljava/util/function/BiFunction;") ∈ lw_tbl := lw_at lw_m4 172 rfl
theorem q968 : (Jvm.Cond.static ({ cls := "jdk/internal/util/Preconditions", name := "checkIndex", desc := "(IILjava/util/function/BiFunction;)I" } : Jvm.MethodName)) ∈ lw_all := lw_g (lw_at lw_m4 174 rfl) rfl
theorem q969 : (Jvm.Cond.code ({ cls := "jdk/internal/util/Preconditions", name := "checkIndex", desc := "(IILjava/util/function/BiFunction;)I" } : Jvm.MethodName) prog_35_method_11_code (3 : Nat) (Option.some Jvm.ClassFile.FieldType.int)) ∈ lw_all := lw_g (lw_at lw_m4 175 rfl) rfl

/-! java/lang/StringUTF16 -/
set_option maxRecDepth 100000
def RJ12 : String := "java/lang/StringUTF16"
abbrev cJ12_charAt : ByteArray := prog_32_method_83_code
def yJ12_charAt : MethodName := ⟨RJ12, "charAt", "([BI)C"⟩
def dkwJ12_charAt_0 : List UInt8 := [27, 42, 184, 0, 67, 42, 27, 184, 0, 71, 172]
abbrev dktJ12_charAt_0 : List UInt8 := dkwJ12_charAt_0 ++ []
theorem dksJ12_charAt_0 : cJ12_charAt.data.toList.drop 0 = dktJ12_charAt_0 := by decide +kernel
theorem dJ12_charAt_0 : decode cJ12_charAt 0 = .ok (.iload_n 1, 1) := dk_27 (dk_at dksJ12_charAt_0 0 rfl rfl)
theorem dJ12_charAt_1 : decode cJ12_charAt 1 = .ok (.aload_n 0, 1) := dk_42 (dk_at dksJ12_charAt_0 1 rfl rfl)
theorem dJ12_charAt_2 : decode cJ12_charAt 2 = .ok (.invokestatic 67, 3) := dk_184 0 67 (dk_at dksJ12_charAt_0 2 rfl rfl)
theorem dJ12_charAt_5 : decode cJ12_charAt 5 = .ok (.aload_n 0, 1) := dk_42 (dk_at dksJ12_charAt_0 5 rfl rfl)
theorem dJ12_charAt_6 : decode cJ12_charAt 6 = .ok (.iload_n 1, 1) := dk_27 (dk_at dksJ12_charAt_0 6 rfl rfl)
theorem dJ12_charAt_7 : decode cJ12_charAt 7 = .ok (.invokestatic 71, 3) := dk_184 0 71 (dk_at dksJ12_charAt_0 7 rfl rfl)
theorem dJ12_charAt_10 : decode cJ12_charAt 10 = .ok (.ireturn, 1) := dk_172 (dk_at dksJ12_charAt_0 10 rfl rfl)
abbrev cJ12_checkIndex : ByteArray := prog_32_method_91_code
def yJ12_checkIndex : MethodName := ⟨RJ12, "checkIndex", "(I[B)V"⟩
def dkwJ12_checkIndex_0 : List UInt8 := [26, 43, 184, 0, 48, 184, 1, 158, 177]
abbrev dktJ12_checkIndex_0 : List UInt8 := dkwJ12_checkIndex_0 ++ []
theorem dksJ12_checkIndex_0 : cJ12_checkIndex.data.toList.drop 0 = dktJ12_checkIndex_0 := by decide +kernel
theorem dJ12_checkIndex_0 : decode cJ12_checkIndex 0 = .ok (.iload_n 0, 1) := dk_26 (dk_at dksJ12_checkIndex_0 0 rfl rfl)
theorem dJ12_checkIndex_1 : decode cJ12_checkIndex 1 = .ok (.aload_n 1, 1) := dk_43 (dk_at dksJ12_checkIndex_0 1 rfl rfl)
theorem dJ12_checkIndex_2 : decode cJ12_checkIndex 2 = .ok (.invokestatic 48, 3) := dk_184 0 48 (dk_at dksJ12_checkIndex_0 2 rfl rfl)
theorem dJ12_checkIndex_5 : decode cJ12_checkIndex 5 = .ok (.invokestatic 414, 3) := dk_184 1 158 (dk_at dksJ12_checkIndex_0 5 rfl rfl)
theorem dJ12_checkIndex_8 : decode cJ12_checkIndex 8 = .ok (.return_, 1) := dk_177 (dk_at dksJ12_checkIndex_0 8 rfl rfl)
abbrev cJ12_length : ByteArray := prog_32_method_6_code
def yJ12_length : MethodName := ⟨RJ12, "length", "([B)I"⟩
def dkwJ12_length_0 : List UInt8 := [42, 190, 4, 122, 172]
abbrev dktJ12_length_0 : List UInt8 := dkwJ12_length_0 ++ []
theorem dksJ12_length_0 : cJ12_length.data.toList.drop 0 = dktJ12_length_0 := by decide +kernel
theorem dJ12_length_0 : decode cJ12_length 0 = .ok (.aload_n 0, 1) := dk_42 (dk_at dksJ12_length_0 0 rfl rfl)
theorem dJ12_length_1 : decode cJ12_length 1 = .ok (.arraylength, 1) := dk_190 (dk_at dksJ12_length_0 1 rfl rfl)
theorem dJ12_length_2 : decode cJ12_length 2 = .ok (.iconst 1, 1) := dk_4 (dk_at dksJ12_length_0 2 rfl rfl)
theorem dJ12_length_3 : decode cJ12_length 3 = .ok (.ishr, 1) := dk_122 (dk_at dksJ12_length_0 3 rfl rfl)
theorem dJ12_length_4 : decode cJ12_length 4 = .ok (.ireturn, 1) := dk_172 (dk_at dksJ12_length_0 4 rfl rfl)
abbrev cJ12_getChar : ByteArray := prog_32_method_5_code
def yJ12_getChar : MethodName := ⟨RJ12, "getChar", "([BI)C"⟩
def dkwJ12_getChar_2 : List UInt8 := [51, 17, 0, 255, 126, 178, 0, 63, 120, 128, 146, 172]
abbrev dktJ12_getChar_2 : List UInt8 := dkwJ12_getChar_2 ++ []
def dkwJ12_getChar_1 : List UInt8 := [183, 0, 56, 191, 27, 4, 120, 60, 42, 27, 132, 1, 1, 51, 17, 0, 255, 126, 178, 0, 59, 120, 42, 27]
abbrev dktJ12_getChar_1 : List UInt8 := dkwJ12_getChar_1 ++ dktJ12_getChar_2
def dkwJ12_getChar_0 : List UInt8 := [178, 0, 44, 154, 0, 25, 27, 155, 0, 11, 27, 42, 184, 0, 48, 161, 0, 13, 187, 0, 52, 89, 18, 54]
abbrev dktJ12_getChar_0 : List UInt8 := dkwJ12_getChar_0 ++ dktJ12_getChar_1
theorem dksJ12_getChar_0 : cJ12_getChar.data.toList.drop 0 = dktJ12_getChar_0 := by decide +kernel
theorem dksJ12_getChar_1 : cJ12_getChar.data.toList.drop 24 = dktJ12_getChar_1 := dk_seg dksJ12_getChar_0 24 rfl rfl
theorem dksJ12_getChar_2 : cJ12_getChar.data.toList.drop 48 = dktJ12_getChar_2 := dk_seg dksJ12_getChar_1 24 rfl rfl
theorem dJ12_getChar_0 : decode cJ12_getChar 0 = .ok (.getstatic 44, 3) := dk_178 0 44 (dk_at dksJ12_getChar_0 0 rfl rfl)
theorem dJ12_getChar_3 : decode cJ12_getChar 3 = .ok (.ifCond .ne 25, 3) := dk_154 0 25 (dk_at dksJ12_getChar_0 3 rfl rfl)
theorem dJ12_getChar_6 : decode cJ12_getChar 6 = .ok (.iload_n 1, 1) := dk_27 (dk_at dksJ12_getChar_0 6 rfl rfl)
theorem dJ12_getChar_7 : decode cJ12_getChar 7 = .ok (.ifCond .lt 11, 3) := dk_155 0 11 (dk_at dksJ12_getChar_0 7 rfl rfl)
theorem dJ12_getChar_10 : decode cJ12_getChar 10 = .ok (.iload_n 1, 1) := dk_27 (dk_at dksJ12_getChar_0 10 rfl rfl)
theorem dJ12_getChar_11 : decode cJ12_getChar 11 = .ok (.aload_n 0, 1) := dk_42 (dk_at dksJ12_getChar_0 11 rfl rfl)
theorem dJ12_getChar_12 : decode cJ12_getChar 12 = .ok (.invokestatic 48, 3) := dk_184 0 48 (dk_at dksJ12_getChar_0 12 rfl rfl)
theorem dJ12_getChar_15 : decode cJ12_getChar 15 = .ok (.if_icmp .lt 13, 3) := dk_161 0 13 (dk_at dksJ12_getChar_0 15 rfl rfl)
theorem dJ12_getChar_18 : decode cJ12_getChar 18 = .ok (.new 52, 3) := dk_187 0 52 (dk_at dksJ12_getChar_0 18 rfl rfl)
theorem dJ12_getChar_21 : decode cJ12_getChar 21 = .ok (.dup, 1) := dk_89 (dk_at dksJ12_getChar_0 21 rfl rfl)
theorem dJ12_getChar_22 : decode cJ12_getChar 22 = .ok (.ldc 54, 2) := dk_18 54 (dk_at dksJ12_getChar_0 22 rfl rfl)
theorem dJ12_getChar_24 : decode cJ12_getChar 24 = .ok (.invokespecial 56, 3) := dk_183 0 56 (dk_at dksJ12_getChar_1 0 rfl rfl)
theorem dJ12_getChar_27 : decode cJ12_getChar 27 = .ok (.athrow, 1) := dk_191 (dk_at dksJ12_getChar_1 3 rfl rfl)
theorem dJ12_getChar_28 : decode cJ12_getChar 28 = .ok (.iload_n 1, 1) := dk_27 (dk_at dksJ12_getChar_1 4 rfl rfl)
theorem dJ12_getChar_29 : decode cJ12_getChar 29 = .ok (.iconst 1, 1) := dk_4 (dk_at dksJ12_getChar_1 5 rfl rfl)
theorem dJ12_getChar_30 : decode cJ12_getChar 30 = .ok (.ishl, 1) := dk_120 (dk_at dksJ12_getChar_1 6 rfl rfl)
theorem dJ12_getChar_31 : decode cJ12_getChar 31 = .ok (.istore_n 1, 1) := dk_60 (dk_at dksJ12_getChar_1 7 rfl rfl)
theorem dJ12_getChar_32 : decode cJ12_getChar 32 = .ok (.aload_n 0, 1) := dk_42 (dk_at dksJ12_getChar_1 8 rfl rfl)
theorem dJ12_getChar_33 : decode cJ12_getChar 33 = .ok (.iload_n 1, 1) := dk_27 (dk_at dksJ12_getChar_1 9 rfl rfl)
theorem dJ12_getChar_34 : decode cJ12_getChar 34 = .ok (.iinc 1 1, 3) := dk_132 1 1 (dk_at dksJ12_getChar_1 10 rfl rfl)
theorem dJ12_getChar_37 : decode cJ12_getChar 37 = .ok (.baload, 1) := dk_51 (dk_at dksJ12_getChar_1 13 rfl rfl)
theorem dJ12_getChar_38 : decode cJ12_getChar 38 = .ok (.sipush 255, 3) := dk_17 0 255 (dk_at dksJ12_getChar_1 14 rfl rfl)
theorem dJ12_getChar_41 : decode cJ12_getChar 41 = .ok (.iand, 1) := dk_126 (dk_at dksJ12_getChar_1 17 rfl rfl)
theorem dJ12_getChar_42 : decode cJ12_getChar 42 = .ok (.getstatic 59, 3) := dk_178 0 59 (dk_at dksJ12_getChar_1 18 rfl rfl)
theorem dJ12_getChar_45 : decode cJ12_getChar 45 = .ok (.ishl, 1) := dk_120 (dk_at dksJ12_getChar_1 21 rfl rfl)
theorem dJ12_getChar_46 : decode cJ12_getChar 46 = .ok (.aload_n 0, 1) := dk_42 (dk_at dksJ12_getChar_1 22 rfl rfl)
theorem dJ12_getChar_47 : decode cJ12_getChar 47 = .ok (.iload_n 1, 1) := dk_27 (dk_at dksJ12_getChar_1 23 rfl rfl)
theorem dJ12_getChar_48 : decode cJ12_getChar 48 = .ok (.baload, 1) := dk_51 (dk_at dksJ12_getChar_2 0 rfl rfl)
theorem dJ12_getChar_49 : decode cJ12_getChar 49 = .ok (.sipush 255, 3) := dk_17 0 255 (dk_at dksJ12_getChar_2 1 rfl rfl)
theorem dJ12_getChar_52 : decode cJ12_getChar 52 = .ok (.iand, 1) := dk_126 (dk_at dksJ12_getChar_2 4 rfl rfl)
theorem dJ12_getChar_53 : decode cJ12_getChar 53 = .ok (.getstatic 63, 3) := dk_178 0 63 (dk_at dksJ12_getChar_2 5 rfl rfl)
theorem dJ12_getChar_56 : decode cJ12_getChar 56 = .ok (.ishl, 1) := dk_120 (dk_at dksJ12_getChar_2 8 rfl rfl)
theorem dJ12_getChar_57 : decode cJ12_getChar 57 = .ok (.ior, 1) := dk_128 (dk_at dksJ12_getChar_2 9 rfl rfl)
theorem dJ12_getChar_58 : decode cJ12_getChar 58 = .ok (.i2c, 1) := dk_146 (dk_at dksJ12_getChar_2 10 rfl rfl)
theorem dJ12_getChar_59 : decode cJ12_getChar 59 = .ok (.ireturn, 1) := dk_172 (dk_at dksJ12_getChar_2 11 rfl rfl)
theorem q107 : (Jvm.Cond.initialized "java/lang/StringUTF16") ∈ lw_all := lw_g (lw_at lw_m1 33 rfl) rfl
theorem q971 : (Jvm.Cond.static ({ cls := "java/lang/StringUTF16", name := "charAt", desc := "([BI)C" } : Jvm.MethodName)) ∈ lw_all := lw_g (lw_at lw_m4 177 rfl) rfl
theorem q972 : (Jvm.Cond.code ({ cls := "java/lang/StringUTF16", name := "charAt", desc := "([BI)C" } : Jvm.MethodName) prog_32_method_83_code (2 : Nat) (Option.some Jvm.ClassFile.FieldType.char)) ∈ lw_all := lw_g (lw_at lw_m4 178 rfl) rfl
theorem q973 : (Jvm.Cond.methodLink "java/lang/StringUTF16" (67 : Nat) ({ cls := "java/lang/StringUTF16", name := "checkIndex", desc := "(I[B)V" } : Jvm.MethodName)) ∈ lw_all := lw_g (lw_at lw_m4 179 rfl) rfl
theorem q974 : (Jvm.Cond.static ({ cls := "java/lang/StringUTF16", name := "checkIndex", desc := "(I[B)V" } : Jvm.MethodName)) ∈ lw_all := lw_g (lw_at lw_m4 180 rfl) rfl
theorem q975 : (Jvm.Cond.code ({ cls := "java/lang/StringUTF16", name := "checkIndex", desc := "(I[B)V" } : Jvm.MethodName) prog_32_method_91_code (2 : Nat) (Option.none : Option Jvm.ClassFile.FieldType)) ∈ lw_all := lw_g (lw_at lw_m4 181 rfl) rfl
theorem q976 : (Jvm.Cond.methodLink "java/lang/StringUTF16" (48 : Nat) ({ cls := "java/lang/StringUTF16", name := "length", desc := "([B)I" } : Jvm.MethodName)) ∈ lw_all := lw_g (lw_at lw_m4 182 rfl) rfl
theorem q977 : (Jvm.Cond.static ({ cls := "java/lang/StringUTF16", name := "length", desc := "([B)I" } : Jvm.MethodName)) ∈ lw_all := lw_g (lw_at lw_m4 183 rfl) rfl
theorem q978 : (Jvm.Cond.code ({ cls := "java/lang/StringUTF16", name := "length", desc := "([B)I" } : Jvm.MethodName) prog_32_method_6_code (1 : Nat) (Option.some Jvm.ClassFile.FieldType.int)) ∈ lw_all := lw_g (lw_at lw_m4 184 rfl) rfl
theorem q979 : (Jvm.Cond.methodLink "java/lang/StringUTF16" (414 : Nat) ({ cls := "java/lang/String", name := "checkIndex", desc := "(II)V" } : Jvm.MethodName)) ∈ lw_all := lw_g (lw_at lw_m4 185 rfl) rfl
theorem q980 : (Jvm.Cond.methodLink "java/lang/StringUTF16" (71 : Nat) ({ cls := "java/lang/StringUTF16", name := "getChar", desc := "([BI)C" } : Jvm.MethodName)) ∈ lw_all := lw_g (lw_at lw_m4 186 rfl) rfl
theorem q981 : (Jvm.Cond.static ({ cls := "java/lang/StringUTF16", name := "getChar", desc := "([BI)C" } : Jvm.MethodName)) ∈ lw_all := lw_g (lw_at lw_m4 187 rfl) rfl
theorem q982 : (Jvm.Cond.code ({ cls := "java/lang/StringUTF16", name := "getChar", desc := "([BI)C" } : Jvm.MethodName) prog_32_method_5_code (2 : Nat) (Option.some Jvm.ClassFile.FieldType.char)) ∈ lw_all := lw_g (lw_at lw_m4 188 rfl) rfl
theorem q983 : (Jvm.Cond.fieldLink "java/lang/StringUTF16" (44 : Nat) "java/lang/StringUTF16" "$assertionsDisabled" "Z") ∈ lw_all := lw_g (lw_at lw_m4 189 rfl) rfl
theorem q984 : (Jvm.Cond.laysStatic "java/lang/StringUTF16" "$assertionsDisabled" "Z") ∈ lw_tbl := lw_at lw_m4 190 rfl
theorem q985 : (Jvm.Cond.fieldLink "java/lang/StringUTF16" (59 : Nat) "java/lang/StringUTF16" "HI_BYTE_SHIFT" "I") ∈ lw_all := lw_g (lw_at lw_m4 191 rfl) rfl
theorem q986 : (Jvm.Cond.laysStatic "java/lang/StringUTF16" "HI_BYTE_SHIFT" "I") ∈ lw_tbl := lw_at lw_m4 192 rfl
theorem q987 : (Jvm.Cond.fieldLink "java/lang/StringUTF16" (63 : Nat) "java/lang/StringUTF16" "LO_BYTE_SHIFT" "I") ∈ lw_all := lw_g (lw_at lw_m4 193 rfl) rfl
theorem q988 : (Jvm.Cond.laysStatic "java/lang/StringUTF16" "LO_BYTE_SHIFT" "I") ∈ lw_tbl := lw_at lw_m4 194 rfl

/-! java/lang/Object -/
set_option maxRecDepth 100000
def RJ13 : String := "java/lang/Object"
abbrev cJ13_init : ByteArray := object_method_1_code
def yJ13_init : MethodName := ⟨RJ13, "<init>", "()V"⟩
theorem dJ13_init_0 : decode cJ13_init 0 = .ok (.return_, 1) := by decide +kernel
theorem q115 : (Jvm.Cond.instanceMethod ({ cls := "java/lang/Object", name := "<init>", desc := "()V" } : Jvm.MethodName)) ∈ lw_all := lw_g (lw_at lw_m1 41 rfl) rfl
theorem q116 : (Jvm.Cond.code ({ cls := "java/lang/Object", name := "<init>", desc := "()V" } : Jvm.MethodName) object_method_1_code (1 : Nat) (Option.none : Option Jvm.ClassFile.FieldType)) ∈ lw_all := lw_g (lw_at lw_m1 42 rfl) rfl

/-! java/lang/RuntimeException -/
set_option maxRecDepth 100000
def RJ2 : String := "java/lang/RuntimeException"
abbrev cJ2_init : ByteArray := prog_29_method_2_code
def yJ2_init : MethodName := ⟨RJ2, "<init>", "(Ljava/lang/String;)V"⟩
def dkwJ2_init_0 : List UInt8 := [42, 43, 183, 0, 7, 177]
abbrev dktJ2_init_0 : List UInt8 := dkwJ2_init_0 ++ []
theorem dksJ2_init_0 : cJ2_init.data.toList.drop 0 = dktJ2_init_0 := by decide +kernel
theorem dJ2_init_0 : decode cJ2_init 0 = .ok (.aload_n 0, 1) := dk_42 (dk_at dksJ2_init_0 0 rfl rfl)
theorem dJ2_init_1 : decode cJ2_init 1 = .ok (.aload_n 1, 1) := dk_43 (dk_at dksJ2_init_0 1 rfl rfl)
theorem dJ2_init_2 : decode cJ2_init 2 = .ok (.invokespecial 7, 3) := dk_183 0 7 (dk_at dksJ2_init_0 2 rfl rfl)
theorem dJ2_init_5 : decode cJ2_init 5 = .ok (.return_, 1) := dk_177 (dk_at dksJ2_init_0 5 rfl rfl)
theorem q82 : (Jvm.Cond.initialized "java/lang/RuntimeException") ∈ lw_all := lw_g (lw_at lw_m1 8 rfl) rfl
theorem q235 : (Jvm.Cond.instanceMethod ({ cls := "java/lang/RuntimeException", name := "<init>", desc := "(Ljava/lang/String;)V" } : Jvm.MethodName)) ∈ lw_all := lw_g (lw_at lw_m1 161 rfl) rfl
theorem q236 : (Jvm.Cond.code ({ cls := "java/lang/RuntimeException", name := "<init>", desc := "(Ljava/lang/String;)V" } : Jvm.MethodName) prog_29_method_2_code (2 : Nat) (Option.none : Option Jvm.ClassFile.FieldType)) ∈ lw_all := lw_g (lw_at lw_m1 162 rfl) rfl
theorem q237 : (Jvm.Cond.methodLink "java/lang/RuntimeException" (7 : Nat) ({ cls := "java/lang/Exception", name := "<init>", desc := "(Ljava/lang/String;)V" } : Jvm.MethodName)) ∈ lw_all := lw_g (lw_at lw_m1 163 rfl) rfl
theorem q283 : (Jvm.Cond.declares ({ cls := "java/lang/RuntimeException", name := "<init>", desc := "()V" } : Jvm.MethodName)) ∈ lw_tbl := lw_at lw_m1 209 rfl
theorem q284 : (Jvm.Cond.declares ({ cls := "java/lang/RuntimeException", name := "<init>", desc := "(Ljava/lang/String;)V" } : Jvm.MethodName)) ∈ lw_tbl := lw_at lw_m1 210 rfl

/-! java/lang/IndexOutOfBoundsException -/
set_option maxRecDepth 100000
def RJ3 : String := "java/lang/IndexOutOfBoundsException"
abbrev cJ3_init : ByteArray := prog_25_method_2_code
def yJ3_init : MethodName := ⟨RJ3, "<init>", "(Ljava/lang/String;)V"⟩
def dkwJ3_init_0 : List UInt8 := [42, 43, 183, 0, 7, 177]
abbrev dktJ3_init_0 : List UInt8 := dkwJ3_init_0 ++ []
theorem dksJ3_init_0 : cJ3_init.data.toList.drop 0 = dktJ3_init_0 := by decide +kernel
theorem dJ3_init_0 : decode cJ3_init 0 = .ok (.aload_n 0, 1) := dk_42 (dk_at dksJ3_init_0 0 rfl rfl)
theorem dJ3_init_1 : decode cJ3_init 1 = .ok (.aload_n 1, 1) := dk_43 (dk_at dksJ3_init_0 1 rfl rfl)
theorem dJ3_init_2 : decode cJ3_init 2 = .ok (.invokespecial 7, 3) := dk_183 0 7 (dk_at dksJ3_init_0 2 rfl rfl)
theorem dJ3_init_5 : decode cJ3_init 5 = .ok (.return_, 1) := dk_177 (dk_at dksJ3_init_0 5 rfl rfl)
theorem q83 : (Jvm.Cond.initialized "java/lang/IndexOutOfBoundsException") ∈ lw_all := lw_g (lw_at lw_m1 9 rfl) rfl
theorem q232 : (Jvm.Cond.instanceMethod ({ cls := "java/lang/IndexOutOfBoundsException", name := "<init>", desc := "(Ljava/lang/String;)V" } : Jvm.MethodName)) ∈ lw_all := lw_g (lw_at lw_m1 158 rfl) rfl
theorem q233 : (Jvm.Cond.code ({ cls := "java/lang/IndexOutOfBoundsException", name := "<init>", desc := "(Ljava/lang/String;)V" } : Jvm.MethodName) prog_25_method_2_code (2 : Nat) (Option.none : Option Jvm.ClassFile.FieldType)) ∈ lw_all := lw_g (lw_at lw_m1 159 rfl) rfl
theorem q234 : (Jvm.Cond.methodLink "java/lang/IndexOutOfBoundsException" (7 : Nat) ({ cls := "java/lang/RuntimeException", name := "<init>", desc := "(Ljava/lang/String;)V" } : Jvm.MethodName)) ∈ lw_all := lw_g (lw_at lw_m1 160 rfl) rfl
theorem q281 : (Jvm.Cond.declares ({ cls := "java/lang/IndexOutOfBoundsException", name := "<init>", desc := "()V" } : Jvm.MethodName)) ∈ lw_tbl := lw_at lw_m1 207 rfl
theorem q282 : (Jvm.Cond.declares ({ cls := "java/lang/IndexOutOfBoundsException", name := "<init>", desc := "(Ljava/lang/String;)V" } : Jvm.MethodName)) ∈ lw_tbl := lw_at lw_m1 208 rfl

/-! java/lang/ArrayIndexOutOfBoundsException -/
set_option maxRecDepth 100000
def RJ4 : String := "java/lang/ArrayIndexOutOfBoundsException"
def TJ4 : u_T := fun k => match k with
  | 0 => ("java/lang/Throwable", "backtrace", "Ljava/lang/Object;", false)
  | 1 => ("java/lang/Throwable", "detailMessage", "Ljava/lang/String;", false)
  | 2 => ("java/lang/Throwable", "cause", "Ljava/lang/Throwable;", false)
  | 3 => ("java/lang/Throwable", "stackTrace", "[Ljava/lang/StackTraceElement;", false)
  | 4 => ("java/lang/Throwable", "depth", "I", false)
  | _ => ("java/lang/Throwable", "suppressedExceptions", "Ljava/util/List;", false)
def tyJ4 : Nat → FieldType := fun k => match k with
  | 0 => .object "java/lang/Object"
  | 1 => .object "java/lang/String"
  | 2 => .object "java/lang/Throwable"
  | 3 => .array (.object "java/lang/StackTraceElement")
  | 4 => .int
  | _ => .object "java/util/List"
abbrev wsJ40 : List Cond := u_ws RJ4 TJ4 6
theorem nmJ4 : ∀ a, a < 6 → ∀ b, b < 6 → a ≠ b → (TJ4 a).2.1 ≠ (TJ4 b).2.1 := by decide +kernel
theorem tyJ4_ok : ∀ k, k < 6 → parseFieldDescriptor (TJ4 k).2.2.1 = some (tyJ4 k) := by decide +kernel
abbrev cJ4_init : ByteArray := prog_22_method_2_code
def yJ4_init : MethodName := ⟨RJ4, "<init>", "(Ljava/lang/String;)V"⟩
def dkwJ4_init_0 : List UInt8 := [42, 43, 183, 0, 7, 177]
abbrev dktJ4_init_0 : List UInt8 := dkwJ4_init_0 ++ []
theorem dksJ4_init_0 : cJ4_init.data.toList.drop 0 = dktJ4_init_0 := by decide +kernel
theorem dJ4_init_0 : decode cJ4_init 0 = .ok (.aload_n 0, 1) := dk_42 (dk_at dksJ4_init_0 0 rfl rfl)
theorem dJ4_init_1 : decode cJ4_init 1 = .ok (.aload_n 1, 1) := dk_43 (dk_at dksJ4_init_0 1 rfl rfl)
theorem dJ4_init_2 : decode cJ4_init 2 = .ok (.invokespecial 7, 3) := dk_183 0 7 (dk_at dksJ4_init_0 2 rfl rfl)
theorem dJ4_init_5 : decode cJ4_init 5 = .ok (.return_, 1) := dk_177 (dk_at dksJ4_init_0 5 rfl rfl)
theorem q84 : (Jvm.Cond.initialized "java/lang/ArrayIndexOutOfBoundsException") ∈ lw_all := lw_g (lw_at lw_m1 10 rfl) rfl
theorem q228 : (Jvm.Cond.instantiable "java/lang/ArrayIndexOutOfBoundsException" (6 : Nat)) ∈ lw_all := lw_g (lw_at lw_m1 154 rfl) rfl
theorem q229 : (Jvm.Cond.instanceMethod ({ cls := "java/lang/ArrayIndexOutOfBoundsException", name := "<init>", desc := "(Ljava/lang/String;)V" } : Jvm.MethodName)) ∈ lw_all := lw_g (lw_at lw_m1 155 rfl) rfl
theorem q230 : (Jvm.Cond.code ({ cls := "java/lang/ArrayIndexOutOfBoundsException", name := "<init>", desc := "(Ljava/lang/String;)V" } : Jvm.MethodName) prog_22_method_2_code (2 : Nat) (Option.none : Option Jvm.ClassFile.FieldType)) ∈ lw_all := lw_g (lw_at lw_m1 156 rfl) rfl
theorem q231 : (Jvm.Cond.methodLink "java/lang/ArrayIndexOutOfBoundsException" (7 : Nat) ({ cls := "java/lang/IndexOutOfBoundsException", name := "<init>", desc := "(Ljava/lang/String;)V" } : Jvm.MethodName)) ∈ lw_all := lw_g (lw_at lw_m1 157 rfl) rfl
theorem q253 : (Jvm.Cond.selects "java/lang/ArrayIndexOutOfBoundsException" ({ cls := "java/lang/Throwable", name := "fillInStackTrace", desc := "()Ljava/lang/Throwable;" } : Jvm.MethodName) ({ cls := "java/lang/Throwable", name := "fillInStackTrace", desc := "()Ljava/lang/Throwable;" } : Jvm.MethodName)) ∈ lw_all := lw_g (lw_at lw_m1 179 rfl) rfl
theorem q267 : (Jvm.Cond.lays "java/lang/ArrayIndexOutOfBoundsException" "java/lang/Throwable" "backtrace" "Ljava/lang/Object;") ∈ lw_all := lw_g (lw_at lw_m1 193 rfl) rfl
theorem q269 : (Jvm.Cond.lays "java/lang/ArrayIndexOutOfBoundsException" "java/lang/Throwable" "detailMessage" "Ljava/lang/String;") ∈ lw_all := lw_g (lw_at lw_m1 195 rfl) rfl
theorem q271 : (Jvm.Cond.lays "java/lang/ArrayIndexOutOfBoundsException" "java/lang/Throwable" "cause" "Ljava/lang/Throwable;") ∈ lw_all := lw_g (lw_at lw_m1 197 rfl) rfl
theorem q273 : (Jvm.Cond.lays "java/lang/ArrayIndexOutOfBoundsException" "java/lang/Throwable" "stackTrace" "[Ljava/lang/StackTraceElement;") ∈ lw_all := lw_g (lw_at lw_m1 199 rfl) rfl
theorem q275 : (Jvm.Cond.lays "java/lang/ArrayIndexOutOfBoundsException" "java/lang/Throwable" "depth" "I") ∈ lw_all := lw_g (lw_at lw_m1 201 rfl) rfl
theorem q277 : (Jvm.Cond.lays "java/lang/ArrayIndexOutOfBoundsException" "java/lang/Throwable" "suppressedExceptions" "Ljava/util/List;") ∈ lw_all := lw_g (lw_at lw_m1 203 rfl) rfl
theorem q279 : (Jvm.Cond.superclass "java/lang/ArrayIndexOutOfBoundsException" "java/lang/IndexOutOfBoundsException") ∈ lw_all := lw_g (lw_at lw_m1 205 rfl) rfl
theorem q280 : (Jvm.Cond.castable "java/lang/ArrayIndexOutOfBoundsException" "java/lang/ArrayIndexOutOfBoundsException") ∈ lw_tbl := lw_at lw_m1 206 rfl
theorem q289 : (Jvm.Cond.selects "java/lang/ArrayIndexOutOfBoundsException" ({ cls := "java/lang/Throwable", name := "fillInStackTrace", desc := "(I)Ljava/lang/Throwable;" } : Jvm.MethodName) ({ cls := "java/lang/Throwable", name := "fillInStackTrace", desc := "(I)Ljava/lang/Throwable;" } : Jvm.MethodName)) ∈ lw_all := lw_g (lw_at lw_m1 215 rfl) rfl
theorem q1837 : (Jvm.Cond.castable "java/lang/ArrayIndexOutOfBoundsException" "java/lang/IndexOutOfBoundsException") ∈ lw_tbl := lw_at lw_m8 83 rfl
theorem in_J4 : ∀ w ∈ wsJ40, w ∈ lw_all := lw_in wsJ40 [267, 269, 271, 273, 275, 277] (by decide +kernel) (by decide +kernel)

/-! java/lang/String -/
set_option maxRecDepth 100000
def RJ5 : String := "java/lang/String"
def TJ5 : u_T := fun k => match k with
  | 0 => ("java/lang/String", "value", "[B", true)
  | _ => ("java/lang/String", "coder", "B", true)
def tyJ5 : Nat → FieldType := fun k => match k with
  | 0 => .array .byte
  | _ => .byte
abbrev wsJ50 : List Cond := u_ws RJ5 TJ5 2
theorem nmJ5 : ∀ a, a < 2 → ∀ b, b < 2 → a ≠ b → (TJ5 a).2.1 ≠ (TJ5 b).2.1 := by decide +kernel
theorem tyJ5_ok : ∀ k, k < 2 → parseFieldDescriptor (TJ5 k).2.2.1 = some (tyJ5 k) := by decide +kernel
abbrev cJ5_length : ByteArray := prog_30_method_54_code
def yJ5_length : MethodName := ⟨RJ5, "length", "()I"⟩
def dkwJ5_length_0 : List UInt8 := [42, 180, 0, 9, 190, 42, 182, 1, 79, 122, 172]
abbrev dktJ5_length_0 : List UInt8 := dkwJ5_length_0 ++ []
theorem dksJ5_length_0 : cJ5_length.data.toList.drop 0 = dktJ5_length_0 := by decide +kernel
theorem dJ5_length_0 : decode cJ5_length 0 = .ok (.aload_n 0, 1) := dk_42 (dk_at dksJ5_length_0 0 rfl rfl)
theorem dJ5_length_1 : decode cJ5_length 1 = .ok (.getfield 9, 3) := dk_180 0 9 (dk_at dksJ5_length_0 1 rfl rfl)
theorem dJ5_length_4 : decode cJ5_length 4 = .ok (.arraylength, 1) := dk_190 (dk_at dksJ5_length_0 4 rfl rfl)
theorem dJ5_length_5 : decode cJ5_length 5 = .ok (.aload_n 0, 1) := dk_42 (dk_at dksJ5_length_0 5 rfl rfl)
theorem dJ5_length_6 : decode cJ5_length 6 = .ok (.invokevirtual 335, 3) := dk_182 1 79 (dk_at dksJ5_length_0 6 rfl rfl)
theorem dJ5_length_9 : decode cJ5_length 9 = .ok (.ishr, 1) := dk_122 (dk_at dksJ5_length_0 9 rfl rfl)
theorem dJ5_length_10 : decode cJ5_length 10 = .ok (.ireturn, 1) := dk_172 (dk_at dksJ5_length_0 10 rfl rfl)
abbrev cJ5_coder : ByteArray := prog_30_method_152_code
def yJ5_coder : MethodName := ⟨RJ5, "coder", "()B"⟩
def dkwJ5_coder_0 : List UInt8 := [178, 0, 38, 153, 0, 10, 42, 180, 0, 15, 167, 0, 4, 4, 172]
abbrev dktJ5_coder_0 : List UInt8 := dkwJ5_coder_0 ++ []
theorem dksJ5_coder_0 : cJ5_coder.data.toList.drop 0 = dktJ5_coder_0 := by decide +kernel
theorem dJ5_coder_0 : decode cJ5_coder 0 = .ok (.getstatic 38, 3) := dk_178 0 38 (dk_at dksJ5_coder_0 0 rfl rfl)
theorem dJ5_coder_3 : decode cJ5_coder 3 = .ok (.ifCond .eq 10, 3) := dk_153 0 10 (dk_at dksJ5_coder_0 3 rfl rfl)
theorem dJ5_coder_6 : decode cJ5_coder 6 = .ok (.aload_n 0, 1) := dk_42 (dk_at dksJ5_coder_0 6 rfl rfl)
theorem dJ5_coder_7 : decode cJ5_coder 7 = .ok (.getfield 15, 3) := dk_180 0 15 (dk_at dksJ5_coder_0 7 rfl rfl)
theorem dJ5_coder_10 : decode cJ5_coder 10 = .ok (.goto 4, 3) := dk_167 0 4 (dk_at dksJ5_coder_0 10 rfl rfl)
theorem dJ5_coder_13 : decode cJ5_coder 13 = .ok (.iconst 1, 1) := dk_4 (dk_at dksJ5_coder_0 13 rfl rfl)
theorem dJ5_coder_14 : decode cJ5_coder 14 = .ok (.ireturn, 1) := dk_172 (dk_at dksJ5_coder_0 14 rfl rfl)
abbrev cJ5_charAt : ByteArray := prog_30_method_56_code
def yJ5_charAt : MethodName := ⟨RJ5, "charAt", "(I)C"⟩
def dkwJ5_charAt_1 : List UInt8 := [172]
abbrev dktJ5_charAt_1 : List UInt8 := dkwJ5_charAt_1 ++ []
def dkwJ5_charAt_0 : List UInt8 := [42, 182, 1, 236, 153, 0, 12, 42, 180, 0, 9, 27, 184, 1, 239, 172, 42, 180, 0, 9, 27, 184, 1, 242]
abbrev dktJ5_charAt_0 : List UInt8 := dkwJ5_charAt_0 ++ dktJ5_charAt_1
theorem dksJ5_charAt_0 : cJ5_charAt.data.toList.drop 0 = dktJ5_charAt_0 := by decide +kernel
theorem dksJ5_charAt_1 : cJ5_charAt.data.toList.drop 24 = dktJ5_charAt_1 := dk_seg dksJ5_charAt_0 24 rfl rfl
theorem dJ5_charAt_0 : decode cJ5_charAt 0 = .ok (.aload_n 0, 1) := dk_42 (dk_at dksJ5_charAt_0 0 rfl rfl)
theorem dJ5_charAt_1 : decode cJ5_charAt 1 = .ok (.invokevirtual 492, 3) := dk_182 1 236 (dk_at dksJ5_charAt_0 1 rfl rfl)
theorem dJ5_charAt_4 : decode cJ5_charAt 4 = .ok (.ifCond .eq 12, 3) := dk_153 0 12 (dk_at dksJ5_charAt_0 4 rfl rfl)
theorem dJ5_charAt_7 : decode cJ5_charAt 7 = .ok (.aload_n 0, 1) := dk_42 (dk_at dksJ5_charAt_0 7 rfl rfl)
theorem dJ5_charAt_8 : decode cJ5_charAt 8 = .ok (.getfield 9, 3) := dk_180 0 9 (dk_at dksJ5_charAt_0 8 rfl rfl)
theorem dJ5_charAt_11 : decode cJ5_charAt 11 = .ok (.iload_n 1, 1) := dk_27 (dk_at dksJ5_charAt_0 11 rfl rfl)
theorem dJ5_charAt_12 : decode cJ5_charAt 12 = .ok (.invokestatic 495, 3) := dk_184 1 239 (dk_at dksJ5_charAt_0 12 rfl rfl)
theorem dJ5_charAt_15 : decode cJ5_charAt 15 = .ok (.ireturn, 1) := dk_172 (dk_at dksJ5_charAt_0 15 rfl rfl)
theorem dJ5_charAt_16 : decode cJ5_charAt 16 = .ok (.aload_n 0, 1) := dk_42 (dk_at dksJ5_charAt_0 16 rfl rfl)
theorem dJ5_charAt_17 : decode cJ5_charAt 17 = .ok (.getfield 9, 3) := dk_180 0 9 (dk_at dksJ5_charAt_0 17 rfl rfl)
theorem dJ5_charAt_20 : decode cJ5_charAt 20 = .ok (.iload_n 1, 1) := dk_27 (dk_at dksJ5_charAt_0 20 rfl rfl)
theorem dJ5_charAt_21 : decode cJ5_charAt 21 = .ok (.invokestatic 498, 3) := dk_184 1 242 (dk_at dksJ5_charAt_0 21 rfl rfl)
theorem dJ5_charAt_24 : decode cJ5_charAt 24 = .ok (.ireturn, 1) := dk_172 (dk_at dksJ5_charAt_1 0 rfl rfl)
abbrev cJ5_isLatin1 : ByteArray := prog_30_method_154_code
def yJ5_isLatin1 : MethodName := ⟨RJ5, "isLatin1", "()Z"⟩
def dkwJ5_isLatin1_0 : List UInt8 := [178, 0, 38, 153, 0, 14, 42, 180, 0, 15, 154, 0, 7, 4, 167, 0, 4, 3, 172]
abbrev dktJ5_isLatin1_0 : List UInt8 := dkwJ5_isLatin1_0 ++ []
theorem dksJ5_isLatin1_0 : cJ5_isLatin1.data.toList.drop 0 = dktJ5_isLatin1_0 := by decide +kernel
theorem dJ5_isLatin1_0 : decode cJ5_isLatin1 0 = .ok (.getstatic 38, 3) := dk_178 0 38 (dk_at dksJ5_isLatin1_0 0 rfl rfl)
theorem dJ5_isLatin1_3 : decode cJ5_isLatin1 3 = .ok (.ifCond .eq 14, 3) := dk_153 0 14 (dk_at dksJ5_isLatin1_0 3 rfl rfl)
theorem dJ5_isLatin1_6 : decode cJ5_isLatin1 6 = .ok (.aload_n 0, 1) := dk_42 (dk_at dksJ5_isLatin1_0 6 rfl rfl)
theorem dJ5_isLatin1_7 : decode cJ5_isLatin1 7 = .ok (.getfield 15, 3) := dk_180 0 15 (dk_at dksJ5_isLatin1_0 7 rfl rfl)
theorem dJ5_isLatin1_10 : decode cJ5_isLatin1 10 = .ok (.ifCond .ne 7, 3) := dk_154 0 7 (dk_at dksJ5_isLatin1_0 10 rfl rfl)
theorem dJ5_isLatin1_13 : decode cJ5_isLatin1 13 = .ok (.iconst 1, 1) := dk_4 (dk_at dksJ5_isLatin1_0 13 rfl rfl)
theorem dJ5_isLatin1_14 : decode cJ5_isLatin1 14 = .ok (.goto 4, 3) := dk_167 0 4 (dk_at dksJ5_isLatin1_0 14 rfl rfl)
theorem dJ5_isLatin1_17 : decode cJ5_isLatin1 17 = .ok (.iconst 0, 1) := dk_3 (dk_at dksJ5_isLatin1_0 17 rfl rfl)
theorem dJ5_isLatin1_18 : decode cJ5_isLatin1 18 = .ok (.ireturn, 1) := dk_172 (dk_at dksJ5_isLatin1_0 18 rfl rfl)
abbrev cJ5_checkIndex : ByteArray := prog_30_method_155_code
def yJ5_checkIndex : MethodName := ⟨RJ5, "checkIndex", "(II)V"⟩
def dkwJ5_checkIndex_0 : List UInt8 := [26, 27, 178, 4, 29, 184, 4, 35, 87, 177]
abbrev dktJ5_checkIndex_0 : List UInt8 := dkwJ5_checkIndex_0 ++ []
theorem dksJ5_checkIndex_0 : cJ5_checkIndex.data.toList.drop 0 = dktJ5_checkIndex_0 := by decide +kernel
theorem dJ5_checkIndex_0 : decode cJ5_checkIndex 0 = .ok (.iload_n 0, 1) := dk_26 (dk_at dksJ5_checkIndex_0 0 rfl rfl)
theorem dJ5_checkIndex_1 : decode cJ5_checkIndex 1 = .ok (.iload_n 1, 1) := dk_27 (dk_at dksJ5_checkIndex_0 1 rfl rfl)
theorem dJ5_checkIndex_2 : decode cJ5_checkIndex 2 = .ok (.getstatic 1053, 3) := dk_178 4 29 (dk_at dksJ5_checkIndex_0 2 rfl rfl)
theorem dJ5_checkIndex_5 : decode cJ5_checkIndex 5 = .ok (.invokestatic 1059, 3) := dk_184 4 35 (dk_at dksJ5_checkIndex_0 5 rfl rfl)
theorem dJ5_checkIndex_8 : decode cJ5_checkIndex 8 = .ok (.pop, 1) := dk_87 (dk_at dksJ5_checkIndex_0 8 rfl rfl)
theorem dJ5_checkIndex_9 : decode cJ5_checkIndex 9 = .ok (.return_, 1) := dk_177 (dk_at dksJ5_checkIndex_0 9 rfl rfl)
theorem q85 : (Jvm.Cond.initialized "java/lang/String") ∈ lw_all := lw_g (lw_at lw_m1 11 rfl) rfl
theorem q299 : (Jvm.Cond.instantiable "java/lang/String" (4 : Nat)) ∈ lw_all := lw_g (lw_at lw_m1 225 rfl) rfl
theorem q301 : (Jvm.Cond.laysFinal "java/lang/String" "java/lang/String" "value" "[B") ∈ lw_all := lw_g (lw_at lw_m1 227 rfl) rfl
theorem q302 : (Jvm.Cond.soleField "java/lang/String" "value") ∈ lw_all := lw_g (lw_at lw_m1 228 rfl) rfl
theorem q303 : (Jvm.Cond.laysFinal "java/lang/String" "java/lang/String" "coder" "B") ∈ lw_all := lw_g (lw_at lw_m1 229 rfl) rfl
theorem q304 : (Jvm.Cond.soleField "java/lang/String" "coder") ∈ lw_all := lw_g (lw_at lw_m1 230 rfl) rfl
theorem q942 : (Jvm.Cond.instanceMethod ({ cls := "java/lang/String", name := "length", desc := "()I" } : Jvm.MethodName)) ∈ lw_all := lw_g (lw_at lw_m4 148 rfl) rfl
theorem q943 : (Jvm.Cond.selects "java/lang/String" ({ cls := "java/lang/String", name := "length", desc := "()I" } : Jvm.MethodName) ({ cls := "java/lang/String", name := "length", desc := "()I" } : Jvm.MethodName)) ∈ lw_all := lw_g (lw_at lw_m4 149 rfl) rfl
theorem q944 : (Jvm.Cond.code ({ cls := "java/lang/String", name := "length", desc := "()I" } : Jvm.MethodName) prog_30_method_54_code (1 : Nat) (Option.some Jvm.ClassFile.FieldType.int)) ∈ lw_all := lw_g (lw_at lw_m4 150 rfl) rfl
theorem q945 : (Jvm.Cond.methodLink "java/lang/String" (335 : Nat) ({ cls := "java/lang/String", name := "coder", desc := "()B" } : Jvm.MethodName)) ∈ lw_all := lw_g (lw_at lw_m4 151 rfl) rfl
theorem q946 : (Jvm.Cond.instanceMethod ({ cls := "java/lang/String", name := "coder", desc := "()B" } : Jvm.MethodName)) ∈ lw_all := lw_g (lw_at lw_m4 152 rfl) rfl
theorem q947 : (Jvm.Cond.selects "java/lang/String" ({ cls := "java/lang/String", name := "coder", desc := "()B" } : Jvm.MethodName) ({ cls := "java/lang/String", name := "coder", desc := "()B" } : Jvm.MethodName)) ∈ lw_all := lw_g (lw_at lw_m4 153 rfl) rfl
theorem q948 : (Jvm.Cond.code ({ cls := "java/lang/String", name := "coder", desc := "()B" } : Jvm.MethodName) prog_30_method_152_code (1 : Nat) (Option.some Jvm.ClassFile.FieldType.byte)) ∈ lw_all := lw_g (lw_at lw_m4 154 rfl) rfl
theorem q949 : (Jvm.Cond.fieldLink "java/lang/String" (38 : Nat) "java/lang/String" "COMPACT_STRINGS" "Z") ∈ lw_all := lw_g (lw_at lw_m4 155 rfl) rfl
theorem q950 : (Jvm.Cond.laysStatic "java/lang/String" "COMPACT_STRINGS" "Z") ∈ lw_tbl := lw_at lw_m4 156 rfl
theorem q952 : (Jvm.Cond.instanceMethod ({ cls := "java/lang/String", name := "charAt", desc := "(I)C" } : Jvm.MethodName)) ∈ lw_all := lw_g (lw_at lw_m4 158 rfl) rfl
theorem q953 : (Jvm.Cond.selects "java/lang/String" ({ cls := "java/lang/String", name := "charAt", desc := "(I)C" } : Jvm.MethodName) ({ cls := "java/lang/String", name := "charAt", desc := "(I)C" } : Jvm.MethodName)) ∈ lw_all := lw_g (lw_at lw_m4 159 rfl) rfl
theorem q954 : (Jvm.Cond.code ({ cls := "java/lang/String", name := "charAt", desc := "(I)C" } : Jvm.MethodName) prog_30_method_56_code (2 : Nat) (Option.some Jvm.ClassFile.FieldType.char)) ∈ lw_all := lw_g (lw_at lw_m4 160 rfl) rfl
theorem q955 : (Jvm.Cond.methodLink "java/lang/String" (492 : Nat) ({ cls := "java/lang/String", name := "isLatin1", desc := "()Z" } : Jvm.MethodName)) ∈ lw_all := lw_g (lw_at lw_m4 161 rfl) rfl
theorem q956 : (Jvm.Cond.instanceMethod ({ cls := "java/lang/String", name := "isLatin1", desc := "()Z" } : Jvm.MethodName)) ∈ lw_all := lw_g (lw_at lw_m4 162 rfl) rfl
theorem q957 : (Jvm.Cond.selects "java/lang/String" ({ cls := "java/lang/String", name := "isLatin1", desc := "()Z" } : Jvm.MethodName) ({ cls := "java/lang/String", name := "isLatin1", desc := "()Z" } : Jvm.MethodName)) ∈ lw_all := lw_g (lw_at lw_m4 163 rfl) rfl
theorem q958 : (Jvm.Cond.code ({ cls := "java/lang/String", name := "isLatin1", desc := "()Z" } : Jvm.MethodName) prog_30_method_154_code (1 : Nat) (Option.some Jvm.ClassFile.FieldType.boolean)) ∈ lw_all := lw_g (lw_at lw_m4 164 rfl) rfl
theorem q959 : (Jvm.Cond.methodLink "java/lang/String" (495 : Nat) ({ cls := "java/lang/StringLatin1", name := "charAt", desc := "([BI)C" } : Jvm.MethodName)) ∈ lw_all := lw_g (lw_at lw_m4 165 rfl) rfl
theorem q963 : (Jvm.Cond.static ({ cls := "java/lang/String", name := "checkIndex", desc := "(II)V" } : Jvm.MethodName)) ∈ lw_all := lw_g (lw_at lw_m4 169 rfl) rfl
theorem q964 : (Jvm.Cond.code ({ cls := "java/lang/String", name := "checkIndex", desc := "(II)V" } : Jvm.MethodName) prog_30_method_155_code (2 : Nat) (Option.none : Option Jvm.ClassFile.FieldType)) ∈ lw_all := lw_g (lw_at lw_m4 170 rfl) rfl
theorem q965 : (Jvm.Cond.fieldLink "java/lang/String" (1053 : Nat) "jdk/internal/util/Preconditions" "SIOOBE_FORMATTER" "Ljava/util/function/BiFunction;") ∈ lw_all := lw_g (lw_at lw_m4 171 rfl) rfl
theorem q967 : (Jvm.Cond.methodLink "java/lang/String" (1059 : Nat) ({ cls := "jdk/internal/util/Preconditions", name := "checkIndex", desc := "(IILjava/util/function/BiFunction;)I" } : Jvm.MethodName)) ∈ lw_all := lw_g (lw_at lw_m4 173 rfl) rfl
theorem q970 : (Jvm.Cond.methodLink "java/lang/String" (498 : Nat) ({ cls := "java/lang/StringUTF16", name := "charAt", desc := "([BI)C" } : Jvm.MethodName)) ∈ lw_all := lw_g (lw_at lw_m4 176 rfl) rfl
theorem q1852 : (Jvm.Cond.fieldLink "java/lang/String" (9 : Nat) "java/lang/String" "value" "[B") ∈ lw_all := lw_g (lw_at lw_m8 98 rfl) rfl
theorem q1853 : (Jvm.Cond.fieldLink "java/lang/String" (15 : Nat) "java/lang/String" "coder" "B") ∈ lw_all := lw_g (lw_at lw_m8 99 rfl) rfl
theorem in_J5 : ∀ w ∈ wsJ50, w ∈ lw_all := lw_in wsJ50 [301, 303] (by decide +kernel) (by decide +kernel)

/-! java/lang/NegativeArraySizeException -/
set_option maxRecDepth 100000
def RJ6 : String := "java/lang/NegativeArraySizeException"
def TJ6 : u_T := fun k => match k with
  | 0 => ("java/lang/Throwable", "backtrace", "Ljava/lang/Object;", false)
  | 1 => ("java/lang/Throwable", "detailMessage", "Ljava/lang/String;", false)
  | 2 => ("java/lang/Throwable", "cause", "Ljava/lang/Throwable;", false)
  | 3 => ("java/lang/Throwable", "stackTrace", "[Ljava/lang/StackTraceElement;", false)
  | 4 => ("java/lang/Throwable", "depth", "I", false)
  | _ => ("java/lang/Throwable", "suppressedExceptions", "Ljava/util/List;", false)
def tyJ6 : Nat → FieldType := fun k => match k with
  | 0 => .object "java/lang/Object"
  | 1 => .object "java/lang/String"
  | 2 => .object "java/lang/Throwable"
  | 3 => .array (.object "java/lang/StackTraceElement")
  | 4 => .int
  | _ => .object "java/util/List"
abbrev wsJ60 : List Cond := u_ws RJ6 TJ6 6
theorem nmJ6 : ∀ a, a < 6 → ∀ b, b < 6 → a ≠ b → (TJ6 a).2.1 ≠ (TJ6 b).2.1 := by decide +kernel
theorem tyJ6_ok : ∀ k, k < 6 → parseFieldDescriptor (TJ6 k).2.2.1 = some (tyJ6 k) := by decide +kernel
abbrev cJ6_init : ByteArray := prog_28_method_2_code
def yJ6_init : MethodName := ⟨RJ6, "<init>", "(Ljava/lang/String;)V"⟩
def dkwJ6_init_0 : List UInt8 := [42, 43, 183, 0, 7, 177]
abbrev dktJ6_init_0 : List UInt8 := dkwJ6_init_0 ++ []
theorem dksJ6_init_0 : cJ6_init.data.toList.drop 0 = dktJ6_init_0 := by decide +kernel
theorem dJ6_init_0 : decode cJ6_init 0 = .ok (.aload_n 0, 1) := dk_42 (dk_at dksJ6_init_0 0 rfl rfl)
theorem dJ6_init_1 : decode cJ6_init 1 = .ok (.aload_n 1, 1) := dk_43 (dk_at dksJ6_init_0 1 rfl rfl)
theorem dJ6_init_2 : decode cJ6_init 2 = .ok (.invokespecial 7, 3) := dk_183 0 7 (dk_at dksJ6_init_0 2 rfl rfl)
theorem dJ6_init_5 : decode cJ6_init 5 = .ok (.return_, 1) := dk_177 (dk_at dksJ6_init_0 5 rfl rfl)
theorem q87 : (Jvm.Cond.initialized "java/lang/NegativeArraySizeException") ∈ lw_all := lw_g (lw_at lw_m1 13 rfl) rfl
theorem q255 : (Jvm.Cond.selects "java/lang/NegativeArraySizeException" ({ cls := "java/lang/Throwable", name := "fillInStackTrace", desc := "()Ljava/lang/Throwable;" } : Jvm.MethodName) ({ cls := "java/lang/Throwable", name := "fillInStackTrace", desc := "()Ljava/lang/Throwable;" } : Jvm.MethodName)) ∈ lw_all := lw_g (lw_at lw_m1 181 rfl) rfl
theorem q339 : (Jvm.Cond.instantiable "java/lang/NegativeArraySizeException" (6 : Nat)) ∈ lw_all := lw_g (lw_at lw_m2 25 rfl) rfl
theorem q340 : (Jvm.Cond.instanceMethod ({ cls := "java/lang/NegativeArraySizeException", name := "<init>", desc := "(Ljava/lang/String;)V" } : Jvm.MethodName)) ∈ lw_all := lw_g (lw_at lw_m2 26 rfl) rfl
theorem q341 : (Jvm.Cond.code ({ cls := "java/lang/NegativeArraySizeException", name := "<init>", desc := "(Ljava/lang/String;)V" } : Jvm.MethodName) prog_28_method_2_code (2 : Nat) (Option.none : Option Jvm.ClassFile.FieldType)) ∈ lw_all := lw_g (lw_at lw_m2 27 rfl) rfl
theorem q342 : (Jvm.Cond.methodLink "java/lang/NegativeArraySizeException" (7 : Nat) ({ cls := "java/lang/RuntimeException", name := "<init>", desc := "(Ljava/lang/String;)V" } : Jvm.MethodName)) ∈ lw_all := lw_g (lw_at lw_m2 28 rfl) rfl
theorem q343 : (Jvm.Cond.lays "java/lang/NegativeArraySizeException" "java/lang/Throwable" "backtrace" "Ljava/lang/Object;") ∈ lw_all := lw_g (lw_at lw_m2 29 rfl) rfl
theorem q344 : (Jvm.Cond.lays "java/lang/NegativeArraySizeException" "java/lang/Throwable" "detailMessage" "Ljava/lang/String;") ∈ lw_all := lw_g (lw_at lw_m2 30 rfl) rfl
theorem q345 : (Jvm.Cond.lays "java/lang/NegativeArraySizeException" "java/lang/Throwable" "cause" "Ljava/lang/Throwable;") ∈ lw_all := lw_g (lw_at lw_m2 31 rfl) rfl
theorem q346 : (Jvm.Cond.lays "java/lang/NegativeArraySizeException" "java/lang/Throwable" "stackTrace" "[Ljava/lang/StackTraceElement;") ∈ lw_all := lw_g (lw_at lw_m2 32 rfl) rfl
theorem q347 : (Jvm.Cond.lays "java/lang/NegativeArraySizeException" "java/lang/Throwable" "depth" "I") ∈ lw_all := lw_g (lw_at lw_m2 33 rfl) rfl
theorem q348 : (Jvm.Cond.lays "java/lang/NegativeArraySizeException" "java/lang/Throwable" "suppressedExceptions" "Ljava/util/List;") ∈ lw_all := lw_g (lw_at lw_m2 34 rfl) rfl
theorem q349 : (Jvm.Cond.superclass "java/lang/NegativeArraySizeException" "java/lang/RuntimeException") ∈ lw_all := lw_g (lw_at lw_m2 35 rfl) rfl
theorem q350 : (Jvm.Cond.castable "java/lang/NegativeArraySizeException" "java/lang/NegativeArraySizeException") ∈ lw_tbl := lw_at lw_m2 36 rfl
theorem q351 : (Jvm.Cond.selects "java/lang/NegativeArraySizeException" ({ cls := "java/lang/Throwable", name := "fillInStackTrace", desc := "(I)Ljava/lang/Throwable;" } : Jvm.MethodName) ({ cls := "java/lang/Throwable", name := "fillInStackTrace", desc := "(I)Ljava/lang/Throwable;" } : Jvm.MethodName)) ∈ lw_all := lw_g (lw_at lw_m2 37 rfl) rfl
theorem in_J6 : ∀ w ∈ wsJ60, w ∈ lw_all := lw_in wsJ60 [343, 344, 345, 346, 347, 348] (by decide +kernel) (by decide +kernel)

/-! java/lang/ClassCastException -/
set_option maxRecDepth 100000
def RJ7 : String := "java/lang/ClassCastException"
def TJ7 : u_T := fun k => match k with
  | 0 => ("java/lang/Throwable", "backtrace", "Ljava/lang/Object;", false)
  | 1 => ("java/lang/Throwable", "detailMessage", "Ljava/lang/String;", false)
  | 2 => ("java/lang/Throwable", "cause", "Ljava/lang/Throwable;", false)
  | 3 => ("java/lang/Throwable", "stackTrace", "[Ljava/lang/StackTraceElement;", false)
  | 4 => ("java/lang/Throwable", "depth", "I", false)
  | _ => ("java/lang/Throwable", "suppressedExceptions", "Ljava/util/List;", false)
def tyJ7 : Nat → FieldType := fun k => match k with
  | 0 => .object "java/lang/Object"
  | 1 => .object "java/lang/String"
  | 2 => .object "java/lang/Throwable"
  | 3 => .array (.object "java/lang/StackTraceElement")
  | 4 => .int
  | _ => .object "java/util/List"
abbrev wsJ70 : List Cond := u_ws RJ7 TJ7 6
theorem nmJ7 : ∀ a, a < 6 → ∀ b, b < 6 → a ≠ b → (TJ7 a).2.1 ≠ (TJ7 b).2.1 := by decide +kernel
theorem tyJ7_ok : ∀ k, k < 6 → parseFieldDescriptor (TJ7 k).2.2.1 = some (tyJ7 k) := by decide +kernel
abbrev cJ7_init : ByteArray := prog_23_method_2_code
def yJ7_init : MethodName := ⟨RJ7, "<init>", "(Ljava/lang/String;)V"⟩
def dkwJ7_init_0 : List UInt8 := [42, 43, 183, 0, 7, 177]
abbrev dktJ7_init_0 : List UInt8 := dkwJ7_init_0 ++ []
theorem dksJ7_init_0 : cJ7_init.data.toList.drop 0 = dktJ7_init_0 := by decide +kernel
theorem dJ7_init_0 : decode cJ7_init 0 = .ok (.aload_n 0, 1) := dk_42 (dk_at dksJ7_init_0 0 rfl rfl)
theorem dJ7_init_1 : decode cJ7_init 1 = .ok (.aload_n 1, 1) := dk_43 (dk_at dksJ7_init_0 1 rfl rfl)
theorem dJ7_init_2 : decode cJ7_init 2 = .ok (.invokespecial 7, 3) := dk_183 0 7 (dk_at dksJ7_init_0 2 rfl rfl)
theorem dJ7_init_5 : decode cJ7_init 5 = .ok (.return_, 1) := dk_177 (dk_at dksJ7_init_0 5 rfl rfl)
theorem q93 : (Jvm.Cond.initialized "java/lang/ClassCastException") ∈ lw_all := lw_g (lw_at lw_m1 19 rfl) rfl
theorem q254 : (Jvm.Cond.selects "java/lang/ClassCastException" ({ cls := "java/lang/Throwable", name := "fillInStackTrace", desc := "()Ljava/lang/Throwable;" } : Jvm.MethodName) ({ cls := "java/lang/Throwable", name := "fillInStackTrace", desc := "()Ljava/lang/Throwable;" } : Jvm.MethodName)) ∈ lw_all := lw_g (lw_at lw_m1 180 rfl) rfl
theorem q410 : (Jvm.Cond.instantiable "java/lang/ClassCastException" (6 : Nat)) ∈ lw_all := lw_g (lw_at lw_m2 96 rfl) rfl
theorem q411 : (Jvm.Cond.instanceMethod ({ cls := "java/lang/ClassCastException", name := "<init>", desc := "(Ljava/lang/String;)V" } : Jvm.MethodName)) ∈ lw_all := lw_g (lw_at lw_m2 97 rfl) rfl
theorem q412 : (Jvm.Cond.code ({ cls := "java/lang/ClassCastException", name := "<init>", desc := "(Ljava/lang/String;)V" } : Jvm.MethodName) prog_23_method_2_code (2 : Nat) (Option.none : Option Jvm.ClassFile.FieldType)) ∈ lw_all := lw_g (lw_at lw_m2 98 rfl) rfl
theorem q413 : (Jvm.Cond.methodLink "java/lang/ClassCastException" (7 : Nat) ({ cls := "java/lang/RuntimeException", name := "<init>", desc := "(Ljava/lang/String;)V" } : Jvm.MethodName)) ∈ lw_all := lw_g (lw_at lw_m2 99 rfl) rfl
theorem q414 : (Jvm.Cond.lays "java/lang/ClassCastException" "java/lang/Throwable" "backtrace" "Ljava/lang/Object;") ∈ lw_all := lw_g (lw_at lw_m2 100 rfl) rfl
theorem q415 : (Jvm.Cond.lays "java/lang/ClassCastException" "java/lang/Throwable" "detailMessage" "Ljava/lang/String;") ∈ lw_all := lw_g (lw_at lw_m2 101 rfl) rfl
theorem q416 : (Jvm.Cond.lays "java/lang/ClassCastException" "java/lang/Throwable" "cause" "Ljava/lang/Throwable;") ∈ lw_all := lw_g (lw_at lw_m2 102 rfl) rfl
theorem q417 : (Jvm.Cond.lays "java/lang/ClassCastException" "java/lang/Throwable" "stackTrace" "[Ljava/lang/StackTraceElement;") ∈ lw_all := lw_g (lw_at lw_m2 103 rfl) rfl
theorem q418 : (Jvm.Cond.lays "java/lang/ClassCastException" "java/lang/Throwable" "depth" "I") ∈ lw_all := lw_g (lw_at lw_m2 104 rfl) rfl
theorem q419 : (Jvm.Cond.lays "java/lang/ClassCastException" "java/lang/Throwable" "suppressedExceptions" "Ljava/util/List;") ∈ lw_all := lw_g (lw_at lw_m2 105 rfl) rfl
theorem q420 : (Jvm.Cond.superclass "java/lang/ClassCastException" "java/lang/RuntimeException") ∈ lw_all := lw_g (lw_at lw_m2 106 rfl) rfl
theorem q421 : (Jvm.Cond.castable "java/lang/ClassCastException" "java/lang/ClassCastException") ∈ lw_tbl := lw_at lw_m2 107 rfl
theorem q422 : (Jvm.Cond.selects "java/lang/ClassCastException" ({ cls := "java/lang/Throwable", name := "fillInStackTrace", desc := "(I)Ljava/lang/Throwable;" } : Jvm.MethodName) ({ cls := "java/lang/Throwable", name := "fillInStackTrace", desc := "(I)Ljava/lang/Throwable;" } : Jvm.MethodName)) ∈ lw_all := lw_g (lw_at lw_m2 108 rfl) rfl
theorem in_J7 : ∀ w ∈ wsJ70, w ∈ lw_all := lw_in wsJ70 [414, 415, 416, 417, 418, 419] (by decide +kernel) (by decide +kernel)

/-! java/lang/Math -/
set_option maxRecDepth 100000
def RJ8 : String := "java/lang/Math"
abbrev cJ8_abs : ByteArray := prog_27_method_59_code
def yJ8_abs : MethodName := ⟨RJ8, "abs", "(I)I"⟩
def dkwJ8_abs_0 : List UInt8 := [26, 156, 0, 8, 26, 116, 167, 0, 4, 26, 172]
abbrev dktJ8_abs_0 : List UInt8 := dkwJ8_abs_0 ++ []
theorem dksJ8_abs_0 : cJ8_abs.data.toList.drop 0 = dktJ8_abs_0 := by decide +kernel
theorem dJ8_abs_0 : decode cJ8_abs 0 = .ok (.iload_n 0, 1) := dk_26 (dk_at dksJ8_abs_0 0 rfl rfl)
theorem dJ8_abs_1 : decode cJ8_abs 1 = .ok (.ifCond .ge 8, 3) := dk_156 0 8 (dk_at dksJ8_abs_0 1 rfl rfl)
theorem dJ8_abs_4 : decode cJ8_abs 4 = .ok (.iload_n 0, 1) := dk_26 (dk_at dksJ8_abs_0 4 rfl rfl)
theorem dJ8_abs_5 : decode cJ8_abs 5 = .ok (.ineg, 1) := dk_116 (dk_at dksJ8_abs_0 5 rfl rfl)
theorem dJ8_abs_6 : decode cJ8_abs 6 = .ok (.goto 4, 3) := dk_167 0 4 (dk_at dksJ8_abs_0 6 rfl rfl)
theorem dJ8_abs_9 : decode cJ8_abs 9 = .ok (.iload_n 0, 1) := dk_26 (dk_at dksJ8_abs_0 9 rfl rfl)
theorem dJ8_abs_10 : decode cJ8_abs 10 = .ok (.ireturn, 1) := dk_172 (dk_at dksJ8_abs_0 10 rfl rfl)
abbrev cJ8_max : ByteArray := prog_27_method_65_code
def yJ8_max : MethodName := ⟨RJ8, "max", "(II)I"⟩
def dkwJ8_max_0 : List UInt8 := [26, 27, 161, 0, 7, 26, 167, 0, 4, 27, 172]
abbrev dktJ8_max_0 : List UInt8 := dkwJ8_max_0 ++ []
theorem dksJ8_max_0 : cJ8_max.data.toList.drop 0 = dktJ8_max_0 := by decide +kernel
theorem dJ8_max_0 : decode cJ8_max 0 = .ok (.iload_n 0, 1) := dk_26 (dk_at dksJ8_max_0 0 rfl rfl)
theorem dJ8_max_1 : decode cJ8_max 1 = .ok (.iload_n 1, 1) := dk_27 (dk_at dksJ8_max_0 1 rfl rfl)
theorem dJ8_max_2 : decode cJ8_max 2 = .ok (.if_icmp .lt 7, 3) := dk_161 0 7 (dk_at dksJ8_max_0 2 rfl rfl)
theorem dJ8_max_5 : decode cJ8_max 5 = .ok (.iload_n 0, 1) := dk_26 (dk_at dksJ8_max_0 5 rfl rfl)
theorem dJ8_max_6 : decode cJ8_max 6 = .ok (.goto 4, 3) := dk_167 0 4 (dk_at dksJ8_max_0 6 rfl rfl)
theorem dJ8_max_9 : decode cJ8_max 9 = .ok (.iload_n 1, 1) := dk_27 (dk_at dksJ8_max_0 9 rfl rfl)
theorem dJ8_max_10 : decode cJ8_max 10 = .ok (.ireturn, 1) := dk_172 (dk_at dksJ8_max_0 10 rfl rfl)
abbrev cJ8_min : ByteArray := prog_27_method_69_code
def yJ8_min : MethodName := ⟨RJ8, "min", "(II)I"⟩
def dkwJ8_min_0 : List UInt8 := [26, 27, 163, 0, 7, 26, 167, 0, 4, 27, 172]
abbrev dktJ8_min_0 : List UInt8 := dkwJ8_min_0 ++ []
theorem dksJ8_min_0 : cJ8_min.data.toList.drop 0 = dktJ8_min_0 := by decide +kernel
theorem dJ8_min_0 : decode cJ8_min 0 = .ok (.iload_n 0, 1) := dk_26 (dk_at dksJ8_min_0 0 rfl rfl)
theorem dJ8_min_1 : decode cJ8_min 1 = .ok (.iload_n 1, 1) := dk_27 (dk_at dksJ8_min_0 1 rfl rfl)
theorem dJ8_min_2 : decode cJ8_min 2 = .ok (.if_icmp .gt 7, 3) := dk_163 0 7 (dk_at dksJ8_min_0 2 rfl rfl)
theorem dJ8_min_5 : decode cJ8_min 5 = .ok (.iload_n 0, 1) := dk_26 (dk_at dksJ8_min_0 5 rfl rfl)
theorem dJ8_min_6 : decode cJ8_min 6 = .ok (.goto 4, 3) := dk_167 0 4 (dk_at dksJ8_min_0 6 rfl rfl)
theorem dJ8_min_9 : decode cJ8_min 9 = .ok (.iload_n 1, 1) := dk_27 (dk_at dksJ8_min_0 9 rfl rfl)
theorem dJ8_min_10 : decode cJ8_min 10 = .ok (.ireturn, 1) := dk_172 (dk_at dksJ8_min_0 10 rfl rfl)
theorem q95 : (Jvm.Cond.initialized "java/lang/Math") ∈ lw_all := lw_g (lw_at lw_m1 21 rfl) rfl
theorem q591 : (Jvm.Cond.static ({ cls := "java/lang/Math", name := "abs", desc := "(I)I" } : Jvm.MethodName)) ∈ lw_all := lw_g (lw_at lw_m3 37 rfl) rfl
theorem q592 : (Jvm.Cond.code ({ cls := "java/lang/Math", name := "abs", desc := "(I)I" } : Jvm.MethodName) prog_27_method_59_code (1 : Nat) (Option.some Jvm.ClassFile.FieldType.int)) ∈ lw_all := lw_g (lw_at lw_m3 38 rfl) rfl
theorem q594 : (Jvm.Cond.static ({ cls := "java/lang/Math", name := "max", desc := "(II)I" } : Jvm.MethodName)) ∈ lw_all := lw_g (lw_at lw_m3 40 rfl) rfl
theorem q595 : (Jvm.Cond.code ({ cls := "java/lang/Math", name := "max", desc := "(II)I" } : Jvm.MethodName) prog_27_method_65_code (2 : Nat) (Option.some Jvm.ClassFile.FieldType.int)) ∈ lw_all := lw_g (lw_at lw_m3 41 rfl) rfl
theorem q1230 : (Jvm.Cond.static ({ cls := "java/lang/Math", name := "min", desc := "(II)I" } : Jvm.MethodName)) ∈ lw_all := lw_g (lw_at lw_m5 196 rfl) rfl
theorem q1231 : (Jvm.Cond.code ({ cls := "java/lang/Math", name := "min", desc := "(II)I" } : Jvm.MethodName) prog_27_method_69_code (2 : Nat) (Option.some Jvm.ClassFile.FieldType.int)) ∈ lw_all := lw_g (lw_at lw_m5 197 rfl) rfl

/-! java/lang/Integer -/
set_option maxRecDepth 100000
def RJ9 : String := "java/lang/Integer"
abbrev cJ9_bitCount : ByteArray := prog_26_method_49_code
def yJ9_bitCount : MethodName := ⟨RJ9, "bitCount", "(I)I"⟩
def dkwJ9_bitCount_2 : List UInt8 := [26, 16, 63, 126, 172]
abbrev dktJ9_bitCount_2 : List UInt8 := dkwJ9_bitCount_2 ++ []
def dkwJ9_bitCount_1 : List UInt8 := [26, 26, 7, 124, 96, 19, 1, 11, 126, 59, 26, 26, 16, 8, 124, 96, 59, 26, 26, 16, 16, 124, 96, 59]
abbrev dktJ9_bitCount_1 : List UInt8 := dkwJ9_bitCount_1 ++ dktJ9_bitCount_2
def dkwJ9_bitCount_0 : List UInt8 := [26, 26, 4, 124, 19, 1, 9, 126, 100, 59, 26, 19, 1, 10, 126, 26, 5, 124, 19, 1, 10, 126, 96, 59]
abbrev dktJ9_bitCount_0 : List UInt8 := dkwJ9_bitCount_0 ++ dktJ9_bitCount_1
theorem dksJ9_bitCount_0 : cJ9_bitCount.data.toList.drop 0 = dktJ9_bitCount_0 := by decide +kernel
theorem dksJ9_bitCount_1 : cJ9_bitCount.data.toList.drop 24 = dktJ9_bitCount_1 := dk_seg dksJ9_bitCount_0 24 rfl rfl
theorem dksJ9_bitCount_2 : cJ9_bitCount.data.toList.drop 48 = dktJ9_bitCount_2 := dk_seg dksJ9_bitCount_1 24 rfl rfl
theorem dJ9_bitCount_0 : decode cJ9_bitCount 0 = .ok (.iload_n 0, 1) := dk_26 (dk_at dksJ9_bitCount_0 0 rfl rfl)
theorem dJ9_bitCount_1 : decode cJ9_bitCount 1 = .ok (.iload_n 0, 1) := dk_26 (dk_at dksJ9_bitCount_0 1 rfl rfl)
theorem dJ9_bitCount_2 : decode cJ9_bitCount 2 = .ok (.iconst 1, 1) := dk_4 (dk_at dksJ9_bitCount_0 2 rfl rfl)
theorem dJ9_bitCount_3 : decode cJ9_bitCount 3 = .ok (.iushr, 1) := dk_124 (dk_at dksJ9_bitCount_0 3 rfl rfl)
theorem dJ9_bitCount_4 : decode cJ9_bitCount 4 = .ok (.ldc_w 265, 3) := dk_19 1 9 (dk_at dksJ9_bitCount_0 4 rfl rfl)
theorem dJ9_bitCount_7 : decode cJ9_bitCount 7 = .ok (.iand, 1) := dk_126 (dk_at dksJ9_bitCount_0 7 rfl rfl)
theorem dJ9_bitCount_8 : decode cJ9_bitCount 8 = .ok (.isub, 1) := dk_100 (dk_at dksJ9_bitCount_0 8 rfl rfl)
theorem dJ9_bitCount_9 : decode cJ9_bitCount 9 = .ok (.istore_n 0, 1) := dk_59 (dk_at dksJ9_bitCount_0 9 rfl rfl)
theorem dJ9_bitCount_10 : decode cJ9_bitCount 10 = .ok (.iload_n 0, 1) := dk_26 (dk_at dksJ9_bitCount_0 10 rfl rfl)
theorem dJ9_bitCount_11 : decode cJ9_bitCount 11 = .ok (.ldc_w 266, 3) := dk_19 1 10 (dk_at dksJ9_bitCount_0 11 rfl rfl)
theorem dJ9_bitCount_14 : decode cJ9_bitCount 14 = .ok (.iand, 1) := dk_126 (dk_at dksJ9_bitCount_0 14 rfl rfl)
theorem dJ9_bitCount_15 : decode cJ9_bitCount 15 = .ok (.iload_n 0, 1) := dk_26 (dk_at dksJ9_bitCount_0 15 rfl rfl)
theorem dJ9_bitCount_16 : decode cJ9_bitCount 16 = .ok (.iconst 2, 1) := dk_5 (dk_at dksJ9_bitCount_0 16 rfl rfl)
theorem dJ9_bitCount_17 : decode cJ9_bitCount 17 = .ok (.iushr, 1) := dk_124 (dk_at dksJ9_bitCount_0 17 rfl rfl)
theorem dJ9_bitCount_18 : decode cJ9_bitCount 18 = .ok (.ldc_w 266, 3) := dk_19 1 10 (dk_at dksJ9_bitCount_0 18 rfl rfl)
theorem dJ9_bitCount_21 : decode cJ9_bitCount 21 = .ok (.iand, 1) := dk_126 (dk_at dksJ9_bitCount_0 21 rfl rfl)
theorem dJ9_bitCount_22 : decode cJ9_bitCount 22 = .ok (.iadd, 1) := dk_96 (dk_at dksJ9_bitCount_0 22 rfl rfl)
theorem dJ9_bitCount_23 : decode cJ9_bitCount 23 = .ok (.istore_n 0, 1) := dk_59 (dk_at dksJ9_bitCount_0 23 rfl rfl)
theorem dJ9_bitCount_24 : decode cJ9_bitCount 24 = .ok (.iload_n 0, 1) := dk_26 (dk_at dksJ9_bitCount_1 0 rfl rfl)
theorem dJ9_bitCount_25 : decode cJ9_bitCount 25 = .ok (.iload_n 0, 1) := dk_26 (dk_at dksJ9_bitCount_1 1 rfl rfl)
theorem dJ9_bitCount_26 : decode cJ9_bitCount 26 = .ok (.iconst 4, 1) := dk_7 (dk_at dksJ9_bitCount_1 2 rfl rfl)
theorem dJ9_bitCount_27 : decode cJ9_bitCount 27 = .ok (.iushr, 1) := dk_124 (dk_at dksJ9_bitCount_1 3 rfl rfl)
theorem dJ9_bitCount_28 : decode cJ9_bitCount 28 = .ok (.iadd, 1) := dk_96 (dk_at dksJ9_bitCount_1 4 rfl rfl)
theorem dJ9_bitCount_29 : decode cJ9_bitCount 29 = .ok (.ldc_w 267, 3) := dk_19 1 11 (dk_at dksJ9_bitCount_1 5 rfl rfl)
theorem dJ9_bitCount_32 : decode cJ9_bitCount 32 = .ok (.iand, 1) := dk_126 (dk_at dksJ9_bitCount_1 8 rfl rfl)
theorem dJ9_bitCount_33 : decode cJ9_bitCount 33 = .ok (.istore_n 0, 1) := dk_59 (dk_at dksJ9_bitCount_1 9 rfl rfl)
theorem dJ9_bitCount_34 : decode cJ9_bitCount 34 = .ok (.iload_n 0, 1) := dk_26 (dk_at dksJ9_bitCount_1 10 rfl rfl)
theorem dJ9_bitCount_35 : decode cJ9_bitCount 35 = .ok (.iload_n 0, 1) := dk_26 (dk_at dksJ9_bitCount_1 11 rfl rfl)
theorem dJ9_bitCount_36 : decode cJ9_bitCount 36 = .ok (.bipush 8, 2) := dk_16 8 (dk_at dksJ9_bitCount_1 12 rfl rfl)
theorem dJ9_bitCount_38 : decode cJ9_bitCount 38 = .ok (.iushr, 1) := dk_124 (dk_at dksJ9_bitCount_1 14 rfl rfl)
theorem dJ9_bitCount_39 : decode cJ9_bitCount 39 = .ok (.iadd, 1) := dk_96 (dk_at dksJ9_bitCount_1 15 rfl rfl)
theorem dJ9_bitCount_40 : decode cJ9_bitCount 40 = .ok (.istore_n 0, 1) := dk_59 (dk_at dksJ9_bitCount_1 16 rfl rfl)
theorem dJ9_bitCount_41 : decode cJ9_bitCount 41 = .ok (.iload_n 0, 1) := dk_26 (dk_at dksJ9_bitCount_1 17 rfl rfl)
theorem dJ9_bitCount_42 : decode cJ9_bitCount 42 = .ok (.iload_n 0, 1) := dk_26 (dk_at dksJ9_bitCount_1 18 rfl rfl)
theorem dJ9_bitCount_43 : decode cJ9_bitCount 43 = .ok (.bipush 16, 2) := dk_16 16 (dk_at dksJ9_bitCount_1 19 rfl rfl)
theorem dJ9_bitCount_45 : decode cJ9_bitCount 45 = .ok (.iushr, 1) := dk_124 (dk_at dksJ9_bitCount_1 21 rfl rfl)
theorem dJ9_bitCount_46 : decode cJ9_bitCount 46 = .ok (.iadd, 1) := dk_96 (dk_at dksJ9_bitCount_1 22 rfl rfl)
theorem dJ9_bitCount_47 : decode cJ9_bitCount 47 = .ok (.istore_n 0, 1) := dk_59 (dk_at dksJ9_bitCount_1 23 rfl rfl)
theorem dJ9_bitCount_48 : decode cJ9_bitCount 48 = .ok (.iload_n 0, 1) := dk_26 (dk_at dksJ9_bitCount_2 0 rfl rfl)
theorem dJ9_bitCount_49 : decode cJ9_bitCount 49 = .ok (.bipush 63, 2) := dk_16 63 (dk_at dksJ9_bitCount_2 1 rfl rfl)
theorem dJ9_bitCount_51 : decode cJ9_bitCount 51 = .ok (.iand, 1) := dk_126 (dk_at dksJ9_bitCount_2 3 rfl rfl)
theorem dJ9_bitCount_52 : decode cJ9_bitCount 52 = .ok (.ireturn, 1) := dk_172 (dk_at dksJ9_bitCount_2 4 rfl rfl)
abbrev cJ9_numberOfTrailingZeros : ByteArray := prog_26_method_48_code
def yJ9_numberOfTrailingZeros : MethodName := ⟨RJ9, "numberOfTrailingZeros", "(I)I"⟩
def dkwJ9_numberOfTrailingZeros_3 : List UInt8 := [5, 124, 59, 27, 26, 4, 124, 96, 172]
abbrev dktJ9_numberOfTrailingZeros_3 : List UInt8 := dkwJ9_numberOfTrailingZeros_3 ++ []
def dkwJ9_numberOfTrailingZeros_2 : List UInt8 := [124, 59, 26, 16, 16, 164, 0, 10, 132, 1, 4, 26, 7, 124, 59, 26, 7, 164, 0, 10, 132, 1, 2, 26]
abbrev dktJ9_numberOfTrailingZeros_2 : List UInt8 := dkwJ9_numberOfTrailingZeros_2 ++ dktJ9_numberOfTrailingZeros_3
def dkwJ9_numberOfTrailingZeros_1 : List UInt8 := [164, 0, 11, 132, 1, 16, 26, 16, 16, 124, 59, 26, 17, 1, 0, 164, 0, 11, 132, 1, 8, 26, 16, 8]
abbrev dktJ9_numberOfTrailingZeros_1 : List UInt8 := dkwJ9_numberOfTrailingZeros_1 ++ dktJ9_numberOfTrailingZeros_2
def dkwJ9_numberOfTrailingZeros_0 : List UInt8 := [26, 2, 130, 26, 4, 100, 126, 59, 26, 157, 0, 8, 26, 16, 32, 126, 172, 4, 60, 26, 19, 1, 8]
abbrev dktJ9_numberOfTrailingZeros_0 : List UInt8 := dkwJ9_numberOfTrailingZeros_0 ++ dktJ9_numberOfTrailingZeros_1
theorem dksJ9_numberOfTrailingZeros_0 : cJ9_numberOfTrailingZeros.data.toList.drop 0 = dktJ9_numberOfTrailingZeros_0 := by decide +kernel
theorem dksJ9_numberOfTrailingZeros_1 : cJ9_numberOfTrailingZeros.data.toList.drop 23 = dktJ9_numberOfTrailingZeros_1 := dk_seg dksJ9_numberOfTrailingZeros_0 23 rfl rfl
theorem dksJ9_numberOfTrailingZeros_2 : cJ9_numberOfTrailingZeros.data.toList.drop 47 = dktJ9_numberOfTrailingZeros_2 := dk_seg dksJ9_numberOfTrailingZeros_1 24 rfl rfl
theorem dksJ9_numberOfTrailingZeros_3 : cJ9_numberOfTrailingZeros.data.toList.drop 71 = dktJ9_numberOfTrailingZeros_3 := dk_seg dksJ9_numberOfTrailingZeros_2 24 rfl rfl
theorem dJ9_numberOfTrailingZeros_0 : decode cJ9_numberOfTrailingZeros 0 = .ok (.iload_n 0, 1) := dk_26 (dk_at dksJ9_numberOfTrailingZeros_0 0 rfl rfl)
theorem dJ9_numberOfTrailingZeros_1 : decode cJ9_numberOfTrailingZeros 1 = .ok (.iconst (-1), 1) := dk_2 (dk_at dksJ9_numberOfTrailingZeros_0 1 rfl rfl)
theorem dJ9_numberOfTrailingZeros_2 : decode cJ9_numberOfTrailingZeros 2 = .ok (.ixor, 1) := dk_130 (dk_at dksJ9_numberOfTrailingZeros_0 2 rfl rfl)
theorem dJ9_numberOfTrailingZeros_3 : decode cJ9_numberOfTrailingZeros 3 = .ok (.iload_n 0, 1) := dk_26 (dk_at dksJ9_numberOfTrailingZeros_0 3 rfl rfl)
theorem dJ9_numberOfTrailingZeros_4 : decode cJ9_numberOfTrailingZeros 4 = .ok (.iconst 1, 1) := dk_4 (dk_at dksJ9_numberOfTrailingZeros_0 4 rfl rfl)
theorem dJ9_numberOfTrailingZeros_5 : decode cJ9_numberOfTrailingZeros 5 = .ok (.isub, 1) := dk_100 (dk_at dksJ9_numberOfTrailingZeros_0 5 rfl rfl)
theorem dJ9_numberOfTrailingZeros_6 : decode cJ9_numberOfTrailingZeros 6 = .ok (.iand, 1) := dk_126 (dk_at dksJ9_numberOfTrailingZeros_0 6 rfl rfl)
theorem dJ9_numberOfTrailingZeros_7 : decode cJ9_numberOfTrailingZeros 7 = .ok (.istore_n 0, 1) := dk_59 (dk_at dksJ9_numberOfTrailingZeros_0 7 rfl rfl)
theorem dJ9_numberOfTrailingZeros_8 : decode cJ9_numberOfTrailingZeros 8 = .ok (.iload_n 0, 1) := dk_26 (dk_at dksJ9_numberOfTrailingZeros_0 8 rfl rfl)
theorem dJ9_numberOfTrailingZeros_9 : decode cJ9_numberOfTrailingZeros 9 = .ok (.ifCond .gt 8, 3) := dk_157 0 8 (dk_at dksJ9_numberOfTrailingZeros_0 9 rfl rfl)
theorem dJ9_numberOfTrailingZeros_12 : decode cJ9_numberOfTrailingZeros 12 = .ok (.iload_n 0, 1) := dk_26 (dk_at dksJ9_numberOfTrailingZeros_0 12 rfl rfl)
theorem dJ9_numberOfTrailingZeros_13 : decode cJ9_numberOfTrailingZeros 13 = .ok (.bipush 32, 2) := dk_16 32 (dk_at dksJ9_numberOfTrailingZeros_0 13 rfl rfl)
theorem dJ9_numberOfTrailingZeros_15 : decode cJ9_numberOfTrailingZeros 15 = .ok (.iand, 1) := dk_126 (dk_at dksJ9_numberOfTrailingZeros_0 15 rfl rfl)
theorem dJ9_numberOfTrailingZeros_16 : decode cJ9_numberOfTrailingZeros 16 = .ok (.ireturn, 1) := dk_172 (dk_at dksJ9_numberOfTrailingZeros_0 16 rfl rfl)
theorem dJ9_numberOfTrailingZeros_17 : decode cJ9_numberOfTrailingZeros 17 = .ok (.iconst 1, 1) := dk_4 (dk_at dksJ9_numberOfTrailingZeros_0 17 rfl rfl)
theorem dJ9_numberOfTrailingZeros_18 : decode cJ9_numberOfTrailingZeros 18 = .ok (.istore_n 1, 1) := dk_60 (dk_at dksJ9_numberOfTrailingZeros_0 18 rfl rfl)
theorem dJ9_numberOfTrailingZeros_19 : decode cJ9_numberOfTrailingZeros 19 = .ok (.iload_n 0, 1) := dk_26 (dk_at dksJ9_numberOfTrailingZeros_0 19 rfl rfl)
theorem dJ9_numberOfTrailingZeros_20 : decode cJ9_numberOfTrailingZeros 20 = .ok (.ldc_w 264, 3) := dk_19 1 8 (dk_at dksJ9_numberOfTrailingZeros_0 20 rfl rfl)
theorem dJ9_numberOfTrailingZeros_23 : decode cJ9_numberOfTrailingZeros 23 = .ok (.if_icmp .le 11, 3) := dk_164 0 11 (dk_at dksJ9_numberOfTrailingZeros_1 0 rfl rfl)
theorem dJ9_numberOfTrailingZeros_26 : decode cJ9_numberOfTrailingZeros 26 = .ok (.iinc 1 16, 3) := dk_132 1 16 (dk_at dksJ9_numberOfTrailingZeros_1 3 rfl rfl)
theorem dJ9_numberOfTrailingZeros_29 : decode cJ9_numberOfTrailingZeros 29 = .ok (.iload_n 0, 1) := dk_26 (dk_at dksJ9_numberOfTrailingZeros_1 6 rfl rfl)
theorem dJ9_numberOfTrailingZeros_30 : decode cJ9_numberOfTrailingZeros 30 = .ok (.bipush 16, 2) := dk_16 16 (dk_at dksJ9_numberOfTrailingZeros_1 7 rfl rfl)
theorem dJ9_numberOfTrailingZeros_32 : decode cJ9_numberOfTrailingZeros 32 = .ok (.iushr, 1) := dk_124 (dk_at dksJ9_numberOfTrailingZeros_1 9 rfl rfl)
theorem dJ9_numberOfTrailingZeros_33 : decode cJ9_numberOfTrailingZeros 33 = .ok (.istore_n 0, 1) := dk_59 (dk_at dksJ9_numberOfTrailingZeros_1 10 rfl rfl)
theorem dJ9_numberOfTrailingZeros_34 : decode cJ9_numberOfTrailingZeros 34 = .ok (.iload_n 0, 1) := dk_26 (dk_at dksJ9_numberOfTrailingZeros_1 11 rfl rfl)
theorem dJ9_numberOfTrailingZeros_35 : decode cJ9_numberOfTrailingZeros 35 = .ok (.sipush 256, 3) := dk_17 1 0 (dk_at dksJ9_numberOfTrailingZeros_1 12 rfl rfl)
theorem dJ9_numberOfTrailingZeros_38 : decode cJ9_numberOfTrailingZeros 38 = .ok (.if_icmp .le 11, 3) := dk_164 0 11 (dk_at dksJ9_numberOfTrailingZeros_1 15 rfl rfl)
theorem dJ9_numberOfTrailingZeros_41 : decode cJ9_numberOfTrailingZeros 41 = .ok (.iinc 1 8, 3) := dk_132 1 8 (dk_at dksJ9_numberOfTrailingZeros_1 18 rfl rfl)
theorem dJ9_numberOfTrailingZeros_44 : decode cJ9_numberOfTrailingZeros 44 = .ok (.iload_n 0, 1) := dk_26 (dk_at dksJ9_numberOfTrailingZeros_1 21 rfl rfl)
theorem dJ9_numberOfTrailingZeros_45 : decode cJ9_numberOfTrailingZeros 45 = .ok (.bipush 8, 2) := dk_16 8 (dk_at dksJ9_numberOfTrailingZeros_1 22 rfl rfl)
theorem dJ9_numberOfTrailingZeros_47 : decode cJ9_numberOfTrailingZeros 47 = .ok (.iushr, 1) := dk_124 (dk_at dksJ9_numberOfTrailingZeros_2 0 rfl rfl)
theorem dJ9_numberOfTrailingZeros_48 : decode cJ9_numberOfTrailingZeros 48 = .ok (.istore_n 0, 1) := dk_59 (dk_at dksJ9_numberOfTrailingZeros_2 1 rfl rfl)
theorem dJ9_numberOfTrailingZeros_49 : decode cJ9_numberOfTrailingZeros 49 = .ok (.iload_n 0, 1) := dk_26 (dk_at dksJ9_numberOfTrailingZeros_2 2 rfl rfl)
theorem dJ9_numberOfTrailingZeros_50 : decode cJ9_numberOfTrailingZeros 50 = .ok (.bipush 16, 2) := dk_16 16 (dk_at dksJ9_numberOfTrailingZeros_2 3 rfl rfl)
theorem dJ9_numberOfTrailingZeros_52 : decode cJ9_numberOfTrailingZeros 52 = .ok (.if_icmp .le 10, 3) := dk_164 0 10 (dk_at dksJ9_numberOfTrailingZeros_2 5 rfl rfl)
theorem dJ9_numberOfTrailingZeros_55 : decode cJ9_numberOfTrailingZeros 55 = .ok (.iinc 1 4, 3) := dk_132 1 4 (dk_at dksJ9_numberOfTrailingZeros_2 8 rfl rfl)
theorem dJ9_numberOfTrailingZeros_58 : decode cJ9_numberOfTrailingZeros 58 = .ok (.iload_n 0, 1) := dk_26 (dk_at dksJ9_numberOfTrailingZeros_2 11 rfl rfl)
theorem dJ9_numberOfTrailingZeros_59 : decode cJ9_numberOfTrailingZeros 59 = .ok (.iconst 4, 1) := dk_7 (dk_at dksJ9_numberOfTrailingZeros_2 12 rfl rfl)
theorem dJ9_numberOfTrailingZeros_60 : decode cJ9_numberOfTrailingZeros 60 = .ok (.iushr, 1) := dk_124 (dk_at dksJ9_numberOfTrailingZeros_2 13 rfl rfl)
theorem dJ9_numberOfTrailingZeros_61 : decode cJ9_numberOfTrailingZeros 61 = .ok (.istore_n 0, 1) := dk_59 (dk_at dksJ9_numberOfTrailingZeros_2 14 rfl rfl)
theorem dJ9_numberOfTrailingZeros_62 : decode cJ9_numberOfTrailingZeros 62 = .ok (.iload_n 0, 1) := dk_26 (dk_at dksJ9_numberOfTrailingZeros_2 15 rfl rfl)
theorem dJ9_numberOfTrailingZeros_63 : decode cJ9_numberOfTrailingZeros 63 = .ok (.iconst 4, 1) := dk_7 (dk_at dksJ9_numberOfTrailingZeros_2 16 rfl rfl)
theorem dJ9_numberOfTrailingZeros_64 : decode cJ9_numberOfTrailingZeros 64 = .ok (.if_icmp .le 10, 3) := dk_164 0 10 (dk_at dksJ9_numberOfTrailingZeros_2 17 rfl rfl)
theorem dJ9_numberOfTrailingZeros_67 : decode cJ9_numberOfTrailingZeros 67 = .ok (.iinc 1 2, 3) := dk_132 1 2 (dk_at dksJ9_numberOfTrailingZeros_2 20 rfl rfl)
theorem dJ9_numberOfTrailingZeros_70 : decode cJ9_numberOfTrailingZeros 70 = .ok (.iload_n 0, 1) := dk_26 (dk_at dksJ9_numberOfTrailingZeros_2 23 rfl rfl)
theorem dJ9_numberOfTrailingZeros_71 : decode cJ9_numberOfTrailingZeros 71 = .ok (.iconst 2, 1) := dk_5 (dk_at dksJ9_numberOfTrailingZeros_3 0 rfl rfl)
theorem dJ9_numberOfTrailingZeros_72 : decode cJ9_numberOfTrailingZeros 72 = .ok (.iushr, 1) := dk_124 (dk_at dksJ9_numberOfTrailingZeros_3 1 rfl rfl)
theorem dJ9_numberOfTrailingZeros_73 : decode cJ9_numberOfTrailingZeros 73 = .ok (.istore_n 0, 1) := dk_59 (dk_at dksJ9_numberOfTrailingZeros_3 2 rfl rfl)
theorem dJ9_numberOfTrailingZeros_74 : decode cJ9_numberOfTrailingZeros 74 = .ok (.iload_n 1, 1) := dk_27 (dk_at dksJ9_numberOfTrailingZeros_3 3 rfl rfl)
theorem dJ9_numberOfTrailingZeros_75 : decode cJ9_numberOfTrailingZeros 75 = .ok (.iload_n 0, 1) := dk_26 (dk_at dksJ9_numberOfTrailingZeros_3 4 rfl rfl)
theorem dJ9_numberOfTrailingZeros_76 : decode cJ9_numberOfTrailingZeros 76 = .ok (.iconst 1, 1) := dk_4 (dk_at dksJ9_numberOfTrailingZeros_3 5 rfl rfl)
theorem dJ9_numberOfTrailingZeros_77 : decode cJ9_numberOfTrailingZeros 77 = .ok (.iushr, 1) := dk_124 (dk_at dksJ9_numberOfTrailingZeros_3 6 rfl rfl)
theorem dJ9_numberOfTrailingZeros_78 : decode cJ9_numberOfTrailingZeros 78 = .ok (.iadd, 1) := dk_96 (dk_at dksJ9_numberOfTrailingZeros_3 7 rfl rfl)
theorem dJ9_numberOfTrailingZeros_79 : decode cJ9_numberOfTrailingZeros 79 = .ok (.ireturn, 1) := dk_172 (dk_at dksJ9_numberOfTrailingZeros_3 8 rfl rfl)
theorem q96 : (Jvm.Cond.initialized "java/lang/Integer") ∈ lw_all := lw_g (lw_at lw_m1 22 rfl) rfl
theorem q644 : (Jvm.Cond.static ({ cls := "java/lang/Integer", name := "bitCount", desc := "(I)I" } : Jvm.MethodName)) ∈ lw_all := lw_g (lw_at lw_m3 90 rfl) rfl
theorem q645 : (Jvm.Cond.code ({ cls := "java/lang/Integer", name := "bitCount", desc := "(I)I" } : Jvm.MethodName) prog_26_method_49_code (1 : Nat) (Option.some Jvm.ClassFile.FieldType.int)) ∈ lw_all := lw_g (lw_at lw_m3 91 rfl) rfl
theorem q646 : (Jvm.Cond.constant "java/lang/Integer" (265 : Nat) (1431655765 : Int32)) ∈ lw_all := lw_g (lw_at lw_m3 92 rfl) rfl
theorem q647 : (Jvm.Cond.constant "java/lang/Integer" (266 : Nat) (858993459 : Int32)) ∈ lw_all := lw_g (lw_at lw_m3 93 rfl) rfl
theorem q648 : (Jvm.Cond.constant "java/lang/Integer" (267 : Nat) (252645135 : Int32)) ∈ lw_all := lw_g (lw_at lw_m3 94 rfl) rfl
theorem q1078 : (Jvm.Cond.static ({ cls := "java/lang/Integer", name := "numberOfTrailingZeros", desc := "(I)I" } : Jvm.MethodName)) ∈ lw_all := lw_g (lw_at lw_m5 44 rfl) rfl
theorem q1079 : (Jvm.Cond.code ({ cls := "java/lang/Integer", name := "numberOfTrailingZeros", desc := "(I)I" } : Jvm.MethodName) prog_26_method_48_code (2 : Nat) (Option.some Jvm.ClassFile.FieldType.int)) ∈ lw_all := lw_g (lw_at lw_m5 45 rfl) rfl
theorem q1080 : (Jvm.Cond.constant "java/lang/Integer" (264 : Nat) (65536 : Int32)) ∈ lw_all := lw_g (lw_at lw_m5 46 rfl) rfl

theorem q74 : (Jvm.Cond.initialized "SeenByOneLaw") ∈ lw_all := lw_g (lw_at lw_m1 0 rfl) rfl
set_option maxRecDepth 100000
theorem q109 : (Jvm.Cond.classLink "SeenByOneLaw" (7 : Nat) "SeenByOne") ∈ lw_all := lw_g (lw_at lw_m1 35 rfl) rfl
theorem q111 : (Jvm.Cond.methodLink "SeenByOneLaw" (9 : Nat) ({ cls := "SeenByOne", name := "<init>", desc := "()V" } : Jvm.MethodName)) ∈ lw_all := lw_g (lw_at lw_m1 37 rfl) rfl
theorem q218 : (Jvm.Cond.methodLink "SeenByOneLaw" (13 : Nat) ({ cls := "SeenByOne", name := "row", desc := "(III)I" } : Jvm.MethodName)) ∈ lw_all := lw_g (lw_at lw_m1 144 rfl) rfl
theorem q401 : (Jvm.Cond.methodLink "SeenByOneLaw" (20 : Nat) ({ cls := "SeenByOne", name := "set", desc := "(IIJ)I" } : Jvm.MethodName)) ∈ lw_all := lw_g (lw_at lw_m2 87 rfl) rfl
theorem q442 : (Jvm.Cond.methodLink "SeenByOneLaw" (25 : Nat) ({ cls := "SeenByOne", name := "copy", desc := "(IIIII)I" } : Jvm.MethodName)) ∈ lw_all := lw_g (lw_at lw_m2 128 rfl) rfl
theorem q485 : (Jvm.Cond.methodLink "SeenByOneLaw" (30 : Nat) ({ cls := "SeenByOne", name := "element", desc := "(II)J" } : Jvm.MethodName)) ∈ lw_all := lw_g (lw_at lw_m2 171 rfl) rfl
theorem q504 : (Jvm.Cond.methodLink "SeenByOneLaw" (35 : Nat) ({ cls := "SeenByOne", name := "show", desc := "(II)I" } : Jvm.MethodName)) ∈ lw_all := lw_g (lw_at lw_m2 190 rfl) rfl
theorem q517 : (Jvm.Cond.methodLink "SeenByOneLaw" (40 : Nat) ({ cls := "SeenByOne", name := "holds", desc := "(I)I" } : Jvm.MethodName)) ∈ lw_all := lw_g (lw_at lw_m2 203 rfl) rfl
theorem q523 : (Jvm.Cond.methodLink "SeenByOneLaw" (45 : Nat) ({ cls := "SeenByOne", name := "says", desc := "(II)I" } : Jvm.MethodName)) ∈ lw_all := lw_g (lw_at lw_m2 209 rfl) rfl
theorem q689 : (Jvm.Cond.methodLink "SeenByOneLaw" (49 : Nat) ({ cls := "SeenByOne", name := "thing", desc := "(IIIII)I" } : Jvm.MethodName)) ∈ lw_all := lw_g (lw_at lw_m3 135 rfl) rfl
theorem q810 : (Jvm.Cond.methodLink "SeenByOneLaw" (53 : Nat) ({ cls := "SeenByOne", name := "thingOf", desc := "(II)I" } : Jvm.MethodName)) ∈ lw_all := lw_g (lw_at lw_m4 16 rfl) rfl
theorem q842 : (Jvm.Cond.methodLink "SeenByOneLaw" (57 : Nat) ({ cls := "SeenByOne", name := "height", desc := "(II)I" } : Jvm.MethodName)) ∈ lw_all := lw_g (lw_at lw_m4 48 rfl) rfl
theorem q846 : (Jvm.Cond.methodLink "SeenByOneLaw" (61 : Nat) ({ cls := "SeenByOne", name := "ask", desc := "(II)I" } : Jvm.MethodName)) ∈ lw_all := lw_g (lw_at lw_m4 52 rfl) rfl
theorem q850 : (Jvm.Cond.methodLink "SeenByOneLaw" (65 : Nat) ({ cls := "SeenByOne", name := "shut", desc := "(IIZ)I" } : Jvm.MethodName)) ∈ lw_all := lw_g (lw_at lw_m4 56 rfl) rfl
theorem q859 : (Jvm.Cond.methodLink "SeenByOneLaw" (70 : Nat) ({ cls := "SeenByOne", name := "draw", desc := "(IZ)I" } : Jvm.MethodName)) ∈ lw_all := lw_g (lw_at lw_m4 65 rfl) rfl
theorem q867 : (Jvm.Cond.methodLink "SeenByOneLaw" (75 : Nat) ({ cls := "SeenByOne", name := "ground", desc := "(I)I" } : Jvm.MethodName)) ∈ lw_all := lw_g (lw_at lw_m4 73 rfl) rfl
theorem q1040 : (Jvm.Cond.methodLink "SeenByOneLaw" (79 : Nat) ({ cls := "SeenByOne", name := "fault", desc := "()I" } : Jvm.MethodName)) ∈ lw_all := lw_g (lw_at lw_m5 6 rfl) rfl
theorem q1044 : (Jvm.Cond.methodLink "SeenByOneLaw" (84 : Nat) ({ cls := "SeenByOne", name := "sees", desc := "(III)I" } : Jvm.MethodName)) ∈ lw_all := lw_g (lw_at lw_m5 10 rfl) rfl
theorem q1050 : (Jvm.Cond.methodLink "SeenByOneLaw" (88 : Nat) ({ cls := "SeenByOne", name := "bars", desc := "(II)I" } : Jvm.MethodName)) ∈ lw_all := lw_g (lw_at lw_m5 16 rfl) rfl
theorem q1055 : (Jvm.Cond.methodLink "SeenByOneLaw" (92 : Nat) ({ cls := "SeenByOne", name := "seers", desc := "(I)I" } : Jvm.MethodName)) ∈ lw_all := lw_g (lw_at lw_m5 21 rfl) rfl
theorem q1060 : (Jvm.Cond.methodLink "SeenByOneLaw" (96 : Nat) ({ cls := "SeenByOne", name := "right", desc := "()I" } : Jvm.MethodName)) ∈ lw_all := lw_g (lw_at lw_m5 26 rfl) rfl
theorem q1069 : (Jvm.Cond.methodLink "SeenByOneLaw" (100 : Nat) ({ cls := "SeenByOne", name := "first", desc := "()I" } : Jvm.MethodName)) ∈ lw_all := lw_g (lw_at lw_m5 35 rfl) rfl
theorem q1081 : (Jvm.Cond.methodLink "SeenByOneLaw" (104 : Nat) ({ cls := "SeenByOne", name := "cost", desc := "(II)I" } : Jvm.MethodName)) ∈ lw_all := lw_g (lw_at lw_m5 47 rfl) rfl
theorem q1089 : (Jvm.Cond.methodLink "SeenByOneLaw" (108 : Nat) ({ cls := "SeenByOne", name := "cheapest", desc := "(I)I" } : Jvm.MethodName)) ∈ lw_all := lw_g (lw_at lw_m5 55 rfl) rfl
theorem q1112 : (Jvm.Cond.methodLink "SeenByOneLaw" (112 : Nat) ({ cls := "SeenByOne", name := "keeps", desc := "(I)I" } : Jvm.MethodName)) ∈ lw_all := lw_g (lw_at lw_m5 78 rfl) rfl
theorem q1117 : (Jvm.Cond.methodLink "SeenByOneLaw" (156 : Nat) ({ cls := "SeenByOne", name := "shuts", desc := "()I" } : Jvm.MethodName)) ∈ lw_all := lw_g (lw_at lw_m5 83 rfl) rfl
theorem q1122 : (Jvm.Cond.methodLink "SeenByOneLaw" (160 : Nat) ({ cls := "SeenByOne", name := "opens", desc := "()I" } : Jvm.MethodName)) ∈ lw_all := lw_g (lw_at lw_m5 88 rfl) rfl
theorem q1130 : (Jvm.Cond.methodLink "SeenByOneLaw" (116 : Nat) ({ cls := "SeenByOne", name := "curtains", desc := "(I)I" } : Jvm.MethodName)) ∈ lw_all := lw_g (lw_at lw_m5 96 rfl) rfl
theorem q1147 : (Jvm.Cond.methodLink "SeenByOneLaw" (120 : Nat) ({ cls := "SeenByOne", name := "newly", desc := "(I)I" } : Jvm.MethodName)) ∈ lw_all := lw_g (lw_at lw_m5 113 rfl) rfl
theorem q1156 : (Jvm.Cond.methodLink "SeenByOneLaw" (124 : Nat) ({ cls := "SeenByOne", name := "storey", desc := "(I)I" } : Jvm.MethodName)) ∈ lw_all := lw_g (lw_at lw_m5 122 rfl) rfl
theorem q1164 : (Jvm.Cond.methodLink "SeenByOneLaw" (128 : Nat) ({ cls := "SeenByOne", name := "blinded", desc := "(I)I" } : Jvm.MethodName)) ∈ lw_all := lw_g (lw_at lw_m5 130 rfl) rfl
theorem q1169 : (Jvm.Cond.methodLink "SeenByOneLaw" (132 : Nat) ({ cls := "SeenByOne", name := "felled", desc := "(I)I" } : Jvm.MethodName)) ∈ lw_all := lw_g (lw_at lw_m5 135 rfl) rfl
theorem q1173 : (Jvm.Cond.methodLink "SeenByOneLaw" (136 : Nat) ({ cls := "SeenByOne", name := "pairs", desc := "()I" } : Jvm.MethodName)) ∈ lw_all := lw_g (lw_at lw_m5 139 rfl) rfl
theorem q1177 : (Jvm.Cond.methodLink "SeenByOneLaw" (140 : Nat) ({ cls := "SeenByOne", name := "back", desc := "(I)I" } : Jvm.MethodName)) ∈ lw_all := lw_g (lw_at lw_m5 143 rfl) rfl
theorem q1181 : (Jvm.Cond.methodLink "SeenByOneLaw" (144 : Nat) ({ cls := "SeenByOne", name := "most", desc := "()I" } : Jvm.MethodName)) ∈ lw_all := lw_g (lw_at lw_m5 147 rfl) rfl
theorem q1185 : (Jvm.Cond.methodLink "SeenByOneLaw" (148 : Nat) ({ cls := "SeenByOne", name := "list", desc := "(II)I" } : Jvm.MethodName)) ∈ lw_all := lw_g (lw_at lw_m5 151 rfl) rfl
theorem q1198 : (Jvm.Cond.methodLink "SeenByOneLaw" (152 : Nat) ({ cls := "SeenByOne", name := "night", desc := "(I)I" } : Jvm.MethodName)) ∈ lw_all := lw_g (lw_at lw_m5 164 rfl) rfl
theorem q1202 : (Jvm.Cond.methodLink "SeenByOneLaw" (164 : Nat) ({ cls := "SeenByOne", name := "years", desc := "(I)I" } : Jvm.MethodName)) ∈ lw_all := lw_g (lw_at lw_m5 168 rfl) rfl
theorem q1234 : (Jvm.Cond.methodLink "SeenByOneLaw" (168 : Nat) ({ cls := "SeenByOne", name := "seed", desc := "(I)I" } : Jvm.MethodName)) ∈ lw_all := lw_g (lw_at lw_m5 200 rfl) rfl
theorem q1238 : (Jvm.Cond.methodLink "SeenByOneLaw" (172 : Nat) ({ cls := "SeenByOne", name := "act", desc := "(III)I" } : Jvm.MethodName)) ∈ lw_all := lw_g (lw_at lw_m5 204 rfl) rfl
theorem q1317 : (Jvm.Cond.methodLink "SeenByOneLaw" (176 : Nat) ({ cls := "SeenByOne", name := "trace", desc := "(I)I" } : Jvm.MethodName)) ∈ lw_all := lw_g (lw_at lw_m6 43 rfl) rfl
theorem q1322 : (Jvm.Cond.methodLink "SeenByOneLaw" (180 : Nat) ({ cls := "SeenByOne", name := "image", desc := "()I" } : Jvm.MethodName)) ∈ lw_all := lw_g (lw_at lw_m6 48 rfl) rfl
theorem q1326 : (Jvm.Cond.methodLink "SeenByOneLaw" (184 : Nat) ({ cls := "SeenByOne", name := "restore", desc := "()I" } : Jvm.MethodName)) ∈ lw_all := lw_g (lw_at lw_m6 52 rfl) rfl
theorem q1334 : (Jvm.Cond.methodLink "SeenByOneLaw" (188 : Nat) ({ cls := "SeenByOne", name := "status", desc := "(I)I" } : Jvm.MethodName)) ∈ lw_all := lw_g (lw_at lw_m6 60 rfl) rfl
theorem q1340 : (Jvm.Cond.classLink "SeenByOneLaw" (10 : Nat) "SeenByOneModel") ∈ lw_all := lw_g (lw_at lw_m6 66 rfl) rfl
theorem q1342 : (Jvm.Cond.methodLink "SeenByOneLaw" (12 : Nat) ({ cls := "SeenByOneModel", name := "<init>", desc := "()V" } : Jvm.MethodName)) ∈ lw_all := lw_g (lw_at lw_m6 68 rfl) rfl
theorem q1461 : (Jvm.Cond.methodLink "SeenByOneLaw" (17 : Nat) ({ cls := "SeenByOneModel", name := "row", desc := "(III)I" } : Jvm.MethodName)) ∈ lw_all := lw_g (lw_at lw_m6 187 rfl) rfl
theorem q1473 : (Jvm.Cond.methodLink "SeenByOneLaw" (24 : Nat) ({ cls := "SeenByOneModel", name := "set", desc := "(IIJ)I" } : Jvm.MethodName)) ∈ lw_all := lw_g (lw_at lw_m6 199 rfl) rfl
theorem q1477 : (Jvm.Cond.methodLink "SeenByOneLaw" (29 : Nat) ({ cls := "SeenByOneModel", name := "copy", desc := "(IIIII)I" } : Jvm.MethodName)) ∈ lw_all := lw_g (lw_at lw_m6 203 rfl) rfl
theorem q1481 : (Jvm.Cond.methodLink "SeenByOneLaw" (34 : Nat) ({ cls := "SeenByOneModel", name := "element", desc := "(II)J" } : Jvm.MethodName)) ∈ lw_all := lw_g (lw_at lw_m6 207 rfl) rfl
theorem q1485 : (Jvm.Cond.methodLink "SeenByOneLaw" (39 : Nat) ({ cls := "SeenByOneModel", name := "show", desc := "(II)I" } : Jvm.MethodName)) ∈ lw_all := lw_g (lw_at lw_m6 211 rfl) rfl
theorem q1493 : (Jvm.Cond.methodLink "SeenByOneLaw" (44 : Nat) ({ cls := "SeenByOneModel", name := "holds", desc := "(I)I" } : Jvm.MethodName)) ∈ lw_all := lw_g (lw_at lw_m6 219 rfl) rfl
theorem q1497 : (Jvm.Cond.methodLink "SeenByOneLaw" (48 : Nat) ({ cls := "SeenByOneModel", name := "says", desc := "(II)I" } : Jvm.MethodName)) ∈ lw_all := lw_g (lw_at lw_m6 223 rfl) rfl
theorem q1557 : (Jvm.Cond.methodLink "SeenByOneLaw" (52 : Nat) ({ cls := "SeenByOneModel", name := "thing", desc := "(IIIII)I" } : Jvm.MethodName)) ∈ lw_all := lw_g (lw_at lw_m7 43 rfl) rfl
theorem q1565 : (Jvm.Cond.methodLink "SeenByOneLaw" (56 : Nat) ({ cls := "SeenByOneModel", name := "thingOf", desc := "(II)I" } : Jvm.MethodName)) ∈ lw_all := lw_g (lw_at lw_m7 51 rfl) rfl
theorem q1569 : (Jvm.Cond.methodLink "SeenByOneLaw" (60 : Nat) ({ cls := "SeenByOneModel", name := "height", desc := "(II)I" } : Jvm.MethodName)) ∈ lw_all := lw_g (lw_at lw_m7 55 rfl) rfl
theorem q1573 : (Jvm.Cond.methodLink "SeenByOneLaw" (64 : Nat) ({ cls := "SeenByOneModel", name := "ask", desc := "(II)I" } : Jvm.MethodName)) ∈ lw_all := lw_g (lw_at lw_m7 59 rfl) rfl
theorem q1577 : (Jvm.Cond.methodLink "SeenByOneLaw" (69 : Nat) ({ cls := "SeenByOneModel", name := "shut", desc := "(IIZ)I" } : Jvm.MethodName)) ∈ lw_all := lw_g (lw_at lw_m7 63 rfl) rfl
theorem q1585 : (Jvm.Cond.methodLink "SeenByOneLaw" (74 : Nat) ({ cls := "SeenByOneModel", name := "draw", desc := "(IZ)I" } : Jvm.MethodName)) ∈ lw_all := lw_g (lw_at lw_m7 71 rfl) rfl
theorem q1593 : (Jvm.Cond.methodLink "SeenByOneLaw" (78 : Nat) ({ cls := "SeenByOneModel", name := "ground", desc := "(I)I" } : Jvm.MethodName)) ∈ lw_all := lw_g (lw_at lw_m7 79 rfl) rfl
theorem q1641 : (Jvm.Cond.methodLink "SeenByOneLaw" (83 : Nat) ({ cls := "SeenByOneModel", name := "fault", desc := "()I" } : Jvm.MethodName)) ∈ lw_all := lw_g (lw_at lw_m7 127 rfl) rfl
theorem q1645 : (Jvm.Cond.methodLink "SeenByOneLaw" (87 : Nat) ({ cls := "SeenByOneModel", name := "sees", desc := "(III)I" } : Jvm.MethodName)) ∈ lw_all := lw_g (lw_at lw_m7 131 rfl) rfl
theorem q1649 : (Jvm.Cond.methodLink "SeenByOneLaw" (91 : Nat) ({ cls := "SeenByOneModel", name := "bars", desc := "(II)I" } : Jvm.MethodName)) ∈ lw_all := lw_g (lw_at lw_m7 135 rfl) rfl
theorem q1657 : (Jvm.Cond.methodLink "SeenByOneLaw" (95 : Nat) ({ cls := "SeenByOneModel", name := "seers", desc := "(I)I" } : Jvm.MethodName)) ∈ lw_all := lw_g (lw_at lw_m7 143 rfl) rfl
theorem q1661 : (Jvm.Cond.methodLink "SeenByOneLaw" (99 : Nat) ({ cls := "SeenByOneModel", name := "right", desc := "()I" } : Jvm.MethodName)) ∈ lw_all := lw_g (lw_at lw_m7 147 rfl) rfl
theorem q1669 : (Jvm.Cond.methodLink "SeenByOneLaw" (103 : Nat) ({ cls := "SeenByOneModel", name := "first", desc := "()I" } : Jvm.MethodName)) ∈ lw_all := lw_g (lw_at lw_m7 155 rfl) rfl
theorem q1673 : (Jvm.Cond.methodLink "SeenByOneLaw" (107 : Nat) ({ cls := "SeenByOneModel", name := "cost", desc := "(II)I" } : Jvm.MethodName)) ∈ lw_all := lw_g (lw_at lw_m7 159 rfl) rfl
theorem q1681 : (Jvm.Cond.methodLink "SeenByOneLaw" (115 : Nat) ({ cls := "SeenByOneModel", name := "keeps", desc := "(I)I" } : Jvm.MethodName)) ∈ lw_all := lw_g (lw_at lw_m7 167 rfl) rfl
theorem q1689 : (Jvm.Cond.methodLink "SeenByOneLaw" (111 : Nat) ({ cls := "SeenByOneModel", name := "cheapest", desc := "(I)I" } : Jvm.MethodName)) ∈ lw_all := lw_g (lw_at lw_m7 175 rfl) rfl
theorem q1697 : (Jvm.Cond.methodLink "SeenByOneLaw" (119 : Nat) ({ cls := "SeenByOneModel", name := "curtains", desc := "(I)I" } : Jvm.MethodName)) ∈ lw_all := lw_g (lw_at lw_m7 183 rfl) rfl
theorem q1717 : (Jvm.Cond.methodLink "SeenByOneLaw" (123 : Nat) ({ cls := "SeenByOneModel", name := "newly", desc := "(I)I" } : Jvm.MethodName)) ∈ lw_all := lw_g (lw_at lw_m7 203 rfl) rfl
theorem q1721 : (Jvm.Cond.methodLink "SeenByOneLaw" (127 : Nat) ({ cls := "SeenByOneModel", name := "storey", desc := "(I)I" } : Jvm.MethodName)) ∈ lw_all := lw_g (lw_at lw_m7 207 rfl) rfl
theorem q1729 : (Jvm.Cond.methodLink "SeenByOneLaw" (131 : Nat) ({ cls := "SeenByOneModel", name := "blinded", desc := "(I)I" } : Jvm.MethodName)) ∈ lw_all := lw_g (lw_at lw_m7 215 rfl) rfl
theorem q1733 : (Jvm.Cond.methodLink "SeenByOneLaw" (135 : Nat) ({ cls := "SeenByOneModel", name := "felled", desc := "(I)I" } : Jvm.MethodName)) ∈ lw_all := lw_g (lw_at lw_m7 219 rfl) rfl
theorem q1737 : (Jvm.Cond.methodLink "SeenByOneLaw" (139 : Nat) ({ cls := "SeenByOneModel", name := "pairs", desc := "()I" } : Jvm.MethodName)) ∈ lw_all := lw_g (lw_at lw_m7 223 rfl) rfl
theorem q1741 : (Jvm.Cond.methodLink "SeenByOneLaw" (143 : Nat) ({ cls := "SeenByOneModel", name := "back", desc := "(I)I" } : Jvm.MethodName)) ∈ lw_all := lw_g (lw_at lw_m7 227 rfl) rfl
theorem q1749 : (Jvm.Cond.methodLink "SeenByOneLaw" (147 : Nat) ({ cls := "SeenByOneModel", name := "most", desc := "()I" } : Jvm.MethodName)) ∈ lw_all := lw_g (lw_at lw_m7 235 rfl) rfl
theorem q1753 : (Jvm.Cond.methodLink "SeenByOneLaw" (151 : Nat) ({ cls := "SeenByOneModel", name := "list", desc := "(II)I" } : Jvm.MethodName)) ∈ lw_all := lw_g (lw_at lw_m7 239 rfl) rfl
theorem q1765 : (Jvm.Cond.methodLink "SeenByOneLaw" (155 : Nat) ({ cls := "SeenByOneModel", name := "night", desc := "(I)I" } : Jvm.MethodName)) ∈ lw_all := lw_g (lw_at lw_m8 11 rfl) rfl
theorem q1769 : (Jvm.Cond.methodLink "SeenByOneLaw" (159 : Nat) ({ cls := "SeenByOneModel", name := "shuts", desc := "()I" } : Jvm.MethodName)) ∈ lw_all := lw_g (lw_at lw_m8 15 rfl) rfl
theorem q1773 : (Jvm.Cond.methodLink "SeenByOneLaw" (163 : Nat) ({ cls := "SeenByOneModel", name := "opens", desc := "()I" } : Jvm.MethodName)) ∈ lw_all := lw_g (lw_at lw_m8 19 rfl) rfl
theorem q1781 : (Jvm.Cond.methodLink "SeenByOneLaw" (167 : Nat) ({ cls := "SeenByOneModel", name := "years", desc := "(I)I" } : Jvm.MethodName)) ∈ lw_all := lw_g (lw_at lw_m8 27 rfl) rfl
theorem q1790 : (Jvm.Cond.methodLink "SeenByOneLaw" (171 : Nat) ({ cls := "SeenByOneModel", name := "seed", desc := "(I)I" } : Jvm.MethodName)) ∈ lw_all := lw_g (lw_at lw_m8 36 rfl) rfl
theorem q1794 : (Jvm.Cond.methodLink "SeenByOneLaw" (175 : Nat) ({ cls := "SeenByOneModel", name := "act", desc := "(III)I" } : Jvm.MethodName)) ∈ lw_all := lw_g (lw_at lw_m8 40 rfl) rfl
theorem q1814 : (Jvm.Cond.methodLink "SeenByOneLaw" (179 : Nat) ({ cls := "SeenByOneModel", name := "trace", desc := "(I)I" } : Jvm.MethodName)) ∈ lw_all := lw_g (lw_at lw_m8 60 rfl) rfl
theorem q1818 : (Jvm.Cond.methodLink "SeenByOneLaw" (183 : Nat) ({ cls := "SeenByOneModel", name := "image", desc := "()I" } : Jvm.MethodName)) ∈ lw_all := lw_g (lw_at lw_m8 64 rfl) rfl
theorem q1822 : (Jvm.Cond.methodLink "SeenByOneLaw" (187 : Nat) ({ cls := "SeenByOneModel", name := "restore", desc := "()I" } : Jvm.MethodName)) ∈ lw_all := lw_g (lw_at lw_m8 68 rfl) rfl
theorem q1826 : (Jvm.Cond.methodLink "SeenByOneLaw" (191 : Nat) ({ cls := "SeenByOneModel", name := "status", desc := "(I)I" } : Jvm.MethodName)) ∈ lw_all := lw_g (lw_at lw_m8 72 rfl) rfl
theorem q1830 : (Jvm.Cond.constantLong "SeenByOneLaw" (18 : Nat) (4294967295 : Int64)) ∈ lw_all := lw_g (lw_at lw_m8 76 rfl) rfl

theorem q94 : (Jvm.Cond.initialized "java/lang/System") ∈ lw_all := lw_g (lw_at lw_m1 20 rfl) rfl
set_option maxRecDepth 100000
theorem q483 : (Jvm.Cond.static ({ cls := "java/lang/System", name := "arraycopy", desc := "(Ljava/lang/Object;ILjava/lang/Object;II)V" } : Jvm.MethodName)) ∈ lw_all := lw_g (lw_at lw_m2 169 rfl) rfl
theorem q484 : (Jvm.Cond.native ({ cls := "java/lang/System", name := "arraycopy", desc := "(Ljava/lang/Object;ILjava/lang/Object;II)V" } : Jvm.MethodName)) ∈ lw_all := lw_g (lw_at lw_m2 170 rfl) rfl

theorem q118 : (Jvm.Cond.arrayOver (Jvm.ClassFile.FieldType.object "SeenByOne$Shelf")) ∈ lw_tbl := lw_at lw_m1 44 rfl
set_option maxRecDepth 100000
theorem q134 : (Jvm.Cond.arrayClass Jvm.ClassFile.FieldType.int) ∈ lw_all := lw_g (lw_at lw_m1 60 rfl) rfl
theorem q142 : (Jvm.Cond.arrayOver (Jvm.ClassFile.FieldType.object "SeenByOne$Thing")) ∈ lw_tbl := lw_at lw_m1 68 rfl
theorem q300 : (Jvm.Cond.arrayClass Jvm.ClassFile.FieldType.byte) ∈ lw_all := lw_g (lw_at lw_m1 226 rfl) rfl
theorem q375 : (Jvm.Cond.arrayClass Jvm.ClassFile.FieldType.short) ∈ lw_all := lw_g (lw_at lw_m2 61 rfl) rfl
theorem q396 : (Jvm.Cond.arrayClass Jvm.ClassFile.FieldType.long) ∈ lw_all := lw_g (lw_at lw_m2 82 rfl) rfl
