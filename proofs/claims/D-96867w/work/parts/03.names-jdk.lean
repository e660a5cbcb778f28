/-! java/lang/Throwable -/
set_option maxRecDepth 100000
def RJ0 : String := "java/lang/Throwable"
def TJ0 : u_T := fun k => match k with
  | 0 => ("java/lang/Throwable", "cause", "Ljava/lang/Throwable;", false)
  | 1 => ("java/lang/Throwable", "stackTrace", "[Ljava/lang/StackTraceElement;", false)
  | 2 => ("java/lang/Throwable", "suppressedExceptions", "Ljava/util/List;", false)
  | 3 => ("java/lang/Throwable", "detailMessage", "Ljava/lang/String;", false)
  | _ => ("java/lang/Throwable", "backtrace", "Ljava/lang/Object;", false)
def tyJ0 : Nat → FieldType := fun k => match k with
  | 0 => .object "java/lang/Throwable"
  | 1 => .array (.object "java/lang/StackTraceElement")
  | 2 => .object "java/util/List"
  | 3 => .object "java/lang/String"
  | _ => .object "java/lang/Object"
abbrev wsJ00 : List Cond := u_ws RJ0 TJ0 5
theorem nmJ0 : ∀ a, a < 5 → ∀ b, b < 5 → a ≠ b → (TJ0 a).2.1 ≠ (TJ0 b).2.1 := by decide +kernel
theorem tyJ0_ok : ∀ k, k < 5 → parseFieldDescriptor (TJ0 k).2.2.1 = some (tyJ0 k) := by decide +kernel
abbrev cJ0_init : ByteArray := prog_37_method_2_code
def yJ0_init : MethodName := ⟨RJ0, "<init>", "(Ljava/lang/String;)V"⟩
def dkwJ0_init_1 : List UInt8 := [182, 0, 27, 87, 42, 43, 181, 0, 31, 177]
abbrev dktJ0_init_1 : List UInt8 := dkwJ0_init_1 ++ []
def dkwJ0_init_0 : List UInt8 := [42, 183, 0, 1, 42, 42, 181, 0, 7, 42, 178, 0, 13, 181, 0, 17, 42, 178, 0, 20, 181, 0, 24, 42]
abbrev dktJ0_init_0 : List UInt8 := dkwJ0_init_0 ++ dktJ0_init_1
theorem dksJ0_init_0 : cJ0_init.data.toList.drop 0 = dktJ0_init_0 := by decide +kernel
theorem dksJ0_init_1 : cJ0_init.data.toList.drop 24 = dktJ0_init_1 := dk_seg dksJ0_init_0 24 rfl rfl
theorem dJ0_init_0 : decode cJ0_init 0 = .ok (.aload_n 0, 1) := dk_42 (dk_at dksJ0_init_0 0 rfl rfl)
theorem dJ0_init_1 : decode cJ0_init 1 = .ok (.invokespecial 1, 3) := dk_183 0 1 (dk_at dksJ0_init_0 1 rfl rfl)
theorem dJ0_init_4 : decode cJ0_init 4 = .ok (.aload_n 0, 1) := dk_42 (dk_at dksJ0_init_0 4 rfl rfl)
theorem dJ0_init_5 : decode cJ0_init 5 = .ok (.aload_n 0, 1) := dk_42 (dk_at dksJ0_init_0 5 rfl rfl)
theorem dJ0_init_6 : decode cJ0_init 6 = .ok (.putfield 7, 3) := dk_181 0 7 (dk_at dksJ0_init_0 6 rfl rfl)
theorem dJ0_init_9 : decode cJ0_init 9 = .ok (.aload_n 0, 1) := dk_42 (dk_at dksJ0_init_0 9 rfl rfl)
theorem dJ0_init_10 : decode cJ0_init 10 = .ok (.getstatic 13, 3) := dk_178 0 13 (dk_at dksJ0_init_0 10 rfl rfl)
theorem dJ0_init_13 : decode cJ0_init 13 = .ok (.putfield 17, 3) := dk_181 0 17 (dk_at dksJ0_init_0 13 rfl rfl)
theorem dJ0_init_16 : decode cJ0_init 16 = .ok (.aload_n 0, 1) := dk_42 (dk_at dksJ0_init_0 16 rfl rfl)
theorem dJ0_init_17 : decode cJ0_init 17 = .ok (.getstatic 20, 3) := dk_178 0 20 (dk_at dksJ0_init_0 17 rfl rfl)
theorem dJ0_init_20 : decode cJ0_init 20 = .ok (.putfield 24, 3) := dk_181 0 24 (dk_at dksJ0_init_0 20 rfl rfl)
theorem dJ0_init_23 : decode cJ0_init 23 = .ok (.aload_n 0, 1) := dk_42 (dk_at dksJ0_init_0 23 rfl rfl)
theorem dJ0_init_24 : decode cJ0_init 24 = .ok (.invokevirtual 27, 3) := dk_182 0 27 (dk_at dksJ0_init_1 0 rfl rfl)
theorem dJ0_init_27 : decode cJ0_init 27 = .ok (.pop, 1) := dk_87 (dk_at dksJ0_init_1 3 rfl rfl)
theorem dJ0_init_28 : decode cJ0_init 28 = .ok (.aload_n 0, 1) := dk_42 (dk_at dksJ0_init_1 4 rfl rfl)
theorem dJ0_init_29 : decode cJ0_init 29 = .ok (.aload_n 1, 1) := dk_43 (dk_at dksJ0_init_1 5 rfl rfl)
theorem dJ0_init_30 : decode cJ0_init 30 = .ok (.putfield 31, 3) := dk_181 0 31 (dk_at dksJ0_init_1 6 rfl rfl)
theorem dJ0_init_33 : decode cJ0_init 33 = .ok (.return_, 1) := dk_177 (dk_at dksJ0_init_1 9 rfl rfl)
abbrev cJ0_init_2 : ByteArray := prog_37_method_1_code
def yJ0_init_2 : MethodName := ⟨RJ0, "<init>", "()V"⟩
def dkwJ0_init_2_1 : List UInt8 := [182, 0, 27, 87, 177]
abbrev dktJ0_init_2_1 : List UInt8 := dkwJ0_init_2_1 ++ []
def dkwJ0_init_2_0 : List UInt8 := [42, 183, 0, 1, 42, 42, 181, 0, 7, 42, 178, 0, 13, 181, 0, 17, 42, 178, 0, 20, 181, 0, 24, 42]
abbrev dktJ0_init_2_0 : List UInt8 := dkwJ0_init_2_0 ++ dktJ0_init_2_1
theorem dksJ0_init_2_0 : cJ0_init_2.data.toList.drop 0 = dktJ0_init_2_0 := by decide +kernel
theorem dksJ0_init_2_1 : cJ0_init_2.data.toList.drop 24 = dktJ0_init_2_1 := dk_seg dksJ0_init_2_0 24 rfl rfl
theorem dJ0_init_2_0 : decode cJ0_init_2 0 = .ok (.aload_n 0, 1) := dk_42 (dk_at dksJ0_init_2_0 0 rfl rfl)
theorem dJ0_init_2_1 : decode cJ0_init_2 1 = .ok (.invokespecial 1, 3) := dk_183 0 1 (dk_at dksJ0_init_2_0 1 rfl rfl)
theorem dJ0_init_2_4 : decode cJ0_init_2 4 = .ok (.aload_n 0, 1) := dk_42 (dk_at dksJ0_init_2_0 4 rfl rfl)
theorem dJ0_init_2_5 : decode cJ0_init_2 5 = .ok (.aload_n 0, 1) := dk_42 (dk_at dksJ0_init_2_0 5 rfl rfl)
theorem dJ0_init_2_6 : decode cJ0_init_2 6 = .ok (.putfield 7, 3) := dk_181 0 7 (dk_at dksJ0_init_2_0 6 rfl rfl)
theorem dJ0_init_2_9 : decode cJ0_init_2 9 = .ok (.aload_n 0, 1) := dk_42 (dk_at dksJ0_init_2_0 9 rfl rfl)
theorem dJ0_init_2_10 : decode cJ0_init_2 10 = .ok (.getstatic 13, 3) := dk_178 0 13 (dk_at dksJ0_init_2_0 10 rfl rfl)
theorem dJ0_init_2_13 : decode cJ0_init_2 13 = .ok (.putfield 17, 3) := dk_181 0 17 (dk_at dksJ0_init_2_0 13 rfl rfl)
theorem dJ0_init_2_16 : decode cJ0_init_2 16 = .ok (.aload_n 0, 1) := dk_42 (dk_at dksJ0_init_2_0 16 rfl rfl)
theorem dJ0_init_2_17 : decode cJ0_init_2 17 = .ok (.getstatic 20, 3) := dk_178 0 20 (dk_at dksJ0_init_2_0 17 rfl rfl)
theorem dJ0_init_2_20 : decode cJ0_init_2 20 = .ok (.putfield 24, 3) := dk_181 0 24 (dk_at dksJ0_init_2_0 20 rfl rfl)
theorem dJ0_init_2_23 : decode cJ0_init_2 23 = .ok (.aload_n 0, 1) := dk_42 (dk_at dksJ0_init_2_0 23 rfl rfl)
theorem dJ0_init_2_24 : decode cJ0_init_2 24 = .ok (.invokevirtual 27, 3) := dk_182 0 27 (dk_at dksJ0_init_2_1 0 rfl rfl)
theorem dJ0_init_2_27 : decode cJ0_init_2 27 = .ok (.pop, 1) := dk_87 (dk_at dksJ0_init_2_1 3 rfl rfl)
theorem dJ0_init_2_28 : decode cJ0_init_2 28 = .ok (.return_, 1) := dk_177 (dk_at dksJ0_init_2_1 4 rfl rfl)
abbrev cJ0_init_3 : ByteArray := prog_37_method_5_code
def yJ0_init_3 : MethodName := ⟨RJ0, "<init>", "(Ljava/lang/String;Ljava/lang/Throwable;ZZ)V"⟩
def dkwJ0_init_3_2 : List UInt8 := [44, 181, 0, 7, 29, 154, 0, 8, 42, 1, 181, 0, 24, 177]
abbrev dktJ0_init_3_2 : List UInt8 := dkwJ0_init_3_2 ++ []
def dkwJ0_init_3_1 : List UInt8 := [21, 4, 153, 0, 11, 42, 182, 0, 27, 87, 167, 0, 8, 42, 1, 181, 0, 17, 42, 43, 181, 0, 31, 42]
abbrev dktJ0_init_3_1 : List UInt8 := dkwJ0_init_3_1 ++ dktJ0_init_3_2
def dkwJ0_init_3_0 : List UInt8 := [42, 183, 0, 1, 42, 42, 181, 0, 7, 42, 178, 0, 13, 181, 0, 17, 42, 178, 0, 20, 181, 0, 24]
abbrev dktJ0_init_3_0 : List UInt8 := dkwJ0_init_3_0 ++ dktJ0_init_3_1
theorem dksJ0_init_3_0 : cJ0_init_3.data.toList.drop 0 = dktJ0_init_3_0 := by decide +kernel
theorem dksJ0_init_3_1 : cJ0_init_3.data.toList.drop 23 = dktJ0_init_3_1 := dk_seg dksJ0_init_3_0 23 rfl rfl
theorem dksJ0_init_3_2 : cJ0_init_3.data.toList.drop 47 = dktJ0_init_3_2 := dk_seg dksJ0_init_3_1 24 rfl rfl
theorem dJ0_init_3_0 : decode cJ0_init_3 0 = .ok (.aload_n 0, 1) := dk_42 (dk_at dksJ0_init_3_0 0 rfl rfl)
theorem dJ0_init_3_1 : decode cJ0_init_3 1 = .ok (.invokespecial 1, 3) := dk_183 0 1 (dk_at dksJ0_init_3_0 1 rfl rfl)
theorem dJ0_init_3_4 : decode cJ0_init_3 4 = .ok (.aload_n 0, 1) := dk_42 (dk_at dksJ0_init_3_0 4 rfl rfl)
theorem dJ0_init_3_5 : decode cJ0_init_3 5 = .ok (.aload_n 0, 1) := dk_42 (dk_at dksJ0_init_3_0 5 rfl rfl)
theorem dJ0_init_3_6 : decode cJ0_init_3 6 = .ok (.putfield 7, 3) := dk_181 0 7 (dk_at dksJ0_init_3_0 6 rfl rfl)
theorem dJ0_init_3_9 : decode cJ0_init_3 9 = .ok (.aload_n 0, 1) := dk_42 (dk_at dksJ0_init_3_0 9 rfl rfl)
theorem dJ0_init_3_10 : decode cJ0_init_3 10 = .ok (.getstatic 13, 3) := dk_178 0 13 (dk_at dksJ0_init_3_0 10 rfl rfl)
theorem dJ0_init_3_13 : decode cJ0_init_3 13 = .ok (.putfield 17, 3) := dk_181 0 17 (dk_at dksJ0_init_3_0 13 rfl rfl)
theorem dJ0_init_3_16 : decode cJ0_init_3 16 = .ok (.aload_n 0, 1) := dk_42 (dk_at dksJ0_init_3_0 16 rfl rfl)
theorem dJ0_init_3_17 : decode cJ0_init_3 17 = .ok (.getstatic 20, 3) := dk_178 0 20 (dk_at dksJ0_init_3_0 17 rfl rfl)
theorem dJ0_init_3_20 : decode cJ0_init_3 20 = .ok (.putfield 24, 3) := dk_181 0 24 (dk_at dksJ0_init_3_0 20 rfl rfl)
theorem dJ0_init_3_23 : decode cJ0_init_3 23 = .ok (.iload 4, 2) := dk_21 4 (dk_at dksJ0_init_3_1 0 rfl rfl)
theorem dJ0_init_3_25 : decode cJ0_init_3 25 = .ok (.ifCond .eq 11, 3) := dk_153 0 11 (dk_at dksJ0_init_3_1 2 rfl rfl)
theorem dJ0_init_3_28 : decode cJ0_init_3 28 = .ok (.aload_n 0, 1) := dk_42 (dk_at dksJ0_init_3_1 5 rfl rfl)
theorem dJ0_init_3_29 : decode cJ0_init_3 29 = .ok (.invokevirtual 27, 3) := dk_182 0 27 (dk_at dksJ0_init_3_1 6 rfl rfl)
theorem dJ0_init_3_32 : decode cJ0_init_3 32 = .ok (.pop, 1) := dk_87 (dk_at dksJ0_init_3_1 9 rfl rfl)
theorem dJ0_init_3_33 : decode cJ0_init_3 33 = .ok (.goto 8, 3) := dk_167 0 8 (dk_at dksJ0_init_3_1 10 rfl rfl)
theorem dJ0_init_3_36 : decode cJ0_init_3 36 = .ok (.aload_n 0, 1) := dk_42 (dk_at dksJ0_init_3_1 13 rfl rfl)
theorem dJ0_init_3_37 : decode cJ0_init_3 37 = .ok (.aconst_null, 1) := dk_1 (dk_at dksJ0_init_3_1 14 rfl rfl)
theorem dJ0_init_3_38 : decode cJ0_init_3 38 = .ok (.putfield 17, 3) := dk_181 0 17 (dk_at dksJ0_init_3_1 15 rfl rfl)
theorem dJ0_init_3_41 : decode cJ0_init_3 41 = .ok (.aload_n 0, 1) := dk_42 (dk_at dksJ0_init_3_1 18 rfl rfl)
theorem dJ0_init_3_42 : decode cJ0_init_3 42 = .ok (.aload_n 1, 1) := dk_43 (dk_at dksJ0_init_3_1 19 rfl rfl)
theorem dJ0_init_3_43 : decode cJ0_init_3 43 = .ok (.putfield 31, 3) := dk_181 0 31 (dk_at dksJ0_init_3_1 20 rfl rfl)
theorem dJ0_init_3_46 : decode cJ0_init_3 46 = .ok (.aload_n 0, 1) := dk_42 (dk_at dksJ0_init_3_1 23 rfl rfl)
theorem dJ0_init_3_47 : decode cJ0_init_3 47 = .ok (.aload_n 2, 1) := dk_44 (dk_at dksJ0_init_3_2 0 rfl rfl)
theorem dJ0_init_3_48 : decode cJ0_init_3 48 = .ok (.putfield 7, 3) := dk_181 0 7 (dk_at dksJ0_init_3_2 1 rfl rfl)
theorem dJ0_init_3_51 : decode cJ0_init_3 51 = .ok (.iload_n 3, 1) := dk_29 (dk_at dksJ0_init_3_2 4 rfl rfl)
theorem dJ0_init_3_52 : decode cJ0_init_3 52 = .ok (.ifCond .ne 8, 3) := dk_154 0 8 (dk_at dksJ0_init_3_2 5 rfl rfl)
theorem dJ0_init_3_55 : decode cJ0_init_3 55 = .ok (.aload_n 0, 1) := dk_42 (dk_at dksJ0_init_3_2 8 rfl rfl)
theorem dJ0_init_3_56 : decode cJ0_init_3 56 = .ok (.aconst_null, 1) := dk_1 (dk_at dksJ0_init_3_2 9 rfl rfl)
theorem dJ0_init_3_57 : decode cJ0_init_3 57 = .ok (.putfield 24, 3) := dk_181 0 24 (dk_at dksJ0_init_3_2 10 rfl rfl)
theorem dJ0_init_3_60 : decode cJ0_init_3 60 = .ok (.return_, 1) := dk_177 (dk_at dksJ0_init_3_2 13 rfl rfl)
theorem q82 : (Jvm.Cond.initialized "java/lang/Throwable") ∈ lw_all := lw_g (lw_at lw_m1 11 rfl) rfl
theorem q482 : (Jvm.Cond.instanceMethod ({ cls := "java/lang/Throwable", name := "<init>", desc := "(Ljava/lang/String;)V" } : Jvm.MethodName)) ∈ lw_all := lw_g (lw_at lw_m2 171 rfl) rfl
theorem q483 : (Jvm.Cond.code ({ cls := "java/lang/Throwable", name := "<init>", desc := "(Ljava/lang/String;)V" } : Jvm.MethodName) prog_37_method_2_code (2 : Nat) (Option.none : Option Jvm.ClassFile.FieldType)) ∈ lw_all := lw_g (lw_at lw_m2 172 rfl) rfl
theorem q484 : (Jvm.Cond.methodLink "java/lang/Throwable" (1 : Nat) ({ cls := "java/lang/Object", name := "<init>", desc := "()V" } : Jvm.MethodName)) ∈ lw_all := lw_g (lw_at lw_m2 173 rfl) rfl
theorem q485 : (Jvm.Cond.fieldLink "java/lang/Throwable" (13 : Nat) "java/lang/Throwable" "UNASSIGNED_STACK" "[Ljava/lang/StackTraceElement;") ∈ lw_all := lw_g (lw_at lw_m2 174 rfl) rfl
theorem q486 : (Jvm.Cond.laysStatic "java/lang/Throwable" "UNASSIGNED_STACK" "[Ljava/lang/StackTraceElement;") ∈ lw_tbl := lw_at lw_m2 175 rfl
theorem q487 : (Jvm.Cond.fieldLink "java/lang/Throwable" (20 : Nat) "java/lang/Throwable" "SUPPRESSED_SENTINEL" "Ljava/util/List;") ∈ lw_all := lw_g (lw_at lw_m2 176 rfl) rfl
theorem q488 : (Jvm.Cond.laysStatic "java/lang/Throwable" "SUPPRESSED_SENTINEL" "Ljava/util/List;") ∈ lw_tbl := lw_at lw_m2 177 rfl
theorem q489 : (Jvm.Cond.methodLink "java/lang/Throwable" (27 : Nat) ({ cls := "java/lang/Throwable", name := "fillInStackTrace", desc := "()Ljava/lang/Throwable;" } : Jvm.MethodName)) ∈ lw_all := lw_g (lw_at lw_m2 178 rfl) rfl
theorem q490 : (Jvm.Cond.instanceMethod ({ cls := "java/lang/Throwable", name := "fillInStackTrace", desc := "()Ljava/lang/Throwable;" } : Jvm.MethodName)) ∈ lw_all := lw_g (lw_at lw_m2 179 rfl) rfl
theorem q491 : (Jvm.Cond.sameMethod "java/lang/Throwable" "java/lang/Throwable" "fillInStackTrace" "()Ljava/lang/Throwable;") ∈ lw_all := lw_g (lw_at lw_m2 180 rfl) rfl
theorem q508 : (Jvm.Cond.declares ({ cls := "java/lang/Throwable", name := "fillInStackTrace", desc := "()Ljava/lang/Throwable;" } : Jvm.MethodName)) ∈ lw_tbl := lw_at lw_m2 197 rfl
theorem q512 : (Jvm.Cond.codeSync ({ cls := "java/lang/Throwable", name := "fillInStackTrace", desc := "()Ljava/lang/Throwable;" } : Jvm.MethodName) prog_37_method_18_code (1 : Nat) (Option.some (Jvm.ClassFile.FieldType.object "java/lang/Throwable"))) ∈ lw_all := lw_g (lw_at lw_m2 201 rfl) rfl
theorem q513 : (Jvm.Cond.methodLink "java/lang/Throwable" (202 : Nat) ({ cls := "java/lang/Throwable", name := "fillInStackTrace", desc := "(I)Ljava/lang/Throwable;" } : Jvm.MethodName)) ∈ lw_all := lw_g (lw_at lw_m2 202 rfl) rfl
theorem q514 : (Jvm.Cond.privateMethod ({ cls := "java/lang/Throwable", name := "fillInStackTrace", desc := "(I)Ljava/lang/Throwable;" } : Jvm.MethodName)) ∈ lw_tbl := lw_at lw_m2 203 rfl
theorem q515 : (Jvm.Cond.instanceMethod ({ cls := "java/lang/Throwable", name := "fillInStackTrace", desc := "(I)Ljava/lang/Throwable;" } : Jvm.MethodName)) ∈ lw_all := lw_g (lw_at lw_m2 204 rfl) rfl
theorem q516 : (Jvm.Cond.instantiable "java/lang/Throwable" (6 : Nat)) ∈ lw_all := lw_g (lw_at lw_m2 205 rfl) rfl
theorem q517 : (Jvm.Cond.native ({ cls := "java/lang/Throwable", name := "fillInStackTrace", desc := "(I)Ljava/lang/Throwable;" } : Jvm.MethodName)) ∈ lw_all := lw_g (lw_at lw_m2 206 rfl) rfl
theorem q518 : (Jvm.Cond.fieldLink "java/lang/Throwable" (198 : Nat) "java/lang/Throwable" "backtrace" "Ljava/lang/Object;") ∈ lw_all := lw_g (lw_at lw_m2 207 rfl) rfl
theorem q519 : (Jvm.Cond.fieldLink "java/lang/Throwable" (31 : Nat) "java/lang/Throwable" "detailMessage" "Ljava/lang/String;") ∈ lw_all := lw_g (lw_at lw_m2 208 rfl) rfl
theorem q520 : (Jvm.Cond.fieldLink "java/lang/Throwable" (7 : Nat) "java/lang/Throwable" "cause" "Ljava/lang/Throwable;") ∈ lw_all := lw_g (lw_at lw_m2 209 rfl) rfl
theorem q521 : (Jvm.Cond.fieldLink "java/lang/Throwable" (17 : Nat) "java/lang/Throwable" "stackTrace" "[Ljava/lang/StackTraceElement;") ∈ lw_all := lw_g (lw_at lw_m2 210 rfl) rfl
theorem q522 : (Jvm.Cond.fieldLink "java/lang/Throwable" (24 : Nat) "java/lang/Throwable" "suppressedExceptions" "Ljava/util/List;") ∈ lw_all := lw_g (lw_at lw_m2 211 rfl) rfl
theorem q524 : (Jvm.Cond.soleField "java/lang/Throwable" "backtrace") ∈ lw_all := lw_g (lw_at lw_m2 213 rfl) rfl
theorem q526 : (Jvm.Cond.soleField "java/lang/Throwable" "detailMessage") ∈ lw_all := lw_g (lw_at lw_m2 215 rfl) rfl
theorem q528 : (Jvm.Cond.soleField "java/lang/Throwable" "cause") ∈ lw_all := lw_g (lw_at lw_m2 217 rfl) rfl
theorem q530 : (Jvm.Cond.soleField "java/lang/Throwable" "stackTrace") ∈ lw_all := lw_g (lw_at lw_m2 219 rfl) rfl
theorem q532 : (Jvm.Cond.soleField "java/lang/Throwable" "depth") ∈ lw_all := lw_g (lw_at lw_m2 221 rfl) rfl
theorem q534 : (Jvm.Cond.soleField "java/lang/Throwable" "suppressedExceptions") ∈ lw_all := lw_g (lw_at lw_m2 223 rfl) rfl
theorem q541 : (Jvm.Cond.declares ({ cls := "java/lang/Throwable", name := "<init>", desc := "()V" } : Jvm.MethodName)) ∈ lw_tbl := lw_at lw_m2 230 rfl
theorem q542 : (Jvm.Cond.declares ({ cls := "java/lang/Throwable", name := "<init>", desc := "(Ljava/lang/String;)V" } : Jvm.MethodName)) ∈ lw_tbl := lw_at lw_m2 231 rfl
theorem q544 : (Jvm.Cond.lays "java/lang/Throwable" "java/lang/Throwable" "cause" "Ljava/lang/Throwable;") ∈ lw_all := lw_g (lw_at lw_m2 233 rfl) rfl
theorem q545 : (Jvm.Cond.lays "java/lang/Throwable" "java/lang/Throwable" "stackTrace" "[Ljava/lang/StackTraceElement;") ∈ lw_all := lw_g (lw_at lw_m2 234 rfl) rfl
theorem q546 : (Jvm.Cond.lays "java/lang/Throwable" "java/lang/Throwable" "suppressedExceptions" "Ljava/util/List;") ∈ lw_all := lw_g (lw_at lw_m2 235 rfl) rfl
theorem q547 : (Jvm.Cond.lays "java/lang/Throwable" "java/lang/Throwable" "detailMessage" "Ljava/lang/String;") ∈ lw_all := lw_g (lw_at lw_m2 236 rfl) rfl
theorem q548 : (Jvm.Cond.lays "java/lang/Throwable" "java/lang/Throwable" "backtrace" "Ljava/lang/Object;") ∈ lw_all := lw_g (lw_at lw_m2 237 rfl) rfl
theorem q549 : (Jvm.Cond.fieldLink "java/lang/Throwable" (198 : Nat) "java/lang/Throwable" "backtrace" "Ljava/lang/Object;") ∈ lw_all := lw_g (lw_at lw_m2 238 rfl) rfl
theorem q550 : (Jvm.Cond.superclass "java/lang/Throwable" "java/lang/Object") ∈ lw_all := lw_g (lw_at lw_m2 239 rfl) rfl
theorem q551 : (Jvm.Cond.instanceMethod ({ cls := "java/lang/Throwable", name := "<init>", desc := "()V" } : Jvm.MethodName)) ∈ lw_all := lw_g (lw_at lw_m3 0 rfl) rfl
theorem q552 : (Jvm.Cond.code ({ cls := "java/lang/Throwable", name := "<init>", desc := "()V" } : Jvm.MethodName) prog_37_method_1_code (1 : Nat) (Option.none : Option Jvm.ClassFile.FieldType)) ∈ lw_all := lw_g (lw_at lw_m3 1 rfl) rfl
theorem q1026 : (Jvm.Cond.instanceMethod ({ cls := "java/lang/Throwable", name := "<init>", desc := "(Ljava/lang/String;Ljava/lang/Throwable;ZZ)V" } : Jvm.MethodName)) ∈ lw_all := lw_g (lw_at lw_m4 235 rfl) rfl
theorem q1027 : (Jvm.Cond.code ({ cls := "java/lang/Throwable", name := "<init>", desc := "(Ljava/lang/String;Ljava/lang/Throwable;ZZ)V" } : Jvm.MethodName) prog_37_method_5_code (5 : Nat) (Option.none : Option Jvm.ClassFile.FieldType)) ∈ lw_all := lw_g (lw_at lw_m4 236 rfl) rfl
theorem q1846 : (Jvm.Cond.sameMethod "java/lang/Throwable" "java/lang/Throwable" "fillInStackTrace" "(I)Ljava/lang/Throwable;") ∈ lw_all := lw_g (lw_at lw_m8 95 rfl) rfl
theorem in_J0 : ∀ w ∈ wsJ00, w ∈ lw_all := lw_in wsJ00 [544, 545, 546, 547, 548] (by decide +kernel) (by decide +kernel)

/-! java/lang/Exception -/
set_option maxRecDepth 100000
def RJ1 : String := "java/lang/Exception"
abbrev cJ1_init : ByteArray := prog_26_method_2_code
def yJ1_init : MethodName := ⟨RJ1, "<init>", "(Ljava/lang/String;)V"⟩
def dkwJ1_init_0 : List UInt8 := [42, 43, 183, 0, 7, 177]
abbrev dktJ1_init_0 : List UInt8 := dkwJ1_init_0 ++ []
theorem dksJ1_init_0 : cJ1_init.data.toList.drop 0 = dktJ1_init_0 := by decide +kernel
theorem dJ1_init_0 : decode cJ1_init 0 = .ok (.aload_n 0, 1) := dk_42 (dk_at dksJ1_init_0 0 rfl rfl)
theorem dJ1_init_1 : decode cJ1_init 1 = .ok (.aload_n 1, 1) := dk_43 (dk_at dksJ1_init_0 1 rfl rfl)
theorem dJ1_init_2 : decode cJ1_init 2 = .ok (.invokespecial 7, 3) := dk_183 0 7 (dk_at dksJ1_init_0 2 rfl rfl)
theorem dJ1_init_5 : decode cJ1_init 5 = .ok (.return_, 1) := dk_177 (dk_at dksJ1_init_0 5 rfl rfl)
abbrev cJ1_init_2 : ByteArray := prog_26_method_5_code
def yJ1_init_2 : MethodName := ⟨RJ1, "<init>", "(Ljava/lang/String;Ljava/lang/Throwable;ZZ)V"⟩
def dkwJ1_init_2_0 : List UInt8 := [42, 43, 44, 29, 21, 4, 183, 0, 16, 177]
abbrev dktJ1_init_2_0 : List UInt8 := dkwJ1_init_2_0 ++ []
theorem dksJ1_init_2_0 : cJ1_init_2.data.toList.drop 0 = dktJ1_init_2_0 := by decide +kernel
theorem dJ1_init_2_0 : decode cJ1_init_2 0 = .ok (.aload_n 0, 1) := dk_42 (dk_at dksJ1_init_2_0 0 rfl rfl)
theorem dJ1_init_2_1 : decode cJ1_init_2 1 = .ok (.aload_n 1, 1) := dk_43 (dk_at dksJ1_init_2_0 1 rfl rfl)
theorem dJ1_init_2_2 : decode cJ1_init_2 2 = .ok (.aload_n 2, 1) := dk_44 (dk_at dksJ1_init_2_0 2 rfl rfl)
theorem dJ1_init_2_3 : decode cJ1_init_2 3 = .ok (.iload_n 3, 1) := dk_29 (dk_at dksJ1_init_2_0 3 rfl rfl)
theorem dJ1_init_2_4 : decode cJ1_init_2 4 = .ok (.iload 4, 2) := dk_21 4 (dk_at dksJ1_init_2_0 4 rfl rfl)
theorem dJ1_init_2_6 : decode cJ1_init_2 6 = .ok (.invokespecial 16, 3) := dk_183 0 16 (dk_at dksJ1_init_2_0 6 rfl rfl)
theorem dJ1_init_2_9 : decode cJ1_init_2 9 = .ok (.return_, 1) := dk_177 (dk_at dksJ1_init_2_0 9 rfl rfl)
abbrev cJ1_init_3 : ByteArray := prog_26_method_1_code
def yJ1_init_3 : MethodName := ⟨RJ1, "<init>", "()V"⟩
theorem dJ1_init_3_0 : decode cJ1_init_3 0 = .ok (.aload_n 0, 1) := by decide +kernel
theorem dJ1_init_3_1 : decode cJ1_init_3 1 = .ok (.invokespecial 1, 3) := by decide +kernel
theorem dJ1_init_3_4 : decode cJ1_init_3 4 = .ok (.return_, 1) := by decide +kernel
theorem q83 : (Jvm.Cond.initialized "java/lang/Exception") ∈ lw_all := lw_g (lw_at lw_m1 12 rfl) rfl
theorem q479 : (Jvm.Cond.instanceMethod ({ cls := "java/lang/Exception", name := "<init>", desc := "(Ljava/lang/String;)V" } : Jvm.MethodName)) ∈ lw_all := lw_g (lw_at lw_m2 168 rfl) rfl
theorem q480 : (Jvm.Cond.code ({ cls := "java/lang/Exception", name := "<init>", desc := "(Ljava/lang/String;)V" } : Jvm.MethodName) prog_26_method_2_code (2 : Nat) (Option.none : Option Jvm.ClassFile.FieldType)) ∈ lw_all := lw_g (lw_at lw_m2 169 rfl) rfl
theorem q481 : (Jvm.Cond.methodLink "java/lang/Exception" (7 : Nat) ({ cls := "java/lang/Throwable", name := "<init>", desc := "(Ljava/lang/String;)V" } : Jvm.MethodName)) ∈ lw_all := lw_g (lw_at lw_m2 170 rfl) rfl
theorem q511 : (Jvm.Cond.superclass "java/lang/Exception" "java/lang/Throwable") ∈ lw_all := lw_g (lw_at lw_m2 200 rfl) rfl
theorem q539 : (Jvm.Cond.declares ({ cls := "java/lang/Exception", name := "<init>", desc := "()V" } : Jvm.MethodName)) ∈ lw_tbl := lw_at lw_m2 228 rfl
theorem q540 : (Jvm.Cond.declares ({ cls := "java/lang/Exception", name := "<init>", desc := "(Ljava/lang/String;)V" } : Jvm.MethodName)) ∈ lw_tbl := lw_at lw_m2 229 rfl
theorem q1023 : (Jvm.Cond.instanceMethod ({ cls := "java/lang/Exception", name := "<init>", desc := "(Ljava/lang/String;Ljava/lang/Throwable;ZZ)V" } : Jvm.MethodName)) ∈ lw_all := lw_g (lw_at lw_m4 232 rfl) rfl
theorem q1024 : (Jvm.Cond.code ({ cls := "java/lang/Exception", name := "<init>", desc := "(Ljava/lang/String;Ljava/lang/Throwable;ZZ)V" } : Jvm.MethodName) prog_26_method_5_code (5 : Nat) (Option.none : Option Jvm.ClassFile.FieldType)) ∈ lw_all := lw_g (lw_at lw_m4 233 rfl) rfl
theorem q1025 : (Jvm.Cond.methodLink "java/lang/Exception" (16 : Nat) ({ cls := "java/lang/Throwable", name := "<init>", desc := "(Ljava/lang/String;Ljava/lang/Throwable;ZZ)V" } : Jvm.MethodName)) ∈ lw_all := lw_g (lw_at lw_m4 234 rfl) rfl
theorem q1175 : (Jvm.Cond.instanceMethod ({ cls := "java/lang/Exception", name := "<init>", desc := "()V" } : Jvm.MethodName)) ∈ lw_all := lw_g (lw_at lw_m5 144 rfl) rfl
theorem q1176 : (Jvm.Cond.code ({ cls := "java/lang/Exception", name := "<init>", desc := "()V" } : Jvm.MethodName) prog_26_method_1_code (1 : Nat) (Option.none : Option Jvm.ClassFile.FieldType)) ∈ lw_all := lw_g (lw_at lw_m5 145 rfl) rfl
theorem q1177 : (Jvm.Cond.methodLink "java/lang/Exception" (1 : Nat) ({ cls := "java/lang/Throwable", name := "<init>", desc := "()V" } : Jvm.MethodName)) ∈ lw_all := lw_g (lw_at lw_m5 146 rfl) rfl

/-! java/lang/NegativeArraySizeException -/
set_option maxRecDepth 100000
def RJ10 : String := "java/lang/NegativeArraySizeException"
def TJ10 : u_T := fun k => match k with
  | 0 => ("java/lang/Throwable", "backtrace", "Ljava/lang/Object;", false)
  | 1 => ("java/lang/Throwable", "detailMessage", "Ljava/lang/String;", false)
  | 2 => ("java/lang/Throwable", "cause", "Ljava/lang/Throwable;", false)
  | 3 => ("java/lang/Throwable", "stackTrace", "[Ljava/lang/StackTraceElement;", false)
  | 4 => ("java/lang/Throwable", "depth", "I", false)
  | _ => ("java/lang/Throwable", "suppressedExceptions", "Ljava/util/List;", false)
def tyJ10 : Nat → FieldType := fun k => match k with
  | 0 => .object "java/lang/Object"
  | 1 => .object "java/lang/String"
  | 2 => .object "java/lang/Throwable"
  | 3 => .array (.object "java/lang/StackTraceElement")
  | 4 => .int
  | _ => .object "java/util/List"
abbrev wsJ100 : List Cond := u_ws RJ10 TJ10 6
theorem nmJ10 : ∀ a, a < 6 → ∀ b, b < 6 → a ≠ b → (TJ10 a).2.1 ≠ (TJ10 b).2.1 := by decide +kernel
theorem tyJ10_ok : ∀ k, k < 6 → parseFieldDescriptor (TJ10 k).2.2.1 = some (tyJ10 k) := by decide +kernel
abbrev cJ10_init : ByteArray := prog_30_method_2_code
def yJ10_init : MethodName := ⟨RJ10, "<init>", "(Ljava/lang/String;)V"⟩
def dkwJ10_init_0 : List UInt8 := [42, 43, 183, 0, 7, 177]
abbrev dktJ10_init_0 : List UInt8 := dkwJ10_init_0 ++ []
theorem dksJ10_init_0 : cJ10_init.data.toList.drop 0 = dktJ10_init_0 := by decide +kernel
theorem dJ10_init_0 : decode cJ10_init 0 = .ok (.aload_n 0, 1) := dk_42 (dk_at dksJ10_init_0 0 rfl rfl)
theorem dJ10_init_1 : decode cJ10_init 1 = .ok (.aload_n 1, 1) := dk_43 (dk_at dksJ10_init_0 1 rfl rfl)
theorem dJ10_init_2 : decode cJ10_init 2 = .ok (.invokespecial 7, 3) := dk_183 0 7 (dk_at dksJ10_init_0 2 rfl rfl)
theorem dJ10_init_5 : decode cJ10_init 5 = .ok (.return_, 1) := dk_177 (dk_at dksJ10_init_0 5 rfl rfl)
theorem q99 : (Jvm.Cond.initialized "java/lang/NegativeArraySizeException") ∈ lw_all := lw_g (lw_at lw_m1 28 rfl) rfl
theorem q497 : (Jvm.Cond.selects "java/lang/NegativeArraySizeException" ({ cls := "java/lang/Throwable", name := "fillInStackTrace", desc := "()Ljava/lang/Throwable;" } : Jvm.MethodName) ({ cls := "java/lang/Throwable", name := "fillInStackTrace", desc := "()Ljava/lang/Throwable;" } : Jvm.MethodName)) ∈ lw_all := lw_g (lw_at lw_m2 186 rfl) rfl
theorem q1147 : (Jvm.Cond.instantiable "java/lang/NegativeArraySizeException" (6 : Nat)) ∈ lw_all := lw_g (lw_at lw_m5 116 rfl) rfl
theorem q1148 : (Jvm.Cond.instanceMethod ({ cls := "java/lang/NegativeArraySizeException", name := "<init>", desc := "(Ljava/lang/String;)V" } : Jvm.MethodName)) ∈ lw_all := lw_g (lw_at lw_m5 117 rfl) rfl
theorem q1149 : (Jvm.Cond.code ({ cls := "java/lang/NegativeArraySizeException", name := "<init>", desc := "(Ljava/lang/String;)V" } : Jvm.MethodName) prog_30_method_2_code (2 : Nat) (Option.none : Option Jvm.ClassFile.FieldType)) ∈ lw_all := lw_g (lw_at lw_m5 118 rfl) rfl
theorem q1150 : (Jvm.Cond.methodLink "java/lang/NegativeArraySizeException" (7 : Nat) ({ cls := "java/lang/RuntimeException", name := "<init>", desc := "(Ljava/lang/String;)V" } : Jvm.MethodName)) ∈ lw_all := lw_g (lw_at lw_m5 119 rfl) rfl
theorem q1151 : (Jvm.Cond.lays "java/lang/NegativeArraySizeException" "java/lang/Throwable" "backtrace" "Ljava/lang/Object;") ∈ lw_all := lw_g (lw_at lw_m5 120 rfl) rfl
theorem q1152 : (Jvm.Cond.lays "java/lang/NegativeArraySizeException" "java/lang/Throwable" "detailMessage" "Ljava/lang/String;") ∈ lw_all := lw_g (lw_at lw_m5 121 rfl) rfl
theorem q1153 : (Jvm.Cond.lays "java/lang/NegativeArraySizeException" "java/lang/Throwable" "cause" "Ljava/lang/Throwable;") ∈ lw_all := lw_g (lw_at lw_m5 122 rfl) rfl
theorem q1154 : (Jvm.Cond.lays "java/lang/NegativeArraySizeException" "java/lang/Throwable" "stackTrace" "[Ljava/lang/StackTraceElement;") ∈ lw_all := lw_g (lw_at lw_m5 123 rfl) rfl
theorem q1155 : (Jvm.Cond.lays "java/lang/NegativeArraySizeException" "java/lang/Throwable" "depth" "I") ∈ lw_all := lw_g (lw_at lw_m5 124 rfl) rfl
theorem q1156 : (Jvm.Cond.lays "java/lang/NegativeArraySizeException" "java/lang/Throwable" "suppressedExceptions" "Ljava/util/List;") ∈ lw_all := lw_g (lw_at lw_m5 125 rfl) rfl
theorem q1157 : (Jvm.Cond.superclass "java/lang/NegativeArraySizeException" "java/lang/RuntimeException") ∈ lw_all := lw_g (lw_at lw_m5 126 rfl) rfl
theorem q1158 : (Jvm.Cond.castable "java/lang/NegativeArraySizeException" "java/lang/NegativeArraySizeException") ∈ lw_tbl := lw_at lw_m5 127 rfl
theorem q1159 : (Jvm.Cond.selects "java/lang/NegativeArraySizeException" ({ cls := "java/lang/Throwable", name := "fillInStackTrace", desc := "(I)Ljava/lang/Throwable;" } : Jvm.MethodName) ({ cls := "java/lang/Throwable", name := "fillInStackTrace", desc := "(I)Ljava/lang/Throwable;" } : Jvm.MethodName)) ∈ lw_all := lw_g (lw_at lw_m5 128 rfl) rfl
theorem in_J10 : ∀ w ∈ wsJ100, w ∈ lw_all := lw_in wsJ100 [1151, 1152, 1153, 1154, 1155, 1156] (by decide +kernel) (by decide +kernel)

/-! java/lang/NullPointerException -/
set_option maxRecDepth 100000
def RJ11 : String := "java/lang/NullPointerException"
def TJ11 : u_T := fun k => match k with
  | 0 => ("java/lang/Throwable", "backtrace", "Ljava/lang/Object;", false)
  | 1 => ("java/lang/Throwable", "detailMessage", "Ljava/lang/String;", false)
  | 2 => ("java/lang/Throwable", "cause", "Ljava/lang/Throwable;", false)
  | 3 => ("java/lang/Throwable", "stackTrace", "[Ljava/lang/StackTraceElement;", false)
  | 4 => ("java/lang/Throwable", "depth", "I", false)
  | 5 => ("java/lang/Throwable", "suppressedExceptions", "Ljava/util/List;", false)
  | 6 => ("java/lang/NullPointerException", "extendedMessageState", "I", false)
  | _ => ("java/lang/NullPointerException", "extendedMessage", "Ljava/lang/String;", false)
def tyJ11 : Nat → FieldType := fun k => match k with
  | 0 => .object "java/lang/Object"
  | 1 => .object "java/lang/String"
  | 2 => .object "java/lang/Throwable"
  | 3 => .array (.object "java/lang/StackTraceElement")
  | 4 => .int
  | 5 => .object "java/util/List"
  | 6 => .int
  | _ => .object "java/lang/String"
abbrev wsJ110 : List Cond := u_ws RJ11 TJ11 8
theorem nmJ11 : ∀ a, a < 8 → ∀ b, b < 8 → a ≠ b → (TJ11 a).2.1 ≠ (TJ11 b).2.1 := by decide +kernel
theorem tyJ11_ok : ∀ k, k < 8 → parseFieldDescriptor (TJ11 k).2.2.1 = some (tyJ11 k) := by decide +kernel
abbrev cJ11_init : ByteArray := prog_31_method_1_code
def yJ11_init : MethodName := ⟨RJ11, "<init>", "()V"⟩
theorem dJ11_init_0 : decode cJ11_init 0 = .ok (.aload_n 0, 1) := by decide +kernel
theorem dJ11_init_1 : decode cJ11_init 1 = .ok (.invokespecial 1, 3) := by decide +kernel
theorem dJ11_init_4 : decode cJ11_init 4 = .ok (.return_, 1) := by decide +kernel
theorem q100 : (Jvm.Cond.initialized "java/lang/NullPointerException") ∈ lw_all := lw_g (lw_at lw_m1 29 rfl) rfl
theorem q498 : (Jvm.Cond.selects "java/lang/NullPointerException" ({ cls := "java/lang/Throwable", name := "fillInStackTrace", desc := "()Ljava/lang/Throwable;" } : Jvm.MethodName) ({ cls := "java/lang/NullPointerException", name := "fillInStackTrace", desc := "()Ljava/lang/Throwable;" } : Jvm.MethodName)) ∈ lw_all := lw_g (lw_at lw_m2 187 rfl) rfl
theorem q499 : (Jvm.Cond.instanceMethod ({ cls := "java/lang/NullPointerException", name := "fillInStackTrace", desc := "()Ljava/lang/Throwable;" } : Jvm.MethodName)) ∈ lw_all := lw_g (lw_at lw_m2 188 rfl) rfl
theorem q500 : (Jvm.Cond.codeSync ({ cls := "java/lang/NullPointerException", name := "fillInStackTrace", desc := "()Ljava/lang/Throwable;" } : Jvm.MethodName) prog_31_method_3_code (1 : Nat) (Option.some (Jvm.ClassFile.FieldType.object "java/lang/Throwable"))) ∈ lw_all := lw_g (lw_at lw_m2 189 rfl) rfl
theorem q501 : (Jvm.Cond.methodLink "java/lang/NullPointerException" (16 : Nat) ({ cls := "java/lang/NullPointerException", name := "getExtendedNPEMessage", desc := "()Ljava/lang/String;" } : Jvm.MethodName)) ∈ lw_all := lw_g (lw_at lw_m2 190 rfl) rfl
theorem q502 : (Jvm.Cond.privateMethod ({ cls := "java/lang/NullPointerException", name := "getExtendedNPEMessage", desc := "()Ljava/lang/String;" } : Jvm.MethodName)) ∈ lw_tbl := lw_at lw_m2 191 rfl
theorem q503 : (Jvm.Cond.instanceMethod ({ cls := "java/lang/NullPointerException", name := "getExtendedNPEMessage", desc := "()Ljava/lang/String;" } : Jvm.MethodName)) ∈ lw_all := lw_g (lw_at lw_m2 192 rfl) rfl
theorem q504 : (Jvm.Cond.instantiable "java/lang/NullPointerException" (8 : Nat)) ∈ lw_all := lw_g (lw_at lw_m2 193 rfl) rfl
theorem q505 : (Jvm.Cond.native ({ cls := "java/lang/NullPointerException", name := "getExtendedNPEMessage", desc := "()Ljava/lang/String;" } : Jvm.MethodName)) ∈ lw_all := lw_g (lw_at lw_m2 194 rfl) rfl
theorem q506 : (Jvm.Cond.methodLink "java/lang/NullPointerException" (24 : Nat) ({ cls := "java/lang/RuntimeException", name := "fillInStackTrace", desc := "()Ljava/lang/Throwable;" } : Jvm.MethodName)) ∈ lw_all := lw_g (lw_at lw_m2 195 rfl) rfl
theorem q509 : (Jvm.Cond.superclass "java/lang/NullPointerException" "java/lang/RuntimeException") ∈ lw_all := lw_g (lw_at lw_m2 198 rfl) rfl
theorem q1169 : (Jvm.Cond.instanceMethod ({ cls := "java/lang/NullPointerException", name := "<init>", desc := "()V" } : Jvm.MethodName)) ∈ lw_all := lw_g (lw_at lw_m5 138 rfl) rfl
theorem q1170 : (Jvm.Cond.code ({ cls := "java/lang/NullPointerException", name := "<init>", desc := "()V" } : Jvm.MethodName) prog_31_method_1_code (1 : Nat) (Option.none : Option Jvm.ClassFile.FieldType)) ∈ lw_all := lw_g (lw_at lw_m5 139 rfl) rfl
theorem q1171 : (Jvm.Cond.methodLink "java/lang/NullPointerException" (1 : Nat) ({ cls := "java/lang/RuntimeException", name := "<init>", desc := "()V" } : Jvm.MethodName)) ∈ lw_all := lw_g (lw_at lw_m5 140 rfl) rfl
theorem q1178 : (Jvm.Cond.fieldLink "java/lang/NullPointerException" (10 : Nat) "java/lang/NullPointerException" "extendedMessageState" "I") ∈ lw_all := lw_g (lw_at lw_m5 147 rfl) rfl
theorem q1179 : (Jvm.Cond.fieldLink "java/lang/NullPointerException" (20 : Nat) "java/lang/NullPointerException" "extendedMessage" "Ljava/lang/String;") ∈ lw_all := lw_g (lw_at lw_m5 148 rfl) rfl
theorem q1180 : (Jvm.Cond.lays "java/lang/NullPointerException" "java/lang/NullPointerException" "extendedMessageState" "I") ∈ lw_all := lw_g (lw_at lw_m5 149 rfl) rfl
theorem q1181 : (Jvm.Cond.soleField "java/lang/NullPointerException" "extendedMessageState") ∈ lw_all := lw_g (lw_at lw_m5 150 rfl) rfl
theorem q1182 : (Jvm.Cond.lays "java/lang/NullPointerException" "java/lang/NullPointerException" "extendedMessage" "Ljava/lang/String;") ∈ lw_all := lw_g (lw_at lw_m5 151 rfl) rfl
theorem q1183 : (Jvm.Cond.soleField "java/lang/NullPointerException" "extendedMessage") ∈ lw_all := lw_g (lw_at lw_m5 152 rfl) rfl
theorem q1184 : (Jvm.Cond.lays "java/lang/NullPointerException" "java/lang/Throwable" "backtrace" "Ljava/lang/Object;") ∈ lw_all := lw_g (lw_at lw_m5 153 rfl) rfl
theorem q1185 : (Jvm.Cond.lays "java/lang/NullPointerException" "java/lang/Throwable" "detailMessage" "Ljava/lang/String;") ∈ lw_all := lw_g (lw_at lw_m5 154 rfl) rfl
theorem q1186 : (Jvm.Cond.lays "java/lang/NullPointerException" "java/lang/Throwable" "cause" "Ljava/lang/Throwable;") ∈ lw_all := lw_g (lw_at lw_m5 155 rfl) rfl
theorem q1187 : (Jvm.Cond.lays "java/lang/NullPointerException" "java/lang/Throwable" "stackTrace" "[Ljava/lang/StackTraceElement;") ∈ lw_all := lw_g (lw_at lw_m5 156 rfl) rfl
theorem q1188 : (Jvm.Cond.lays "java/lang/NullPointerException" "java/lang/Throwable" "depth" "I") ∈ lw_all := lw_g (lw_at lw_m5 157 rfl) rfl
theorem q1189 : (Jvm.Cond.lays "java/lang/NullPointerException" "java/lang/Throwable" "suppressedExceptions" "Ljava/util/List;") ∈ lw_all := lw_g (lw_at lw_m5 158 rfl) rfl
theorem q1190 : (Jvm.Cond.castable "java/lang/NullPointerException" "java/lang/NullPointerException") ∈ lw_tbl := lw_at lw_m5 159 rfl
theorem q1191 : (Jvm.Cond.selects "java/lang/NullPointerException" ({ cls := "java/lang/Throwable", name := "fillInStackTrace", desc := "(I)Ljava/lang/Throwable;" } : Jvm.MethodName) ({ cls := "java/lang/Throwable", name := "fillInStackTrace", desc := "(I)Ljava/lang/Throwable;" } : Jvm.MethodName)) ∈ lw_all := lw_g (lw_at lw_m5 160 rfl) rfl
theorem in_J11 : ∀ w ∈ wsJ110, w ∈ lw_all := lw_in wsJ110 [1184, 1185, 1186, 1187, 1188, 1189, 1180, 1182] (by decide +kernel) (by decide +kernel)

/-! java/lang/IndexOutOfBoundsException -/
set_option maxRecDepth 100000
def RJ12 : String := "java/lang/IndexOutOfBoundsException"
def TJ12 : u_T := fun k => match k with
  | 0 => ("java/lang/Throwable", "cause", "Ljava/lang/Throwable;", false)
  | 1 => ("java/lang/Throwable", "stackTrace", "[Ljava/lang/StackTraceElement;", false)
  | 2 => ("java/lang/Throwable", "suppressedExceptions", "Ljava/util/List;", false)
  | 3 => ("java/lang/Throwable", "detailMessage", "Ljava/lang/String;", false)
  | 4 => ("java/lang/Throwable", "backtrace", "Ljava/lang/Object;", false)
  | _ => ("java/lang/Throwable", "depth", "I", false)
def tyJ12 : Nat → FieldType := fun k => match k with
  | 0 => .object "java/lang/Throwable"
  | 1 => .array (.object "java/lang/StackTraceElement")
  | 2 => .object "java/util/List"
  | 3 => .object "java/lang/String"
  | 4 => .object "java/lang/Object"
  | _ => .int
abbrev wsJ120 : List Cond := u_ws RJ12 TJ12 6
theorem nmJ12 : ∀ a, a < 6 → ∀ b, b < 6 → a ≠ b → (TJ12 a).2.1 ≠ (TJ12 b).2.1 := by decide +kernel
theorem tyJ12_ok : ∀ k, k < 6 → parseFieldDescriptor (TJ12 k).2.2.1 = some (tyJ12 k) := by decide +kernel
abbrev cJ12_init : ByteArray := prog_27_method_2_code
def yJ12_init : MethodName := ⟨RJ12, "<init>", "(Ljava/lang/String;)V"⟩
def dkwJ12_init_0 : List UInt8 := [42, 43, 183, 0, 7, 177]
abbrev dktJ12_init_0 : List UInt8 := dkwJ12_init_0 ++ []
theorem dksJ12_init_0 : cJ12_init.data.toList.drop 0 = dktJ12_init_0 := by decide +kernel
theorem dJ12_init_0 : decode cJ12_init 0 = .ok (.aload_n 0, 1) := dk_42 (dk_at dksJ12_init_0 0 rfl rfl)
theorem dJ12_init_1 : decode cJ12_init 1 = .ok (.aload_n 1, 1) := dk_43 (dk_at dksJ12_init_0 1 rfl rfl)
theorem dJ12_init_2 : decode cJ12_init 2 = .ok (.invokespecial 7, 3) := dk_183 0 7 (dk_at dksJ12_init_0 2 rfl rfl)
theorem dJ12_init_5 : decode cJ12_init 5 = .ok (.return_, 1) := dk_177 (dk_at dksJ12_init_0 5 rfl rfl)
abbrev cJ12_init_2 : ByteArray := prog_27_method_1_code
def yJ12_init_2 : MethodName := ⟨RJ12, "<init>", "()V"⟩
theorem dJ12_init_2_0 : decode cJ12_init_2 0 = .ok (.aload_n 0, 1) := by decide +kernel
theorem dJ12_init_2_1 : decode cJ12_init_2 1 = .ok (.invokespecial 1, 3) := by decide +kernel
theorem dJ12_init_2_4 : decode cJ12_init_2 4 = .ok (.return_, 1) := by decide +kernel
theorem q101 : (Jvm.Cond.initialized "java/lang/IndexOutOfBoundsException") ∈ lw_all := lw_g (lw_at lw_m1 30 rfl) rfl
theorem q496 : (Jvm.Cond.selects "java/lang/IndexOutOfBoundsException" ({ cls := "java/lang/Throwable", name := "fillInStackTrace", desc := "()Ljava/lang/Throwable;" } : Jvm.MethodName) ({ cls := "java/lang/Throwable", name := "fillInStackTrace", desc := "()Ljava/lang/Throwable;" } : Jvm.MethodName)) ∈ lw_all := lw_g (lw_at lw_m2 185 rfl) rfl
theorem q1198 : (Jvm.Cond.instanceMethod ({ cls := "java/lang/IndexOutOfBoundsException", name := "<init>", desc := "(Ljava/lang/String;)V" } : Jvm.MethodName)) ∈ lw_all := lw_g (lw_at lw_m5 167 rfl) rfl
theorem q1199 : (Jvm.Cond.code ({ cls := "java/lang/IndexOutOfBoundsException", name := "<init>", desc := "(Ljava/lang/String;)V" } : Jvm.MethodName) prog_27_method_2_code (2 : Nat) (Option.none : Option Jvm.ClassFile.FieldType)) ∈ lw_all := lw_g (lw_at lw_m5 168 rfl) rfl
theorem q1200 : (Jvm.Cond.methodLink "java/lang/IndexOutOfBoundsException" (7 : Nat) ({ cls := "java/lang/RuntimeException", name := "<init>", desc := "(Ljava/lang/String;)V" } : Jvm.MethodName)) ∈ lw_all := lw_g (lw_at lw_m5 169 rfl) rfl
theorem q1209 : (Jvm.Cond.declares ({ cls := "java/lang/IndexOutOfBoundsException", name := "<init>", desc := "()V" } : Jvm.MethodName)) ∈ lw_tbl := lw_at lw_m5 178 rfl
theorem q1210 : (Jvm.Cond.declares ({ cls := "java/lang/IndexOutOfBoundsException", name := "<init>", desc := "(Ljava/lang/String;)V" } : Jvm.MethodName)) ∈ lw_tbl := lw_at lw_m5 179 rfl
theorem q1215 : (Jvm.Cond.instantiable "java/lang/IndexOutOfBoundsException" (6 : Nat)) ∈ lw_all := lw_g (lw_at lw_m5 184 rfl) rfl
theorem q1216 : (Jvm.Cond.castable "java/lang/IndexOutOfBoundsException" "java/lang/IndexOutOfBoundsException") ∈ lw_tbl := lw_at lw_m5 185 rfl
theorem q1217 : (Jvm.Cond.selects "java/lang/IndexOutOfBoundsException" ({ cls := "java/lang/Throwable", name := "fillInStackTrace", desc := "(I)Ljava/lang/Throwable;" } : Jvm.MethodName) ({ cls := "java/lang/Throwable", name := "fillInStackTrace", desc := "(I)Ljava/lang/Throwable;" } : Jvm.MethodName)) ∈ lw_all := lw_g (lw_at lw_m5 186 rfl) rfl
theorem q1218 : (Jvm.Cond.lays "java/lang/IndexOutOfBoundsException" "java/lang/Throwable" "cause" "Ljava/lang/Throwable;") ∈ lw_all := lw_g (lw_at lw_m5 187 rfl) rfl
theorem q1219 : (Jvm.Cond.lays "java/lang/IndexOutOfBoundsException" "java/lang/Throwable" "stackTrace" "[Ljava/lang/StackTraceElement;") ∈ lw_all := lw_g (lw_at lw_m5 188 rfl) rfl
theorem q1220 : (Jvm.Cond.lays "java/lang/IndexOutOfBoundsException" "java/lang/Throwable" "suppressedExceptions" "Ljava/util/List;") ∈ lw_all := lw_g (lw_at lw_m5 189 rfl) rfl
theorem q1221 : (Jvm.Cond.lays "java/lang/IndexOutOfBoundsException" "java/lang/Throwable" "detailMessage" "Ljava/lang/String;") ∈ lw_all := lw_g (lw_at lw_m5 190 rfl) rfl
theorem q1222 : (Jvm.Cond.lays "java/lang/IndexOutOfBoundsException" "java/lang/Throwable" "backtrace" "Ljava/lang/Object;") ∈ lw_all := lw_g (lw_at lw_m5 191 rfl) rfl
theorem q1224 : (Jvm.Cond.instanceMethod ({ cls := "java/lang/IndexOutOfBoundsException", name := "<init>", desc := "()V" } : Jvm.MethodName)) ∈ lw_all := lw_g (lw_at lw_m5 193 rfl) rfl
theorem q1225 : (Jvm.Cond.code ({ cls := "java/lang/IndexOutOfBoundsException", name := "<init>", desc := "()V" } : Jvm.MethodName) prog_27_method_1_code (1 : Nat) (Option.none : Option Jvm.ClassFile.FieldType)) ∈ lw_all := lw_g (lw_at lw_m5 194 rfl) rfl
theorem q1226 : (Jvm.Cond.methodLink "java/lang/IndexOutOfBoundsException" (1 : Nat) ({ cls := "java/lang/RuntimeException", name := "<init>", desc := "()V" } : Jvm.MethodName)) ∈ lw_all := lw_g (lw_at lw_m5 195 rfl) rfl
theorem q1227 : (Jvm.Cond.lays "java/lang/IndexOutOfBoundsException" "java/lang/Throwable" "depth" "I") ∈ lw_all := lw_g (lw_at lw_m5 196 rfl) rfl
theorem q1228 : (Jvm.Cond.superclass "java/lang/IndexOutOfBoundsException" "java/lang/RuntimeException") ∈ lw_all := lw_g (lw_at lw_m5 197 rfl) rfl
theorem in_J12 : ∀ w ∈ wsJ120, w ∈ lw_all := lw_in wsJ120 [1218, 1219, 1220, 1221, 1222, 1227] (by decide +kernel) (by decide +kernel)

/-! java/lang/ArrayIndexOutOfBoundsException -/
set_option maxRecDepth 100000
def RJ13 : String := "java/lang/ArrayIndexOutOfBoundsException"
def TJ13 : u_T := fun k => match k with
  | 0 => ("java/lang/Throwable", "backtrace", "Ljava/lang/Object;", false)
  | 1 => ("java/lang/Throwable", "detailMessage", "Ljava/lang/String;", false)
  | 2 => ("java/lang/Throwable", "cause", "Ljava/lang/Throwable;", false)
  | 3 => ("java/lang/Throwable", "stackTrace", "[Ljava/lang/StackTraceElement;", false)
  | 4 => ("java/lang/Throwable", "depth", "I", false)
  | _ => ("java/lang/Throwable", "suppressedExceptions", "Ljava/util/List;", false)
def tyJ13 : Nat → FieldType := fun k => match k with
  | 0 => .object "java/lang/Object"
  | 1 => .object "java/lang/String"
  | 2 => .object "java/lang/Throwable"
  | 3 => .array (.object "java/lang/StackTraceElement")
  | 4 => .int
  | _ => .object "java/util/List"
abbrev wsJ130 : List Cond := u_ws RJ13 TJ13 6
theorem nmJ13 : ∀ a, a < 6 → ∀ b, b < 6 → a ≠ b → (TJ13 a).2.1 ≠ (TJ13 b).2.1 := by decide +kernel
theorem tyJ13_ok : ∀ k, k < 6 → parseFieldDescriptor (TJ13 k).2.2.1 = some (tyJ13 k) := by decide +kernel
abbrev cJ13_init : ByteArray := prog_24_method_2_code
def yJ13_init : MethodName := ⟨RJ13, "<init>", "(Ljava/lang/String;)V"⟩
def dkwJ13_init_0 : List UInt8 := [42, 43, 183, 0, 7, 177]
abbrev dktJ13_init_0 : List UInt8 := dkwJ13_init_0 ++ []
theorem dksJ13_init_0 : cJ13_init.data.toList.drop 0 = dktJ13_init_0 := by decide +kernel
theorem dJ13_init_0 : decode cJ13_init 0 = .ok (.aload_n 0, 1) := dk_42 (dk_at dksJ13_init_0 0 rfl rfl)
theorem dJ13_init_1 : decode cJ13_init 1 = .ok (.aload_n 1, 1) := dk_43 (dk_at dksJ13_init_0 1 rfl rfl)
theorem dJ13_init_2 : decode cJ13_init 2 = .ok (.invokespecial 7, 3) := dk_183 0 7 (dk_at dksJ13_init_0 2 rfl rfl)
theorem dJ13_init_5 : decode cJ13_init 5 = .ok (.return_, 1) := dk_177 (dk_at dksJ13_init_0 5 rfl rfl)
theorem q102 : (Jvm.Cond.initialized "java/lang/ArrayIndexOutOfBoundsException") ∈ lw_all := lw_g (lw_at lw_m1 31 rfl) rfl
theorem q494 : (Jvm.Cond.selects "java/lang/ArrayIndexOutOfBoundsException" ({ cls := "java/lang/Throwable", name := "fillInStackTrace", desc := "()Ljava/lang/Throwable;" } : Jvm.MethodName) ({ cls := "java/lang/Throwable", name := "fillInStackTrace", desc := "()Ljava/lang/Throwable;" } : Jvm.MethodName)) ∈ lw_all := lw_g (lw_at lw_m2 183 rfl) rfl
theorem q1194 : (Jvm.Cond.instantiable "java/lang/ArrayIndexOutOfBoundsException" (6 : Nat)) ∈ lw_all := lw_g (lw_at lw_m5 163 rfl) rfl
theorem q1195 : (Jvm.Cond.instanceMethod ({ cls := "java/lang/ArrayIndexOutOfBoundsException", name := "<init>", desc := "(Ljava/lang/String;)V" } : Jvm.MethodName)) ∈ lw_all := lw_g (lw_at lw_m5 164 rfl) rfl
theorem q1196 : (Jvm.Cond.code ({ cls := "java/lang/ArrayIndexOutOfBoundsException", name := "<init>", desc := "(Ljava/lang/String;)V" } : Jvm.MethodName) prog_24_method_2_code (2 : Nat) (Option.none : Option Jvm.ClassFile.FieldType)) ∈ lw_all := lw_g (lw_at lw_m5 165 rfl) rfl
theorem q1197 : (Jvm.Cond.methodLink "java/lang/ArrayIndexOutOfBoundsException" (7 : Nat) ({ cls := "java/lang/IndexOutOfBoundsException", name := "<init>", desc := "(Ljava/lang/String;)V" } : Jvm.MethodName)) ∈ lw_all := lw_g (lw_at lw_m5 166 rfl) rfl
theorem q1201 : (Jvm.Cond.lays "java/lang/ArrayIndexOutOfBoundsException" "java/lang/Throwable" "backtrace" "Ljava/lang/Object;") ∈ lw_all := lw_g (lw_at lw_m5 170 rfl) rfl
theorem q1202 : (Jvm.Cond.lays "java/lang/ArrayIndexOutOfBoundsException" "java/lang/Throwable" "detailMessage" "Ljava/lang/String;") ∈ lw_all := lw_g (lw_at lw_m5 171 rfl) rfl
theorem q1203 : (Jvm.Cond.lays "java/lang/ArrayIndexOutOfBoundsException" "java/lang/Throwable" "cause" "Ljava/lang/Throwable;") ∈ lw_all := lw_g (lw_at lw_m5 172 rfl) rfl
theorem q1204 : (Jvm.Cond.lays "java/lang/ArrayIndexOutOfBoundsException" "java/lang/Throwable" "stackTrace" "[Ljava/lang/StackTraceElement;") ∈ lw_all := lw_g (lw_at lw_m5 173 rfl) rfl
theorem q1205 : (Jvm.Cond.lays "java/lang/ArrayIndexOutOfBoundsException" "java/lang/Throwable" "depth" "I") ∈ lw_all := lw_g (lw_at lw_m5 174 rfl) rfl
theorem q1206 : (Jvm.Cond.lays "java/lang/ArrayIndexOutOfBoundsException" "java/lang/Throwable" "suppressedExceptions" "Ljava/util/List;") ∈ lw_all := lw_g (lw_at lw_m5 175 rfl) rfl
theorem q1207 : (Jvm.Cond.superclass "java/lang/ArrayIndexOutOfBoundsException" "java/lang/IndexOutOfBoundsException") ∈ lw_all := lw_g (lw_at lw_m5 176 rfl) rfl
theorem q1208 : (Jvm.Cond.castable "java/lang/ArrayIndexOutOfBoundsException" "java/lang/ArrayIndexOutOfBoundsException") ∈ lw_tbl := lw_at lw_m5 177 rfl
theorem q1211 : (Jvm.Cond.selects "java/lang/ArrayIndexOutOfBoundsException" ({ cls := "java/lang/Throwable", name := "fillInStackTrace", desc := "(I)Ljava/lang/Throwable;" } : Jvm.MethodName) ({ cls := "java/lang/Throwable", name := "fillInStackTrace", desc := "(I)Ljava/lang/Throwable;" } : Jvm.MethodName)) ∈ lw_all := lw_g (lw_at lw_m5 180 rfl) rfl
theorem q1849 : (Jvm.Cond.castable "java/lang/ArrayIndexOutOfBoundsException" "java/lang/IndexOutOfBoundsException") ∈ lw_tbl := lw_at lw_m8 98 rfl
theorem in_J13 : ∀ w ∈ wsJ130, w ∈ lw_all := lw_in wsJ130 [1201, 1202, 1203, 1204, 1205, 1206] (by decide +kernel) (by decide +kernel)

/-! java/lang/ArithmeticException -/
set_option maxRecDepth 100000
def RJ14 : String := "java/lang/ArithmeticException"
def TJ14 : u_T := fun k => match k with
  | 0 => ("java/lang/Throwable", "backtrace", "Ljava/lang/Object;", false)
  | 1 => ("java/lang/Throwable", "detailMessage", "Ljava/lang/String;", false)
  | 2 => ("java/lang/Throwable", "cause", "Ljava/lang/Throwable;", false)
  | 3 => ("java/lang/Throwable", "stackTrace", "[Ljava/lang/StackTraceElement;", false)
  | 4 => ("java/lang/Throwable", "depth", "I", false)
  | _ => ("java/lang/Throwable", "suppressedExceptions", "Ljava/util/List;", false)
def tyJ14 : Nat → FieldType := fun k => match k with
  | 0 => .object "java/lang/Object"
  | 1 => .object "java/lang/String"
  | 2 => .object "java/lang/Throwable"
  | 3 => .array (.object "java/lang/StackTraceElement")
  | 4 => .int
  | _ => .object "java/util/List"
abbrev wsJ140 : List Cond := u_ws RJ14 TJ14 6
theorem nmJ14 : ∀ a, a < 6 → ∀ b, b < 6 → a ≠ b → (TJ14 a).2.1 ≠ (TJ14 b).2.1 := by decide +kernel
theorem tyJ14_ok : ∀ k, k < 6 → parseFieldDescriptor (TJ14 k).2.2.1 = some (tyJ14 k) := by decide +kernel
abbrev cJ14_init : ByteArray := prog_23_method_2_code
def yJ14_init : MethodName := ⟨RJ14, "<init>", "(Ljava/lang/String;)V"⟩
def dkwJ14_init_0 : List UInt8 := [42, 43, 183, 0, 7, 177]
abbrev dktJ14_init_0 : List UInt8 := dkwJ14_init_0 ++ []
theorem dksJ14_init_0 : cJ14_init.data.toList.drop 0 = dktJ14_init_0 := by decide +kernel
theorem dJ14_init_0 : decode cJ14_init 0 = .ok (.aload_n 0, 1) := dk_42 (dk_at dksJ14_init_0 0 rfl rfl)
theorem dJ14_init_1 : decode cJ14_init 1 = .ok (.aload_n 1, 1) := dk_43 (dk_at dksJ14_init_0 1 rfl rfl)
theorem dJ14_init_2 : decode cJ14_init 2 = .ok (.invokespecial 7, 3) := dk_183 0 7 (dk_at dksJ14_init_0 2 rfl rfl)
theorem dJ14_init_5 : decode cJ14_init 5 = .ok (.return_, 1) := dk_177 (dk_at dksJ14_init_0 5 rfl rfl)
theorem q104 : (Jvm.Cond.initialized "java/lang/ArithmeticException") ∈ lw_all := lw_g (lw_at lw_m1 33 rfl) rfl
theorem q493 : (Jvm.Cond.selects "java/lang/ArithmeticException" ({ cls := "java/lang/Throwable", name := "fillInStackTrace", desc := "()Ljava/lang/Throwable;" } : Jvm.MethodName) ({ cls := "java/lang/Throwable", name := "fillInStackTrace", desc := "()Ljava/lang/Throwable;" } : Jvm.MethodName)) ∈ lw_all := lw_g (lw_at lw_m2 182 rfl) rfl
theorem q1315 : (Jvm.Cond.instantiable "java/lang/ArithmeticException" (6 : Nat)) ∈ lw_all := lw_g (lw_at lw_m6 44 rfl) rfl
theorem q1316 : (Jvm.Cond.instanceMethod ({ cls := "java/lang/ArithmeticException", name := "<init>", desc := "(Ljava/lang/String;)V" } : Jvm.MethodName)) ∈ lw_all := lw_g (lw_at lw_m6 45 rfl) rfl
theorem q1317 : (Jvm.Cond.code ({ cls := "java/lang/ArithmeticException", name := "<init>", desc := "(Ljava/lang/String;)V" } : Jvm.MethodName) prog_23_method_2_code (2 : Nat) (Option.none : Option Jvm.ClassFile.FieldType)) ∈ lw_all := lw_g (lw_at lw_m6 46 rfl) rfl
theorem q1318 : (Jvm.Cond.methodLink "java/lang/ArithmeticException" (7 : Nat) ({ cls := "java/lang/RuntimeException", name := "<init>", desc := "(Ljava/lang/String;)V" } : Jvm.MethodName)) ∈ lw_all := lw_g (lw_at lw_m6 47 rfl) rfl
theorem q1319 : (Jvm.Cond.lays "java/lang/ArithmeticException" "java/lang/Throwable" "backtrace" "Ljava/lang/Object;") ∈ lw_all := lw_g (lw_at lw_m6 48 rfl) rfl
theorem q1320 : (Jvm.Cond.lays "java/lang/ArithmeticException" "java/lang/Throwable" "detailMessage" "Ljava/lang/String;") ∈ lw_all := lw_g (lw_at lw_m6 49 rfl) rfl
theorem q1321 : (Jvm.Cond.lays "java/lang/ArithmeticException" "java/lang/Throwable" "cause" "Ljava/lang/Throwable;") ∈ lw_all := lw_g (lw_at lw_m6 50 rfl) rfl
theorem q1322 : (Jvm.Cond.lays "java/lang/ArithmeticException" "java/lang/Throwable" "stackTrace" "[Ljava/lang/StackTraceElement;") ∈ lw_all := lw_g (lw_at lw_m6 51 rfl) rfl
theorem q1323 : (Jvm.Cond.lays "java/lang/ArithmeticException" "java/lang/Throwable" "depth" "I") ∈ lw_all := lw_g (lw_at lw_m6 52 rfl) rfl
theorem q1324 : (Jvm.Cond.lays "java/lang/ArithmeticException" "java/lang/Throwable" "suppressedExceptions" "Ljava/util/List;") ∈ lw_all := lw_g (lw_at lw_m6 53 rfl) rfl
theorem q1325 : (Jvm.Cond.superclass "java/lang/ArithmeticException" "java/lang/RuntimeException") ∈ lw_all := lw_g (lw_at lw_m6 54 rfl) rfl
theorem q1326 : (Jvm.Cond.castable "java/lang/ArithmeticException" "java/lang/ArithmeticException") ∈ lw_tbl := lw_at lw_m6 55 rfl
theorem q1327 : (Jvm.Cond.selects "java/lang/ArithmeticException" ({ cls := "java/lang/Throwable", name := "fillInStackTrace", desc := "(I)Ljava/lang/Throwable;" } : Jvm.MethodName) ({ cls := "java/lang/Throwable", name := "fillInStackTrace", desc := "(I)Ljava/lang/Throwable;" } : Jvm.MethodName)) ∈ lw_all := lw_g (lw_at lw_m6 56 rfl) rfl
theorem in_J14 : ∀ w ∈ wsJ140, w ∈ lw_all := lw_in wsJ140 [1319, 1320, 1321, 1322, 1323, 1324] (by decide +kernel) (by decide +kernel)

/-! java/lang/Object -/
set_option maxRecDepth 100000
def RJ15 : String := "java/lang/Object"
abbrev cJ15_init : ByteArray := object_method_1_code
def yJ15_init : MethodName := ⟨RJ15, "<init>", "()V"⟩
theorem dJ15_init_0 : decode cJ15_init 0 = .ok (.return_, 1) := by decide +kernel
theorem q111 : (Jvm.Cond.instanceMethod ({ cls := "java/lang/Object", name := "<init>", desc := "()V" } : Jvm.MethodName)) ∈ lw_all := lw_g (lw_at lw_m1 40 rfl) rfl
theorem q112 : (Jvm.Cond.code ({ cls := "java/lang/Object", name := "<init>", desc := "()V" } : Jvm.MethodName) object_method_1_code (1 : Nat) (Option.none : Option Jvm.ClassFile.FieldType)) ∈ lw_all := lw_g (lw_at lw_m1 41 rfl) rfl

/-! java/lang/RuntimeException -/
set_option maxRecDepth 100000
def RJ2 : String := "java/lang/RuntimeException"
abbrev cJ2_init : ByteArray := prog_32_method_2_code
def yJ2_init : MethodName := ⟨RJ2, "<init>", "(Ljava/lang/String;)V"⟩
def dkwJ2_init_0 : List UInt8 := [42, 43, 183, 0, 7, 177]
abbrev dktJ2_init_0 : List UInt8 := dkwJ2_init_0 ++ []
theorem dksJ2_init_0 : cJ2_init.data.toList.drop 0 = dktJ2_init_0 := by decide +kernel
theorem dJ2_init_0 : decode cJ2_init 0 = .ok (.aload_n 0, 1) := dk_42 (dk_at dksJ2_init_0 0 rfl rfl)
theorem dJ2_init_1 : decode cJ2_init 1 = .ok (.aload_n 1, 1) := dk_43 (dk_at dksJ2_init_0 1 rfl rfl)
theorem dJ2_init_2 : decode cJ2_init 2 = .ok (.invokespecial 7, 3) := dk_183 0 7 (dk_at dksJ2_init_0 2 rfl rfl)
theorem dJ2_init_5 : decode cJ2_init 5 = .ok (.return_, 1) := dk_177 (dk_at dksJ2_init_0 5 rfl rfl)
abbrev cJ2_init_2 : ByteArray := prog_32_method_1_code
def yJ2_init_2 : MethodName := ⟨RJ2, "<init>", "()V"⟩
theorem dJ2_init_2_0 : decode cJ2_init_2 0 = .ok (.aload_n 0, 1) := by decide +kernel
theorem dJ2_init_2_1 : decode cJ2_init_2 1 = .ok (.invokespecial 1, 3) := by decide +kernel
theorem dJ2_init_2_4 : decode cJ2_init_2 4 = .ok (.return_, 1) := by decide +kernel
theorem q84 : (Jvm.Cond.initialized "java/lang/RuntimeException") ∈ lw_all := lw_g (lw_at lw_m1 13 rfl) rfl
theorem q476 : (Jvm.Cond.instanceMethod ({ cls := "java/lang/RuntimeException", name := "<init>", desc := "(Ljava/lang/String;)V" } : Jvm.MethodName)) ∈ lw_all := lw_g (lw_at lw_m2 165 rfl) rfl
theorem q477 : (Jvm.Cond.code ({ cls := "java/lang/RuntimeException", name := "<init>", desc := "(Ljava/lang/String;)V" } : Jvm.MethodName) prog_32_method_2_code (2 : Nat) (Option.none : Option Jvm.ClassFile.FieldType)) ∈ lw_all := lw_g (lw_at lw_m2 166 rfl) rfl
theorem q478 : (Jvm.Cond.methodLink "java/lang/RuntimeException" (7 : Nat) ({ cls := "java/lang/Exception", name := "<init>", desc := "(Ljava/lang/String;)V" } : Jvm.MethodName)) ∈ lw_all := lw_g (lw_at lw_m2 167 rfl) rfl
theorem q507 : (Jvm.Cond.sameMethod "java/lang/RuntimeException" "java/lang/Throwable" "fillInStackTrace" "()Ljava/lang/Throwable;") ∈ lw_all := lw_g (lw_at lw_m2 196 rfl) rfl
theorem q510 : (Jvm.Cond.superclass "java/lang/RuntimeException" "java/lang/Exception") ∈ lw_all := lw_g (lw_at lw_m2 199 rfl) rfl
theorem q537 : (Jvm.Cond.declares ({ cls := "java/lang/RuntimeException", name := "<init>", desc := "()V" } : Jvm.MethodName)) ∈ lw_tbl := lw_at lw_m2 226 rfl
theorem q538 : (Jvm.Cond.declares ({ cls := "java/lang/RuntimeException", name := "<init>", desc := "(Ljava/lang/String;)V" } : Jvm.MethodName)) ∈ lw_tbl := lw_at lw_m2 227 rfl
theorem q1172 : (Jvm.Cond.instanceMethod ({ cls := "java/lang/RuntimeException", name := "<init>", desc := "()V" } : Jvm.MethodName)) ∈ lw_all := lw_g (lw_at lw_m5 141 rfl) rfl
theorem q1173 : (Jvm.Cond.code ({ cls := "java/lang/RuntimeException", name := "<init>", desc := "()V" } : Jvm.MethodName) prog_32_method_1_code (1 : Nat) (Option.none : Option Jvm.ClassFile.FieldType)) ∈ lw_all := lw_g (lw_at lw_m5 142 rfl) rfl
theorem q1174 : (Jvm.Cond.methodLink "java/lang/RuntimeException" (1 : Nat) ({ cls := "java/lang/Exception", name := "<init>", desc := "()V" } : Jvm.MethodName)) ∈ lw_all := lw_g (lw_at lw_m5 143 rfl) rfl
theorem q1192 : (Jvm.Cond.castable "java/lang/RuntimeException" "java/lang/Throwable") ∈ lw_tbl := lw_at lw_m5 161 rfl

/-! java/lang/ClassCastException -/
set_option maxRecDepth 100000
def RJ3 : String := "java/lang/ClassCastException"
def TJ3 : u_T := fun k => match k with
  | 0 => ("java/lang/Throwable", "backtrace", "Ljava/lang/Object;", false)
  | 1 => ("java/lang/Throwable", "detailMessage", "Ljava/lang/String;", false)
  | 2 => ("java/lang/Throwable", "cause", "Ljava/lang/Throwable;", false)
  | 3 => ("java/lang/Throwable", "stackTrace", "[Ljava/lang/StackTraceElement;", false)
  | 4 => ("java/lang/Throwable", "depth", "I", false)
  | _ => ("java/lang/Throwable", "suppressedExceptions", "Ljava/util/List;", false)
def tyJ3 : Nat → FieldType := fun k => match k with
  | 0 => .object "java/lang/Object"
  | 1 => .object "java/lang/String"
  | 2 => .object "java/lang/Throwable"
  | 3 => .array (.object "java/lang/StackTraceElement")
  | 4 => .int
  | _ => .object "java/util/List"
abbrev wsJ30 : List Cond := u_ws RJ3 TJ3 6
theorem nmJ3 : ∀ a, a < 6 → ∀ b, b < 6 → a ≠ b → (TJ3 a).2.1 ≠ (TJ3 b).2.1 := by decide +kernel
theorem tyJ3_ok : ∀ k, k < 6 → parseFieldDescriptor (TJ3 k).2.2.1 = some (tyJ3 k) := by decide +kernel
abbrev cJ3_init : ByteArray := prog_25_method_2_code
def yJ3_init : MethodName := ⟨RJ3, "<init>", "(Ljava/lang/String;)V"⟩
def dkwJ3_init_0 : List UInt8 := [42, 43, 183, 0, 7, 177]
abbrev dktJ3_init_0 : List UInt8 := dkwJ3_init_0 ++ []
theorem dksJ3_init_0 : cJ3_init.data.toList.drop 0 = dktJ3_init_0 := by decide +kernel
theorem dJ3_init_0 : decode cJ3_init 0 = .ok (.aload_n 0, 1) := dk_42 (dk_at dksJ3_init_0 0 rfl rfl)
theorem dJ3_init_1 : decode cJ3_init 1 = .ok (.aload_n 1, 1) := dk_43 (dk_at dksJ3_init_0 1 rfl rfl)
theorem dJ3_init_2 : decode cJ3_init 2 = .ok (.invokespecial 7, 3) := dk_183 0 7 (dk_at dksJ3_init_0 2 rfl rfl)
theorem dJ3_init_5 : decode cJ3_init 5 = .ok (.return_, 1) := dk_177 (dk_at dksJ3_init_0 5 rfl rfl)
theorem q85 : (Jvm.Cond.initialized "java/lang/ClassCastException") ∈ lw_all := lw_g (lw_at lw_m1 14 rfl) rfl
theorem q472 : (Jvm.Cond.instantiable "java/lang/ClassCastException" (6 : Nat)) ∈ lw_all := lw_g (lw_at lw_m2 161 rfl) rfl
theorem q473 : (Jvm.Cond.instanceMethod ({ cls := "java/lang/ClassCastException", name := "<init>", desc := "(Ljava/lang/String;)V" } : Jvm.MethodName)) ∈ lw_all := lw_g (lw_at lw_m2 162 rfl) rfl
theorem q474 : (Jvm.Cond.code ({ cls := "java/lang/ClassCastException", name := "<init>", desc := "(Ljava/lang/String;)V" } : Jvm.MethodName) prog_25_method_2_code (2 : Nat) (Option.none : Option Jvm.ClassFile.FieldType)) ∈ lw_all := lw_g (lw_at lw_m2 163 rfl) rfl
theorem q475 : (Jvm.Cond.methodLink "java/lang/ClassCastException" (7 : Nat) ({ cls := "java/lang/RuntimeException", name := "<init>", desc := "(Ljava/lang/String;)V" } : Jvm.MethodName)) ∈ lw_all := lw_g (lw_at lw_m2 164 rfl) rfl
theorem q495 : (Jvm.Cond.selects "java/lang/ClassCastException" ({ cls := "java/lang/Throwable", name := "fillInStackTrace", desc := "()Ljava/lang/Throwable;" } : Jvm.MethodName) ({ cls := "java/lang/Throwable", name := "fillInStackTrace", desc := "()Ljava/lang/Throwable;" } : Jvm.MethodName)) ∈ lw_all := lw_g (lw_at lw_m2 184 rfl) rfl
theorem q523 : (Jvm.Cond.lays "java/lang/ClassCastException" "java/lang/Throwable" "backtrace" "Ljava/lang/Object;") ∈ lw_all := lw_g (lw_at lw_m2 212 rfl) rfl
theorem q525 : (Jvm.Cond.lays "java/lang/ClassCastException" "java/lang/Throwable" "detailMessage" "Ljava/lang/String;") ∈ lw_all := lw_g (lw_at lw_m2 214 rfl) rfl
theorem q527 : (Jvm.Cond.lays "java/lang/ClassCastException" "java/lang/Throwable" "cause" "Ljava/lang/Throwable;") ∈ lw_all := lw_g (lw_at lw_m2 216 rfl) rfl
theorem q529 : (Jvm.Cond.lays "java/lang/ClassCastException" "java/lang/Throwable" "stackTrace" "[Ljava/lang/StackTraceElement;") ∈ lw_all := lw_g (lw_at lw_m2 218 rfl) rfl
theorem q531 : (Jvm.Cond.lays "java/lang/ClassCastException" "java/lang/Throwable" "depth" "I") ∈ lw_all := lw_g (lw_at lw_m2 220 rfl) rfl
theorem q533 : (Jvm.Cond.lays "java/lang/ClassCastException" "java/lang/Throwable" "suppressedExceptions" "Ljava/util/List;") ∈ lw_all := lw_g (lw_at lw_m2 222 rfl) rfl
theorem q535 : (Jvm.Cond.superclass "java/lang/ClassCastException" "java/lang/RuntimeException") ∈ lw_all := lw_g (lw_at lw_m2 224 rfl) rfl
theorem q536 : (Jvm.Cond.castable "java/lang/ClassCastException" "java/lang/ClassCastException") ∈ lw_tbl := lw_at lw_m2 225 rfl
theorem q543 : (Jvm.Cond.selects "java/lang/ClassCastException" ({ cls := "java/lang/Throwable", name := "fillInStackTrace", desc := "(I)Ljava/lang/Throwable;" } : Jvm.MethodName) ({ cls := "java/lang/Throwable", name := "fillInStackTrace", desc := "(I)Ljava/lang/Throwable;" } : Jvm.MethodName)) ∈ lw_all := lw_g (lw_at lw_m2 232 rfl) rfl
theorem in_J3 : ∀ w ∈ wsJ30, w ∈ lw_all := lw_in wsJ30 [523, 525, 527, 529, 531, 533] (by decide +kernel) (by decide +kernel)

/-! java/lang/String -/
set_option maxRecDepth 100000
def RJ4 : String := "java/lang/String"
def TJ4 : u_T := fun k => match k with
  | 0 => ("java/lang/String", "value", "[B", true)
  | _ => ("java/lang/String", "coder", "B", true)
def tyJ4 : Nat → FieldType := fun k => match k with
  | 0 => .array .byte
  | _ => .byte
abbrev wsJ40 : List Cond := u_ws RJ4 TJ4 2
theorem nmJ4 : ∀ a, a < 2 → ∀ b, b < 2 → a ≠ b → (TJ4 a).2.1 ≠ (TJ4 b).2.1 := by decide +kernel
theorem tyJ4_ok : ∀ k, k < 2 → parseFieldDescriptor (TJ4 k).2.2.1 = some (tyJ4 k) := by decide +kernel
abbrev cJ4_length : ByteArray := prog_33_method_54_code
def yJ4_length : MethodName := ⟨RJ4, "length", "()I"⟩
def dkwJ4_length_0 : List UInt8 := [42, 180, 0, 9, 190, 42, 182, 1, 79, 122, 172]
abbrev dktJ4_length_0 : List UInt8 := dkwJ4_length_0 ++ []
theorem dksJ4_length_0 : cJ4_length.data.toList.drop 0 = dktJ4_length_0 := by decide +kernel
theorem dJ4_length_0 : decode cJ4_length 0 = .ok (.aload_n 0, 1) := dk_42 (dk_at dksJ4_length_0 0 rfl rfl)
theorem dJ4_length_1 : decode cJ4_length 1 = .ok (.getfield 9, 3) := dk_180 0 9 (dk_at dksJ4_length_0 1 rfl rfl)
theorem dJ4_length_4 : decode cJ4_length 4 = .ok (.arraylength, 1) := dk_190 (dk_at dksJ4_length_0 4 rfl rfl)
theorem dJ4_length_5 : decode cJ4_length 5 = .ok (.aload_n 0, 1) := dk_42 (dk_at dksJ4_length_0 5 rfl rfl)
theorem dJ4_length_6 : decode cJ4_length 6 = .ok (.invokevirtual 335, 3) := dk_182 1 79 (dk_at dksJ4_length_0 6 rfl rfl)
theorem dJ4_length_9 : decode cJ4_length 9 = .ok (.ishr, 1) := dk_122 (dk_at dksJ4_length_0 9 rfl rfl)
theorem dJ4_length_10 : decode cJ4_length 10 = .ok (.ireturn, 1) := dk_172 (dk_at dksJ4_length_0 10 rfl rfl)
abbrev cJ4_coder : ByteArray := prog_33_method_152_code
def yJ4_coder : MethodName := ⟨RJ4, "coder", "()B"⟩
def dkwJ4_coder_0 : List UInt8 := [178, 0, 38, 153, 0, 10, 42, 180, 0, 15, 167, 0, 4, 4, 172]
abbrev dktJ4_coder_0 : List UInt8 := dkwJ4_coder_0 ++ []
theorem dksJ4_coder_0 : cJ4_coder.data.toList.drop 0 = dktJ4_coder_0 := by decide +kernel
theorem dJ4_coder_0 : decode cJ4_coder 0 = .ok (.getstatic 38, 3) := dk_178 0 38 (dk_at dksJ4_coder_0 0 rfl rfl)
theorem dJ4_coder_3 : decode cJ4_coder 3 = .ok (.ifCond .eq 10, 3) := dk_153 0 10 (dk_at dksJ4_coder_0 3 rfl rfl)
theorem dJ4_coder_6 : decode cJ4_coder 6 = .ok (.aload_n 0, 1) := dk_42 (dk_at dksJ4_coder_0 6 rfl rfl)
theorem dJ4_coder_7 : decode cJ4_coder 7 = .ok (.getfield 15, 3) := dk_180 0 15 (dk_at dksJ4_coder_0 7 rfl rfl)
theorem dJ4_coder_10 : decode cJ4_coder 10 = .ok (.goto 4, 3) := dk_167 0 4 (dk_at dksJ4_coder_0 10 rfl rfl)
theorem dJ4_coder_13 : decode cJ4_coder 13 = .ok (.iconst 1, 1) := dk_4 (dk_at dksJ4_coder_0 13 rfl rfl)
theorem dJ4_coder_14 : decode cJ4_coder 14 = .ok (.ireturn, 1) := dk_172 (dk_at dksJ4_coder_0 14 rfl rfl)
abbrev cJ4_charAt : ByteArray := prog_33_method_56_code
def yJ4_charAt : MethodName := ⟨RJ4, "charAt", "(I)C"⟩
def dkwJ4_charAt_1 : List UInt8 := [172]
abbrev dktJ4_charAt_1 : List UInt8 := dkwJ4_charAt_1 ++ []
def dkwJ4_charAt_0 : List UInt8 := [42, 182, 1, 236, 153, 0, 12, 42, 180, 0, 9, 27, 184, 1, 239, 172, 42, 180, 0, 9, 27, 184, 1, 242]
abbrev dktJ4_charAt_0 : List UInt8 := dkwJ4_charAt_0 ++ dktJ4_charAt_1
theorem dksJ4_charAt_0 : cJ4_charAt.data.toList.drop 0 = dktJ4_charAt_0 := by decide +kernel
theorem dksJ4_charAt_1 : cJ4_charAt.data.toList.drop 24 = dktJ4_charAt_1 := dk_seg dksJ4_charAt_0 24 rfl rfl
theorem dJ4_charAt_0 : decode cJ4_charAt 0 = .ok (.aload_n 0, 1) := dk_42 (dk_at dksJ4_charAt_0 0 rfl rfl)
theorem dJ4_charAt_1 : decode cJ4_charAt 1 = .ok (.invokevirtual 492, 3) := dk_182 1 236 (dk_at dksJ4_charAt_0 1 rfl rfl)
theorem dJ4_charAt_4 : decode cJ4_charAt 4 = .ok (.ifCond .eq 12, 3) := dk_153 0 12 (dk_at dksJ4_charAt_0 4 rfl rfl)
theorem dJ4_charAt_7 : decode cJ4_charAt 7 = .ok (.aload_n 0, 1) := dk_42 (dk_at dksJ4_charAt_0 7 rfl rfl)
theorem dJ4_charAt_8 : decode cJ4_charAt 8 = .ok (.getfield 9, 3) := dk_180 0 9 (dk_at dksJ4_charAt_0 8 rfl rfl)
theorem dJ4_charAt_11 : decode cJ4_charAt 11 = .ok (.iload_n 1, 1) := dk_27 (dk_at dksJ4_charAt_0 11 rfl rfl)
theorem dJ4_charAt_12 : decode cJ4_charAt 12 = .ok (.invokestatic 495, 3) := dk_184 1 239 (dk_at dksJ4_charAt_0 12 rfl rfl)
theorem dJ4_charAt_15 : decode cJ4_charAt 15 = .ok (.ireturn, 1) := dk_172 (dk_at dksJ4_charAt_0 15 rfl rfl)
theorem dJ4_charAt_16 : decode cJ4_charAt 16 = .ok (.aload_n 0, 1) := dk_42 (dk_at dksJ4_charAt_0 16 rfl rfl)
theorem dJ4_charAt_17 : decode cJ4_charAt 17 = .ok (.getfield 9, 3) := dk_180 0 9 (dk_at dksJ4_charAt_0 17 rfl rfl)
theorem dJ4_charAt_20 : decode cJ4_charAt 20 = .ok (.iload_n 1, 1) := dk_27 (dk_at dksJ4_charAt_0 20 rfl rfl)
theorem dJ4_charAt_21 : decode cJ4_charAt 21 = .ok (.invokestatic 498, 3) := dk_184 1 242 (dk_at dksJ4_charAt_0 21 rfl rfl)
theorem dJ4_charAt_24 : decode cJ4_charAt 24 = .ok (.ireturn, 1) := dk_172 (dk_at dksJ4_charAt_1 0 rfl rfl)
abbrev cJ4_isLatin1 : ByteArray := prog_33_method_154_code
def yJ4_isLatin1 : MethodName := ⟨RJ4, "isLatin1", "()Z"⟩
def dkwJ4_isLatin1_0 : List UInt8 := [178, 0, 38, 153, 0, 14, 42, 180, 0, 15, 154, 0, 7, 4, 167, 0, 4, 3, 172]
abbrev dktJ4_isLatin1_0 : List UInt8 := dkwJ4_isLatin1_0 ++ []
theorem dksJ4_isLatin1_0 : cJ4_isLatin1.data.toList.drop 0 = dktJ4_isLatin1_0 := by decide +kernel
theorem dJ4_isLatin1_0 : decode cJ4_isLatin1 0 = .ok (.getstatic 38, 3) := dk_178 0 38 (dk_at dksJ4_isLatin1_0 0 rfl rfl)
theorem dJ4_isLatin1_3 : decode cJ4_isLatin1 3 = .ok (.ifCond .eq 14, 3) := dk_153 0 14 (dk_at dksJ4_isLatin1_0 3 rfl rfl)
theorem dJ4_isLatin1_6 : decode cJ4_isLatin1 6 = .ok (.aload_n 0, 1) := dk_42 (dk_at dksJ4_isLatin1_0 6 rfl rfl)
theorem dJ4_isLatin1_7 : decode cJ4_isLatin1 7 = .ok (.getfield 15, 3) := dk_180 0 15 (dk_at dksJ4_isLatin1_0 7 rfl rfl)
theorem dJ4_isLatin1_10 : decode cJ4_isLatin1 10 = .ok (.ifCond .ne 7, 3) := dk_154 0 7 (dk_at dksJ4_isLatin1_0 10 rfl rfl)
theorem dJ4_isLatin1_13 : decode cJ4_isLatin1 13 = .ok (.iconst 1, 1) := dk_4 (dk_at dksJ4_isLatin1_0 13 rfl rfl)
theorem dJ4_isLatin1_14 : decode cJ4_isLatin1 14 = .ok (.goto 4, 3) := dk_167 0 4 (dk_at dksJ4_isLatin1_0 14 rfl rfl)
theorem dJ4_isLatin1_17 : decode cJ4_isLatin1 17 = .ok (.iconst 0, 1) := dk_3 (dk_at dksJ4_isLatin1_0 17 rfl rfl)
theorem dJ4_isLatin1_18 : decode cJ4_isLatin1 18 = .ok (.ireturn, 1) := dk_172 (dk_at dksJ4_isLatin1_0 18 rfl rfl)
abbrev cJ4_checkIndex : ByteArray := prog_33_method_155_code
def yJ4_checkIndex : MethodName := ⟨RJ4, "checkIndex", "(II)V"⟩
def dkwJ4_checkIndex_0 : List UInt8 := [26, 27, 178, 4, 29, 184, 4, 35, 87, 177]
abbrev dktJ4_checkIndex_0 : List UInt8 := dkwJ4_checkIndex_0 ++ []
theorem dksJ4_checkIndex_0 : cJ4_checkIndex.data.toList.drop 0 = dktJ4_checkIndex_0 := by decide +kernel
theorem dJ4_checkIndex_0 : decode cJ4_checkIndex 0 = .ok (.iload_n 0, 1) := dk_26 (dk_at dksJ4_checkIndex_0 0 rfl rfl)
theorem dJ4_checkIndex_1 : decode cJ4_checkIndex 1 = .ok (.iload_n 1, 1) := dk_27 (dk_at dksJ4_checkIndex_0 1 rfl rfl)
theorem dJ4_checkIndex_2 : decode cJ4_checkIndex 2 = .ok (.getstatic 1053, 3) := dk_178 4 29 (dk_at dksJ4_checkIndex_0 2 rfl rfl)
theorem dJ4_checkIndex_5 : decode cJ4_checkIndex 5 = .ok (.invokestatic 1059, 3) := dk_184 4 35 (dk_at dksJ4_checkIndex_0 5 rfl rfl)
theorem dJ4_checkIndex_8 : decode cJ4_checkIndex 8 = .ok (.pop, 1) := dk_87 (dk_at dksJ4_checkIndex_0 8 rfl rfl)
theorem dJ4_checkIndex_9 : decode cJ4_checkIndex 9 = .ok (.return_, 1) := dk_177 (dk_at dksJ4_checkIndex_0 9 rfl rfl)
theorem q86 : (Jvm.Cond.initialized "java/lang/String") ∈ lw_all := lw_g (lw_at lw_m1 15 rfl) rfl
theorem q553 : (Jvm.Cond.instantiable "java/lang/String" (4 : Nat)) ∈ lw_all := lw_g (lw_at lw_m3 2 rfl) rfl
theorem q554 : (Jvm.Cond.laysFinal "java/lang/String" "java/lang/String" "value" "[B") ∈ lw_all := lw_g (lw_at lw_m3 3 rfl) rfl
theorem q555 : (Jvm.Cond.soleField "java/lang/String" "value") ∈ lw_all := lw_g (lw_at lw_m3 4 rfl) rfl
theorem q556 : (Jvm.Cond.laysFinal "java/lang/String" "java/lang/String" "coder" "B") ∈ lw_all := lw_g (lw_at lw_m3 5 rfl) rfl
theorem q557 : (Jvm.Cond.soleField "java/lang/String" "coder") ∈ lw_all := lw_g (lw_at lw_m3 6 rfl) rfl
theorem q958 : (Jvm.Cond.instanceMethod ({ cls := "java/lang/String", name := "length", desc := "()I" } : Jvm.MethodName)) ∈ lw_all := lw_g (lw_at lw_m4 167 rfl) rfl
theorem q959 : (Jvm.Cond.selects "java/lang/String" ({ cls := "java/lang/String", name := "length", desc := "()I" } : Jvm.MethodName) ({ cls := "java/lang/String", name := "length", desc := "()I" } : Jvm.MethodName)) ∈ lw_all := lw_g (lw_at lw_m4 168 rfl) rfl
theorem q960 : (Jvm.Cond.code ({ cls := "java/lang/String", name := "length", desc := "()I" } : Jvm.MethodName) prog_33_method_54_code (1 : Nat) (Option.some Jvm.ClassFile.FieldType.int)) ∈ lw_all := lw_g (lw_at lw_m4 169 rfl) rfl
theorem q961 : (Jvm.Cond.methodLink "java/lang/String" (335 : Nat) ({ cls := "java/lang/String", name := "coder", desc := "()B" } : Jvm.MethodName)) ∈ lw_all := lw_g (lw_at lw_m4 170 rfl) rfl
theorem q962 : (Jvm.Cond.instanceMethod ({ cls := "java/lang/String", name := "coder", desc := "()B" } : Jvm.MethodName)) ∈ lw_all := lw_g (lw_at lw_m4 171 rfl) rfl
theorem q963 : (Jvm.Cond.selects "java/lang/String" ({ cls := "java/lang/String", name := "coder", desc := "()B" } : Jvm.MethodName) ({ cls := "java/lang/String", name := "coder", desc := "()B" } : Jvm.MethodName)) ∈ lw_all := lw_g (lw_at lw_m4 172 rfl) rfl
theorem q964 : (Jvm.Cond.code ({ cls := "java/lang/String", name := "coder", desc := "()B" } : Jvm.MethodName) prog_33_method_152_code (1 : Nat) (Option.some Jvm.ClassFile.FieldType.byte)) ∈ lw_all := lw_g (lw_at lw_m4 173 rfl) rfl
theorem q965 : (Jvm.Cond.fieldLink "java/lang/String" (38 : Nat) "java/lang/String" "COMPACT_STRINGS" "Z") ∈ lw_all := lw_g (lw_at lw_m4 174 rfl) rfl
theorem q966 : (Jvm.Cond.laysStatic "java/lang/String" "COMPACT_STRINGS" "Z") ∈ lw_tbl := lw_at lw_m4 175 rfl
theorem q968 : (Jvm.Cond.instanceMethod ({ cls := "java/lang/String", name := "charAt", desc := "(I)C" } : Jvm.MethodName)) ∈ lw_all := lw_g (lw_at lw_m4 177 rfl) rfl
theorem q969 : (Jvm.Cond.selects "java/lang/String" ({ cls := "java/lang/String", name := "charAt", desc := "(I)C" } : Jvm.MethodName) ({ cls := "java/lang/String", name := "charAt", desc := "(I)C" } : Jvm.MethodName)) ∈ lw_all := lw_g (lw_at lw_m4 178 rfl) rfl
theorem q970 : (Jvm.Cond.code ({ cls := "java/lang/String", name := "charAt", desc := "(I)C" } : Jvm.MethodName) prog_33_method_56_code (2 : Nat) (Option.some Jvm.ClassFile.FieldType.char)) ∈ lw_all := lw_g (lw_at lw_m4 179 rfl) rfl
theorem q971 : (Jvm.Cond.methodLink "java/lang/String" (492 : Nat) ({ cls := "java/lang/String", name := "isLatin1", desc := "()Z" } : Jvm.MethodName)) ∈ lw_all := lw_g (lw_at lw_m4 180 rfl) rfl
theorem q972 : (Jvm.Cond.instanceMethod ({ cls := "java/lang/String", name := "isLatin1", desc := "()Z" } : Jvm.MethodName)) ∈ lw_all := lw_g (lw_at lw_m4 181 rfl) rfl
theorem q973 : (Jvm.Cond.selects "java/lang/String" ({ cls := "java/lang/String", name := "isLatin1", desc := "()Z" } : Jvm.MethodName) ({ cls := "java/lang/String", name := "isLatin1", desc := "()Z" } : Jvm.MethodName)) ∈ lw_all := lw_g (lw_at lw_m4 182 rfl) rfl
theorem q974 : (Jvm.Cond.code ({ cls := "java/lang/String", name := "isLatin1", desc := "()Z" } : Jvm.MethodName) prog_33_method_154_code (1 : Nat) (Option.some Jvm.ClassFile.FieldType.boolean)) ∈ lw_all := lw_g (lw_at lw_m4 183 rfl) rfl
theorem q975 : (Jvm.Cond.methodLink "java/lang/String" (495 : Nat) ({ cls := "java/lang/StringLatin1", name := "charAt", desc := "([BI)C" } : Jvm.MethodName)) ∈ lw_all := lw_g (lw_at lw_m4 184 rfl) rfl
theorem q979 : (Jvm.Cond.static ({ cls := "java/lang/String", name := "checkIndex", desc := "(II)V" } : Jvm.MethodName)) ∈ lw_all := lw_g (lw_at lw_m4 188 rfl) rfl
theorem q980 : (Jvm.Cond.code ({ cls := "java/lang/String", name := "checkIndex", desc := "(II)V" } : Jvm.MethodName) prog_33_method_155_code (2 : Nat) (Option.none : Option Jvm.ClassFile.FieldType)) ∈ lw_all := lw_g (lw_at lw_m4 189 rfl) rfl
theorem q981 : (Jvm.Cond.fieldLink "java/lang/String" (1053 : Nat) "jdk/internal/util/Preconditions" "SIOOBE_FORMATTER" "Ljava/util/function/BiFunction;") ∈ lw_all := lw_g (lw_at lw_m4 190 rfl) rfl
theorem q983 : (Jvm.Cond.methodLink "java/lang/String" (1059 : Nat) ({ cls := "jdk/internal/util/Preconditions", name := "checkIndex", desc := "(IILjava/util/function/BiFunction;)I" } : Jvm.MethodName)) ∈ lw_all := lw_g (lw_at lw_m4 192 rfl) rfl
theorem q986 : (Jvm.Cond.methodLink "java/lang/String" (498 : Nat) ({ cls := "java/lang/StringUTF16", name := "charAt", desc := "([BI)C" } : Jvm.MethodName)) ∈ lw_all := lw_g (lw_at lw_m4 195 rfl) rfl
theorem q1857 : (Jvm.Cond.fieldLink "java/lang/String" (9 : Nat) "java/lang/String" "value" "[B") ∈ lw_all := lw_g (lw_at lw_m8 106 rfl) rfl
theorem q1858 : (Jvm.Cond.fieldLink "java/lang/String" (15 : Nat) "java/lang/String" "coder" "B") ∈ lw_all := lw_g (lw_at lw_m8 107 rfl) rfl
theorem in_J4 : ∀ w ∈ wsJ40, w ∈ lw_all := lw_in wsJ40 [554, 556] (by decide +kernel) (by decide +kernel)

/-! java/lang/Math -/
set_option maxRecDepth 100000
def RJ5 : String := "java/lang/Math"
abbrev cJ5_abs : ByteArray := prog_29_method_59_code
def yJ5_abs : MethodName := ⟨RJ5, "abs", "(I)I"⟩
def dkwJ5_abs_0 : List UInt8 := [26, 156, 0, 8, 26, 116, 167, 0, 4, 26, 172]
abbrev dktJ5_abs_0 : List UInt8 := dkwJ5_abs_0 ++ []
theorem dksJ5_abs_0 : cJ5_abs.data.toList.drop 0 = dktJ5_abs_0 := by decide +kernel
theorem dJ5_abs_0 : decode cJ5_abs 0 = .ok (.iload_n 0, 1) := dk_26 (dk_at dksJ5_abs_0 0 rfl rfl)
theorem dJ5_abs_1 : decode cJ5_abs 1 = .ok (.ifCond .ge 8, 3) := dk_156 0 8 (dk_at dksJ5_abs_0 1 rfl rfl)
theorem dJ5_abs_4 : decode cJ5_abs 4 = .ok (.iload_n 0, 1) := dk_26 (dk_at dksJ5_abs_0 4 rfl rfl)
theorem dJ5_abs_5 : decode cJ5_abs 5 = .ok (.ineg, 1) := dk_116 (dk_at dksJ5_abs_0 5 rfl rfl)
theorem dJ5_abs_6 : decode cJ5_abs 6 = .ok (.goto 4, 3) := dk_167 0 4 (dk_at dksJ5_abs_0 6 rfl rfl)
theorem dJ5_abs_9 : decode cJ5_abs 9 = .ok (.iload_n 0, 1) := dk_26 (dk_at dksJ5_abs_0 9 rfl rfl)
theorem dJ5_abs_10 : decode cJ5_abs 10 = .ok (.ireturn, 1) := dk_172 (dk_at dksJ5_abs_0 10 rfl rfl)
abbrev cJ5_min : ByteArray := prog_29_method_69_code
def yJ5_min : MethodName := ⟨RJ5, "min", "(II)I"⟩
def dkwJ5_min_0 : List UInt8 := [26, 27, 163, 0, 7, 26, 167, 0, 4, 27, 172]
abbrev dktJ5_min_0 : List UInt8 := dkwJ5_min_0 ++ []
theorem dksJ5_min_0 : cJ5_min.data.toList.drop 0 = dktJ5_min_0 := by decide +kernel
theorem dJ5_min_0 : decode cJ5_min 0 = .ok (.iload_n 0, 1) := dk_26 (dk_at dksJ5_min_0 0 rfl rfl)
theorem dJ5_min_1 : decode cJ5_min 1 = .ok (.iload_n 1, 1) := dk_27 (dk_at dksJ5_min_0 1 rfl rfl)
theorem dJ5_min_2 : decode cJ5_min 2 = .ok (.if_icmp .gt 7, 3) := dk_163 0 7 (dk_at dksJ5_min_0 2 rfl rfl)
theorem dJ5_min_5 : decode cJ5_min 5 = .ok (.iload_n 0, 1) := dk_26 (dk_at dksJ5_min_0 5 rfl rfl)
theorem dJ5_min_6 : decode cJ5_min 6 = .ok (.goto 4, 3) := dk_167 0 4 (dk_at dksJ5_min_0 6 rfl rfl)
theorem dJ5_min_9 : decode cJ5_min 9 = .ok (.iload_n 1, 1) := dk_27 (dk_at dksJ5_min_0 9 rfl rfl)
theorem dJ5_min_10 : decode cJ5_min 10 = .ok (.ireturn, 1) := dk_172 (dk_at dksJ5_min_0 10 rfl rfl)
abbrev cJ5_max : ByteArray := prog_29_method_65_code
def yJ5_max : MethodName := ⟨RJ5, "max", "(II)I"⟩
def dkwJ5_max_0 : List UInt8 := [26, 27, 161, 0, 7, 26, 167, 0, 4, 27, 172]
abbrev dktJ5_max_0 : List UInt8 := dkwJ5_max_0 ++ []
theorem dksJ5_max_0 : cJ5_max.data.toList.drop 0 = dktJ5_max_0 := by decide +kernel
theorem dJ5_max_0 : decode cJ5_max 0 = .ok (.iload_n 0, 1) := dk_26 (dk_at dksJ5_max_0 0 rfl rfl)
theorem dJ5_max_1 : decode cJ5_max 1 = .ok (.iload_n 1, 1) := dk_27 (dk_at dksJ5_max_0 1 rfl rfl)
theorem dJ5_max_2 : decode cJ5_max 2 = .ok (.if_icmp .lt 7, 3) := dk_161 0 7 (dk_at dksJ5_max_0 2 rfl rfl)
theorem dJ5_max_5 : decode cJ5_max 5 = .ok (.iload_n 0, 1) := dk_26 (dk_at dksJ5_max_0 5 rfl rfl)
theorem dJ5_max_6 : decode cJ5_max 6 = .ok (.goto 4, 3) := dk_167 0 4 (dk_at dksJ5_max_0 6 rfl rfl)
theorem dJ5_max_9 : decode cJ5_max 9 = .ok (.iload_n 1, 1) := dk_27 (dk_at dksJ5_max_0 9 rfl rfl)
theorem dJ5_max_10 : decode cJ5_max 10 = .ok (.ireturn, 1) := dk_172 (dk_at dksJ5_max_0 10 rfl rfl)
theorem q87 : (Jvm.Cond.initialized "java/lang/Math") ∈ lw_all := lw_g (lw_at lw_m1 16 rfl) rfl
theorem q600 : (Jvm.Cond.static ({ cls := "java/lang/Math", name := "abs", desc := "(I)I" } : Jvm.MethodName)) ∈ lw_all := lw_g (lw_at lw_m3 49 rfl) rfl
theorem q601 : (Jvm.Cond.code ({ cls := "java/lang/Math", name := "abs", desc := "(I)I" } : Jvm.MethodName) prog_29_method_59_code (1 : Nat) (Option.some Jvm.ClassFile.FieldType.int)) ∈ lw_all := lw_g (lw_at lw_m3 50 rfl) rfl
theorem q689 : (Jvm.Cond.static ({ cls := "java/lang/Math", name := "min", desc := "(II)I" } : Jvm.MethodName)) ∈ lw_all := lw_g (lw_at lw_m3 138 rfl) rfl
theorem q690 : (Jvm.Cond.code ({ cls := "java/lang/Math", name := "min", desc := "(II)I" } : Jvm.MethodName) prog_29_method_69_code (2 : Nat) (Option.some Jvm.ClassFile.FieldType.int)) ∈ lw_all := lw_g (lw_at lw_m3 139 rfl) rfl
theorem q692 : (Jvm.Cond.static ({ cls := "java/lang/Math", name := "max", desc := "(II)I" } : Jvm.MethodName)) ∈ lw_all := lw_g (lw_at lw_m3 141 rfl) rfl
theorem q693 : (Jvm.Cond.code ({ cls := "java/lang/Math", name := "max", desc := "(II)I" } : Jvm.MethodName) prog_29_method_65_code (2 : Nat) (Option.some Jvm.ClassFile.FieldType.int)) ∈ lw_all := lw_g (lw_at lw_m3 142 rfl) rfl

/-! java/lang/Integer -/
set_option maxRecDepth 100000
def RJ6 : String := "java/lang/Integer"
abbrev cJ6_numberOfTrailingZeros : ByteArray := prog_28_method_48_code
def yJ6_numberOfTrailingZeros : MethodName := ⟨RJ6, "numberOfTrailingZeros", "(I)I"⟩
def dkwJ6_numberOfTrailingZeros_3 : List UInt8 := [5, 124, 59, 27, 26, 4, 124, 96, 172]
abbrev dktJ6_numberOfTrailingZeros_3 : List UInt8 := dkwJ6_numberOfTrailingZeros_3 ++ []
def dkwJ6_numberOfTrailingZeros_2 : List UInt8 := [124, 59, 26, 16, 16, 164, 0, 10, 132, 1, 4, 26, 7, 124, 59, 26, 7, 164, 0, 10, 132, 1, 2, 26]
abbrev dktJ6_numberOfTrailingZeros_2 : List UInt8 := dkwJ6_numberOfTrailingZeros_2 ++ dktJ6_numberOfTrailingZeros_3
def dkwJ6_numberOfTrailingZeros_1 : List UInt8 := [164, 0, 11, 132, 1, 16, 26, 16, 16, 124, 59, 26, 17, 1, 0, 164, 0, 11, 132, 1, 8, 26, 16, 8]
abbrev dktJ6_numberOfTrailingZeros_1 : List UInt8 := dkwJ6_numberOfTrailingZeros_1 ++ dktJ6_numberOfTrailingZeros_2
def dkwJ6_numberOfTrailingZeros_0 : List UInt8 := [26, 2, 130, 26, 4, 100, 126, 59, 26, 157, 0, 8, 26, 16, 32, 126, 172, 4, 60, 26, 19, 1, 8]
abbrev dktJ6_numberOfTrailingZeros_0 : List UInt8 := dkwJ6_numberOfTrailingZeros_0 ++ dktJ6_numberOfTrailingZeros_1
theorem dksJ6_numberOfTrailingZeros_0 : cJ6_numberOfTrailingZeros.data.toList.drop 0 = dktJ6_numberOfTrailingZeros_0 := by decide +kernel
theorem dksJ6_numberOfTrailingZeros_1 : cJ6_numberOfTrailingZeros.data.toList.drop 23 = dktJ6_numberOfTrailingZeros_1 := dk_seg dksJ6_numberOfTrailingZeros_0 23 rfl rfl
theorem dksJ6_numberOfTrailingZeros_2 : cJ6_numberOfTrailingZeros.data.toList.drop 47 = dktJ6_numberOfTrailingZeros_2 := dk_seg dksJ6_numberOfTrailingZeros_1 24 rfl rfl
theorem dksJ6_numberOfTrailingZeros_3 : cJ6_numberOfTrailingZeros.data.toList.drop 71 = dktJ6_numberOfTrailingZeros_3 := dk_seg dksJ6_numberOfTrailingZeros_2 24 rfl rfl
theorem dJ6_numberOfTrailingZeros_0 : decode cJ6_numberOfTrailingZeros 0 = .ok (.iload_n 0, 1) := dk_26 (dk_at dksJ6_numberOfTrailingZeros_0 0 rfl rfl)
theorem dJ6_numberOfTrailingZeros_1 : decode cJ6_numberOfTrailingZeros 1 = .ok (.iconst (-1), 1) := dk_2 (dk_at dksJ6_numberOfTrailingZeros_0 1 rfl rfl)
theorem dJ6_numberOfTrailingZeros_2 : decode cJ6_numberOfTrailingZeros 2 = .ok (.ixor, 1) := dk_130 (dk_at dksJ6_numberOfTrailingZeros_0 2 rfl rfl)
theorem dJ6_numberOfTrailingZeros_3 : decode cJ6_numberOfTrailingZeros 3 = .ok (.iload_n 0, 1) := dk_26 (dk_at dksJ6_numberOfTrailingZeros_0 3 rfl rfl)
theorem dJ6_numberOfTrailingZeros_4 : decode cJ6_numberOfTrailingZeros 4 = .ok (.iconst 1, 1) := dk_4 (dk_at dksJ6_numberOfTrailingZeros_0 4 rfl rfl)
theorem dJ6_numberOfTrailingZeros_5 : decode cJ6_numberOfTrailingZeros 5 = .ok (.isub, 1) := dk_100 (dk_at dksJ6_numberOfTrailingZeros_0 5 rfl rfl)
theorem dJ6_numberOfTrailingZeros_6 : decode cJ6_numberOfTrailingZeros 6 = .ok (.iand, 1) := dk_126 (dk_at dksJ6_numberOfTrailingZeros_0 6 rfl rfl)
theorem dJ6_numberOfTrailingZeros_7 : decode cJ6_numberOfTrailingZeros 7 = .ok (.istore_n 0, 1) := dk_59 (dk_at dksJ6_numberOfTrailingZeros_0 7 rfl rfl)
theorem dJ6_numberOfTrailingZeros_8 : decode cJ6_numberOfTrailingZeros 8 = .ok (.iload_n 0, 1) := dk_26 (dk_at dksJ6_numberOfTrailingZeros_0 8 rfl rfl)
theorem dJ6_numberOfTrailingZeros_9 : decode cJ6_numberOfTrailingZeros 9 = .ok (.ifCond .gt 8, 3) := dk_157 0 8 (dk_at dksJ6_numberOfTrailingZeros_0 9 rfl rfl)
theorem dJ6_numberOfTrailingZeros_12 : decode cJ6_numberOfTrailingZeros 12 = .ok (.iload_n 0, 1) := dk_26 (dk_at dksJ6_numberOfTrailingZeros_0 12 rfl rfl)
theorem dJ6_numberOfTrailingZeros_13 : decode cJ6_numberOfTrailingZeros 13 = .ok (.bipush 32, 2) := dk_16 32 (dk_at dksJ6_numberOfTrailingZeros_0 13 rfl rfl)
theorem dJ6_numberOfTrailingZeros_15 : decode cJ6_numberOfTrailingZeros 15 = .ok (.iand, 1) := dk_126 (dk_at dksJ6_numberOfTrailingZeros_0 15 rfl rfl)
theorem dJ6_numberOfTrailingZeros_16 : decode cJ6_numberOfTrailingZeros 16 = .ok (.ireturn, 1) := dk_172 (dk_at dksJ6_numberOfTrailingZeros_0 16 rfl rfl)
theorem dJ6_numberOfTrailingZeros_17 : decode cJ6_numberOfTrailingZeros 17 = .ok (.iconst 1, 1) := dk_4 (dk_at dksJ6_numberOfTrailingZeros_0 17 rfl rfl)
theorem dJ6_numberOfTrailingZeros_18 : decode cJ6_numberOfTrailingZeros 18 = .ok (.istore_n 1, 1) := dk_60 (dk_at dksJ6_numberOfTrailingZeros_0 18 rfl rfl)
theorem dJ6_numberOfTrailingZeros_19 : decode cJ6_numberOfTrailingZeros 19 = .ok (.iload_n 0, 1) := dk_26 (dk_at dksJ6_numberOfTrailingZeros_0 19 rfl rfl)
theorem dJ6_numberOfTrailingZeros_20 : decode cJ6_numberOfTrailingZeros 20 = .ok (.ldc_w 264, 3) := dk_19 1 8 (dk_at dksJ6_numberOfTrailingZeros_0 20 rfl rfl)
theorem dJ6_numberOfTrailingZeros_23 : decode cJ6_numberOfTrailingZeros 23 = .ok (.if_icmp .le 11, 3) := dk_164 0 11 (dk_at dksJ6_numberOfTrailingZeros_1 0 rfl rfl)
theorem dJ6_numberOfTrailingZeros_26 : decode cJ6_numberOfTrailingZeros 26 = .ok (.iinc 1 16, 3) := dk_132 1 16 (dk_at dksJ6_numberOfTrailingZeros_1 3 rfl rfl)
theorem dJ6_numberOfTrailingZeros_29 : decode cJ6_numberOfTrailingZeros 29 = .ok (.iload_n 0, 1) := dk_26 (dk_at dksJ6_numberOfTrailingZeros_1 6 rfl rfl)
theorem dJ6_numberOfTrailingZeros_30 : decode cJ6_numberOfTrailingZeros 30 = .ok (.bipush 16, 2) := dk_16 16 (dk_at dksJ6_numberOfTrailingZeros_1 7 rfl rfl)
theorem dJ6_numberOfTrailingZeros_32 : decode cJ6_numberOfTrailingZeros 32 = .ok (.iushr, 1) := dk_124 (dk_at dksJ6_numberOfTrailingZeros_1 9 rfl rfl)
theorem dJ6_numberOfTrailingZeros_33 : decode cJ6_numberOfTrailingZeros 33 = .ok (.istore_n 0, 1) := dk_59 (dk_at dksJ6_numberOfTrailingZeros_1 10 rfl rfl)
theorem dJ6_numberOfTrailingZeros_34 : decode cJ6_numberOfTrailingZeros 34 = .ok (.iload_n 0, 1) := dk_26 (dk_at dksJ6_numberOfTrailingZeros_1 11 rfl rfl)
theorem dJ6_numberOfTrailingZeros_35 : decode cJ6_numberOfTrailingZeros 35 = .ok (.sipush 256, 3) := dk_17 1 0 (dk_at dksJ6_numberOfTrailingZeros_1 12 rfl rfl)
theorem dJ6_numberOfTrailingZeros_38 : decode cJ6_numberOfTrailingZeros 38 = .ok (.if_icmp .le 11, 3) := dk_164 0 11 (dk_at dksJ6_numberOfTrailingZeros_1 15 rfl rfl)
theorem dJ6_numberOfTrailingZeros_41 : decode cJ6_numberOfTrailingZeros 41 = .ok (.iinc 1 8, 3) := dk_132 1 8 (dk_at dksJ6_numberOfTrailingZeros_1 18 rfl rfl)
theorem dJ6_numberOfTrailingZeros_44 : decode cJ6_numberOfTrailingZeros 44 = .ok (.iload_n 0, 1) := dk_26 (dk_at dksJ6_numberOfTrailingZeros_1 21 rfl rfl)
theorem dJ6_numberOfTrailingZeros_45 : decode cJ6_numberOfTrailingZeros 45 = .ok (.bipush 8, 2) := dk_16 8 (dk_at dksJ6_numberOfTrailingZeros_1 22 rfl rfl)
theorem dJ6_numberOfTrailingZeros_47 : decode cJ6_numberOfTrailingZeros 47 = .ok (.iushr, 1) := dk_124 (dk_at dksJ6_numberOfTrailingZeros_2 0 rfl rfl)
theorem dJ6_numberOfTrailingZeros_48 : decode cJ6_numberOfTrailingZeros 48 = .ok (.istore_n 0, 1) := dk_59 (dk_at dksJ6_numberOfTrailingZeros_2 1 rfl rfl)
theorem dJ6_numberOfTrailingZeros_49 : decode cJ6_numberOfTrailingZeros 49 = .ok (.iload_n 0, 1) := dk_26 (dk_at dksJ6_numberOfTrailingZeros_2 2 rfl rfl)
theorem dJ6_numberOfTrailingZeros_50 : decode cJ6_numberOfTrailingZeros 50 = .ok (.bipush 16, 2) := dk_16 16 (dk_at dksJ6_numberOfTrailingZeros_2 3 rfl rfl)
theorem dJ6_numberOfTrailingZeros_52 : decode cJ6_numberOfTrailingZeros 52 = .ok (.if_icmp .le 10, 3) := dk_164 0 10 (dk_at dksJ6_numberOfTrailingZeros_2 5 rfl rfl)
theorem dJ6_numberOfTrailingZeros_55 : decode cJ6_numberOfTrailingZeros 55 = .ok (.iinc 1 4, 3) := dk_132 1 4 (dk_at dksJ6_numberOfTrailingZeros_2 8 rfl rfl)
theorem dJ6_numberOfTrailingZeros_58 : decode cJ6_numberOfTrailingZeros 58 = .ok (.iload_n 0, 1) := dk_26 (dk_at dksJ6_numberOfTrailingZeros_2 11 rfl rfl)
theorem dJ6_numberOfTrailingZeros_59 : decode cJ6_numberOfTrailingZeros 59 = .ok (.iconst 4, 1) := dk_7 (dk_at dksJ6_numberOfTrailingZeros_2 12 rfl rfl)
theorem dJ6_numberOfTrailingZeros_60 : decode cJ6_numberOfTrailingZeros 60 = .ok (.iushr, 1) := dk_124 (dk_at dksJ6_numberOfTrailingZeros_2 13 rfl rfl)
theorem dJ6_numberOfTrailingZeros_61 : decode cJ6_numberOfTrailingZeros 61 = .ok (.istore_n 0, 1) := dk_59 (dk_at dksJ6_numberOfTrailingZeros_2 14 rfl rfl)
theorem dJ6_numberOfTrailingZeros_62 : decode cJ6_numberOfTrailingZeros 62 = .ok (.iload_n 0, 1) := dk_26 (dk_at dksJ6_numberOfTrailingZeros_2 15 rfl rfl)
theorem dJ6_numberOfTrailingZeros_63 : decode cJ6_numberOfTrailingZeros 63 = .ok (.iconst 4, 1) := dk_7 (dk_at dksJ6_numberOfTrailingZeros_2 16 rfl rfl)
theorem dJ6_numberOfTrailingZeros_64 : decode cJ6_numberOfTrailingZeros 64 = .ok (.if_icmp .le 10, 3) := dk_164 0 10 (dk_at dksJ6_numberOfTrailingZeros_2 17 rfl rfl)
theorem dJ6_numberOfTrailingZeros_67 : decode cJ6_numberOfTrailingZeros 67 = .ok (.iinc 1 2, 3) := dk_132 1 2 (dk_at dksJ6_numberOfTrailingZeros_2 20 rfl rfl)
theorem dJ6_numberOfTrailingZeros_70 : decode cJ6_numberOfTrailingZeros 70 = .ok (.iload_n 0, 1) := dk_26 (dk_at dksJ6_numberOfTrailingZeros_2 23 rfl rfl)
theorem dJ6_numberOfTrailingZeros_71 : decode cJ6_numberOfTrailingZeros 71 = .ok (.iconst 2, 1) := dk_5 (dk_at dksJ6_numberOfTrailingZeros_3 0 rfl rfl)
theorem dJ6_numberOfTrailingZeros_72 : decode cJ6_numberOfTrailingZeros 72 = .ok (.iushr, 1) := dk_124 (dk_at dksJ6_numberOfTrailingZeros_3 1 rfl rfl)
theorem dJ6_numberOfTrailingZeros_73 : decode cJ6_numberOfTrailingZeros 73 = .ok (.istore_n 0, 1) := dk_59 (dk_at dksJ6_numberOfTrailingZeros_3 2 rfl rfl)
theorem dJ6_numberOfTrailingZeros_74 : decode cJ6_numberOfTrailingZeros 74 = .ok (.iload_n 1, 1) := dk_27 (dk_at dksJ6_numberOfTrailingZeros_3 3 rfl rfl)
theorem dJ6_numberOfTrailingZeros_75 : decode cJ6_numberOfTrailingZeros 75 = .ok (.iload_n 0, 1) := dk_26 (dk_at dksJ6_numberOfTrailingZeros_3 4 rfl rfl)
theorem dJ6_numberOfTrailingZeros_76 : decode cJ6_numberOfTrailingZeros 76 = .ok (.iconst 1, 1) := dk_4 (dk_at dksJ6_numberOfTrailingZeros_3 5 rfl rfl)
theorem dJ6_numberOfTrailingZeros_77 : decode cJ6_numberOfTrailingZeros 77 = .ok (.iushr, 1) := dk_124 (dk_at dksJ6_numberOfTrailingZeros_3 6 rfl rfl)
theorem dJ6_numberOfTrailingZeros_78 : decode cJ6_numberOfTrailingZeros 78 = .ok (.iadd, 1) := dk_96 (dk_at dksJ6_numberOfTrailingZeros_3 7 rfl rfl)
theorem dJ6_numberOfTrailingZeros_79 : decode cJ6_numberOfTrailingZeros 79 = .ok (.ireturn, 1) := dk_172 (dk_at dksJ6_numberOfTrailingZeros_3 8 rfl rfl)
theorem q89 : (Jvm.Cond.initialized "java/lang/Integer") ∈ lw_all := lw_g (lw_at lw_m1 18 rfl) rfl
theorem q772 : (Jvm.Cond.static ({ cls := "java/lang/Integer", name := "numberOfTrailingZeros", desc := "(I)I" } : Jvm.MethodName)) ∈ lw_all := lw_g (lw_at lw_m3 221 rfl) rfl
theorem q773 : (Jvm.Cond.code ({ cls := "java/lang/Integer", name := "numberOfTrailingZeros", desc := "(I)I" } : Jvm.MethodName) prog_28_method_48_code (2 : Nat) (Option.some Jvm.ClassFile.FieldType.int)) ∈ lw_all := lw_g (lw_at lw_m3 222 rfl) rfl
theorem q774 : (Jvm.Cond.constant "java/lang/Integer" (264 : Nat) (65536 : Int32)) ∈ lw_all := lw_g (lw_at lw_m3 223 rfl) rfl

/-! java/lang/StringLatin1 -/
set_option maxRecDepth 100000
def RJ7 : String := "java/lang/StringLatin1"
abbrev cJ7_charAt : ByteArray := prog_34_method_2_code
def yJ7_charAt : MethodName := ⟨RJ7, "charAt", "([BI)C"⟩
def dkwJ7_charAt_0 : List UInt8 := [27, 42, 190, 184, 0, 9, 42, 27, 51, 17, 0, 255, 126, 146, 172]
abbrev dktJ7_charAt_0 : List UInt8 := dkwJ7_charAt_0 ++ []
theorem dksJ7_charAt_0 : cJ7_charAt.data.toList.drop 0 = dktJ7_charAt_0 := by decide +kernel
theorem dJ7_charAt_0 : decode cJ7_charAt 0 = .ok (.iload_n 1, 1) := dk_27 (dk_at dksJ7_charAt_0 0 rfl rfl)
theorem dJ7_charAt_1 : decode cJ7_charAt 1 = .ok (.aload_n 0, 1) := dk_42 (dk_at dksJ7_charAt_0 1 rfl rfl)
theorem dJ7_charAt_2 : decode cJ7_charAt 2 = .ok (.arraylength, 1) := dk_190 (dk_at dksJ7_charAt_0 2 rfl rfl)
theorem dJ7_charAt_3 : decode cJ7_charAt 3 = .ok (.invokestatic 9, 3) := dk_184 0 9 (dk_at dksJ7_charAt_0 3 rfl rfl)
theorem dJ7_charAt_6 : decode cJ7_charAt 6 = .ok (.aload_n 0, 1) := dk_42 (dk_at dksJ7_charAt_0 6 rfl rfl)
theorem dJ7_charAt_7 : decode cJ7_charAt 7 = .ok (.iload_n 1, 1) := dk_27 (dk_at dksJ7_charAt_0 7 rfl rfl)
theorem dJ7_charAt_8 : decode cJ7_charAt 8 = .ok (.baload, 1) := dk_51 (dk_at dksJ7_charAt_0 8 rfl rfl)
theorem dJ7_charAt_9 : decode cJ7_charAt 9 = .ok (.sipush 255, 3) := dk_17 0 255 (dk_at dksJ7_charAt_0 9 rfl rfl)
theorem dJ7_charAt_12 : decode cJ7_charAt 12 = .ok (.iand, 1) := dk_126 (dk_at dksJ7_charAt_0 12 rfl rfl)
theorem dJ7_charAt_13 : decode cJ7_charAt 13 = .ok (.i2c, 1) := dk_146 (dk_at dksJ7_charAt_0 13 rfl rfl)
theorem dJ7_charAt_14 : decode cJ7_charAt 14 = .ok (.ireturn, 1) := dk_172 (dk_at dksJ7_charAt_0 14 rfl rfl)
theorem q91 : (Jvm.Cond.initialized "java/lang/StringLatin1") ∈ lw_all := lw_g (lw_at lw_m1 20 rfl) rfl
theorem q976 : (Jvm.Cond.static ({ cls := "java/lang/StringLatin1", name := "charAt", desc := "([BI)C" } : Jvm.MethodName)) ∈ lw_all := lw_g (lw_at lw_m4 185 rfl) rfl
theorem q977 : (Jvm.Cond.code ({ cls := "java/lang/StringLatin1", name := "charAt", desc := "([BI)C" } : Jvm.MethodName) prog_34_method_2_code (2 : Nat) (Option.some Jvm.ClassFile.FieldType.char)) ∈ lw_all := lw_g (lw_at lw_m4 186 rfl) rfl
theorem q978 : (Jvm.Cond.methodLink "java/lang/StringLatin1" (9 : Nat) ({ cls := "java/lang/String", name := "checkIndex", desc := "(II)V" } : Jvm.MethodName)) ∈ lw_all := lw_g (lw_at lw_m4 187 rfl) rfl

/-! jdk/internal/util/Preconditions -/
set_option maxRecDepth 100000
def RJ8 : String := "jdk/internal/util/Preconditions"
abbrev cJ8_checkIndex : ByteArray := prog_38_method_11_code
def yJ8_checkIndex : MethodName := ⟨RJ8, "checkIndex", "(IILjava/util/function/BiFunction;)I"⟩
def dkwJ8_checkIndex_0 : List UInt8 := [26, 155, 0, 8, 26, 27, 161, 0, 10, 44, 26, 27, 184, 0, 95, 191, 26, 172]
abbrev dktJ8_checkIndex_0 : List UInt8 := dkwJ8_checkIndex_0 ++ []
theorem dksJ8_checkIndex_0 : cJ8_checkIndex.data.toList.drop 0 = dktJ8_checkIndex_0 := by decide +kernel
theorem dJ8_checkIndex_0 : decode cJ8_checkIndex 0 = .ok (.iload_n 0, 1) := dk_26 (dk_at dksJ8_checkIndex_0 0 rfl rfl)
theorem dJ8_checkIndex_1 : decode cJ8_checkIndex 1 = .ok (.ifCond .lt 8, 3) := dk_155 0 8 (dk_at dksJ8_checkIndex_0 1 rfl rfl)
theorem dJ8_checkIndex_4 : decode cJ8_checkIndex 4 = .ok (.iload_n 0, 1) := dk_26 (dk_at dksJ8_checkIndex_0 4 rfl rfl)
theorem dJ8_checkIndex_5 : decode cJ8_checkIndex 5 = .ok (.iload_n 1, 1) := dk_27 (dk_at dksJ8_checkIndex_0 5 rfl rfl)
theorem dJ8_checkIndex_6 : decode cJ8_checkIndex 6 = .ok (.if_icmp .lt 10, 3) := dk_161 0 10 (dk_at dksJ8_checkIndex_0 6 rfl rfl)
theorem dJ8_checkIndex_9 : decode cJ8_checkIndex 9 = .ok (.aload_n 2, 1) := dk_44 (dk_at dksJ8_checkIndex_0 9 rfl rfl)
theorem dJ8_checkIndex_10 : decode cJ8_checkIndex 10 = .ok (.iload_n 0, 1) := dk_26 (dk_at dksJ8_checkIndex_0 10 rfl rfl)
theorem dJ8_checkIndex_11 : decode cJ8_checkIndex 11 = .ok (.iload_n 1, 1) := dk_27 (dk_at dksJ8_checkIndex_0 11 rfl rfl)
theorem dJ8_checkIndex_12 : decode cJ8_checkIndex 12 = .ok (.invokestatic 95, 3) := dk_184 0 95 (dk_at dksJ8_checkIndex_0 12 rfl rfl)
theorem dJ8_checkIndex_15 : decode cJ8_checkIndex 15 = .ok (.athrow, 1) := dk_191 (dk_at dksJ8_checkIndex_0 15 rfl rfl)
theorem dJ8_checkIndex_16 : decode cJ8_checkIndex 16 = .ok (.iload_n 0, 1) := dk_26 (dk_at dksJ8_checkIndex_0 16 rfl rfl)
theorem dJ8_checkIndex_17 : decode cJ8_checkIndex 17 = .ok (.ireturn, 1) := dk_172 (dk_at dksJ8_checkIndex_0 17 rfl rfl)
theorem q92 : (Jvm.Cond.initialized "jdk/internal/util/Preconditions") ∈ lw_all := lw_g (lw_at lw_m1 21 rfl) rfl
theorem q982 : (Jvm.Cond.laysStatic "jdk/internal/util/Preconditions" "SIOOBE_FORMATTER" "Ljava/util/function/BiFunction;") ∈ lw_tbl := lw_at lw_m4 191 rfl
theorem q984 : (Jvm.Cond.static ({ cls := "jdk/internal/util/Preconditions", name := "checkIndex", desc := "(IILjava/util/function/BiFunction;)I" } : Jvm.MethodName)) ∈ lw_all := lw_g (lw_at lw_m4 193 rfl) rfl
theorem q985 : (Jvm.Cond.code ({ cls := "jdk/internal/util/Preconditions", name := "checkIndex", desc := "(IILjava/util/function/BiFunction;)I" } : Jvm.MethodName) prog_38_method_11_code (3 : Nat) (Option.some Jvm.ClassFile.FieldType.int)) ∈ lw_all := lw_g (lw_at lw_m4 194 rfl) rfl

/-! java/lang/StringUTF16 -/
set_option maxRecDepth 100000
def RJ9 : String := "java/lang/StringUTF16"
abbrev cJ9_charAt : ByteArray := prog_35_method_83_code
def yJ9_charAt : MethodName := ⟨RJ9, "charAt", "([BI)C"⟩
def dkwJ9_charAt_0 : List UInt8 := [27, 42, 184, 0, 67, 42, 27, 184, 0, 71, 172]
abbrev dktJ9_charAt_0 : List UInt8 := dkwJ9_charAt_0 ++ []
theorem dksJ9_charAt_0 : cJ9_charAt.data.toList.drop 0 = dktJ9_charAt_0 := by decide +kernel
theorem dJ9_charAt_0 : decode cJ9_charAt 0 = .ok (.iload_n 1, 1) := dk_27 (dk_at dksJ9_charAt_0 0 rfl rfl)
theorem dJ9_charAt_1 : decode cJ9_charAt 1 = .ok (.aload_n 0, 1) := dk_42 (dk_at dksJ9_charAt_0 1 rfl rfl)
theorem dJ9_charAt_2 : decode cJ9_charAt 2 = .ok (.invokestatic 67, 3) := dk_184 0 67 (dk_at dksJ9_charAt_0 2 rfl rfl)
theorem dJ9_charAt_5 : decode cJ9_charAt 5 = .ok (.aload_n 0, 1) := dk_42 (dk_at dksJ9_charAt_0 5 rfl rfl)
theorem dJ9_charAt_6 : decode cJ9_charAt 6 = .ok (.iload_n 1, 1) := dk_27 (dk_at dksJ9_charAt_0 6 rfl rfl)
theorem dJ9_charAt_7 : decode cJ9_charAt 7 = .ok (.invokestatic 71, 3) := dk_184 0 71 (dk_at dksJ9_charAt_0 7 rfl rfl)
theorem dJ9_charAt_10 : decode cJ9_charAt 10 = .ok (.ireturn, 1) := dk_172 (dk_at dksJ9_charAt_0 10 rfl rfl)
abbrev cJ9_checkIndex : ByteArray := prog_35_method_91_code
def yJ9_checkIndex : MethodName := ⟨RJ9, "checkIndex", "(I[B)V"⟩
def dkwJ9_checkIndex_0 : List UInt8 := [26, 43, 184, 0, 48, 184, 1, 158, 177]
abbrev dktJ9_checkIndex_0 : List UInt8 := dkwJ9_checkIndex_0 ++ []
theorem dksJ9_checkIndex_0 : cJ9_checkIndex.data.toList.drop 0 = dktJ9_checkIndex_0 := by decide +kernel
theorem dJ9_checkIndex_0 : decode cJ9_checkIndex 0 = .ok (.iload_n 0, 1) := dk_26 (dk_at dksJ9_checkIndex_0 0 rfl rfl)
theorem dJ9_checkIndex_1 : decode cJ9_checkIndex 1 = .ok (.aload_n 1, 1) := dk_43 (dk_at dksJ9_checkIndex_0 1 rfl rfl)
theorem dJ9_checkIndex_2 : decode cJ9_checkIndex 2 = .ok (.invokestatic 48, 3) := dk_184 0 48 (dk_at dksJ9_checkIndex_0 2 rfl rfl)
theorem dJ9_checkIndex_5 : decode cJ9_checkIndex 5 = .ok (.invokestatic 414, 3) := dk_184 1 158 (dk_at dksJ9_checkIndex_0 5 rfl rfl)
theorem dJ9_checkIndex_8 : decode cJ9_checkIndex 8 = .ok (.return_, 1) := dk_177 (dk_at dksJ9_checkIndex_0 8 rfl rfl)
abbrev cJ9_length : ByteArray := prog_35_method_6_code
def yJ9_length : MethodName := ⟨RJ9, "length", "([B)I"⟩
def dkwJ9_length_0 : List UInt8 := [42, 190, 4, 122, 172]
abbrev dktJ9_length_0 : List UInt8 := dkwJ9_length_0 ++ []
theorem dksJ9_length_0 : cJ9_length.data.toList.drop 0 = dktJ9_length_0 := by decide +kernel
theorem dJ9_length_0 : decode cJ9_length 0 = .ok (.aload_n 0, 1) := dk_42 (dk_at dksJ9_length_0 0 rfl rfl)
theorem dJ9_length_1 : decode cJ9_length 1 = .ok (.arraylength, 1) := dk_190 (dk_at dksJ9_length_0 1 rfl rfl)
theorem dJ9_length_2 : decode cJ9_length 2 = .ok (.iconst 1, 1) := dk_4 (dk_at dksJ9_length_0 2 rfl rfl)
theorem dJ9_length_3 : decode cJ9_length 3 = .ok (.ishr, 1) := dk_122 (dk_at dksJ9_length_0 3 rfl rfl)
theorem dJ9_length_4 : decode cJ9_length 4 = .ok (.ireturn, 1) := dk_172 (dk_at dksJ9_length_0 4 rfl rfl)
abbrev cJ9_getChar : ByteArray := prog_35_method_5_code
def yJ9_getChar : MethodName := ⟨RJ9, "getChar", "([BI)C"⟩
def dkwJ9_getChar_2 : List UInt8 := [51, 17, 0, 255, 126, 178, 0, 63, 120, 128, 146, 172]
abbrev dktJ9_getChar_2 : List UInt8 := dkwJ9_getChar_2 ++ []
def dkwJ9_getChar_1 : List UInt8 := [183, 0, 56, 191, 27, 4, 120, 60, 42, 27, 132, 1, 1, 51, 17, 0, 255, 126, 178, 0, 59, 120, 42, 27]
abbrev dktJ9_getChar_1 : List UInt8 := dkwJ9_getChar_1 ++ dktJ9_getChar_2
def dkwJ9_getChar_0 : List UInt8 := [178, 0, 44, 154, 0, 25, 27, 155, 0, 11, 27, 42, 184, 0, 48, 161, 0, 13, 187, 0, 52, 89, 18, 54]
abbrev dktJ9_getChar_0 : List UInt8 := dkwJ9_getChar_0 ++ dktJ9_getChar_1
theorem dksJ9_getChar_0 : cJ9_getChar.data.toList.drop 0 = dktJ9_getChar_0 := by decide +kernel
theorem dksJ9_getChar_1 : cJ9_getChar.data.toList.drop 24 = dktJ9_getChar_1 := dk_seg dksJ9_getChar_0 24 rfl rfl
theorem dksJ9_getChar_2 : cJ9_getChar.data.toList.drop 48 = dktJ9_getChar_2 := dk_seg dksJ9_getChar_1 24 rfl rfl
theorem dJ9_getChar_0 : decode cJ9_getChar 0 = .ok (.getstatic 44, 3) := dk_178 0 44 (dk_at dksJ9_getChar_0 0 rfl rfl)
theorem dJ9_getChar_3 : decode cJ9_getChar 3 = .ok (.ifCond .ne 25, 3) := dk_154 0 25 (dk_at dksJ9_getChar_0 3 rfl rfl)
theorem dJ9_getChar_6 : decode cJ9_getChar 6 = .ok (.iload_n 1, 1) := dk_27 (dk_at dksJ9_getChar_0 6 rfl rfl)
theorem dJ9_getChar_7 : decode cJ9_getChar 7 = .ok (.ifCond .lt 11, 3) := dk_155 0 11 (dk_at dksJ9_getChar_0 7 rfl rfl)
theorem dJ9_getChar_10 : decode cJ9_getChar 10 = .ok (.iload_n 1, 1) := dk_27 (dk_at dksJ9_getChar_0 10 rfl rfl)
theorem dJ9_getChar_11 : decode cJ9_getChar 11 = .ok (.aload_n 0, 1) := dk_42 (dk_at dksJ9_getChar_0 11 rfl rfl)
theorem dJ9_getChar_12 : decode cJ9_getChar 12 = .ok (.invokestatic 48, 3) := dk_184 0 48 (dk_at dksJ9_getChar_0 12 rfl rfl)
theorem dJ9_getChar_15 : decode cJ9_getChar 15 = .ok (.if_icmp .lt 13, 3) := dk_161 0 13 (dk_at dksJ9_getChar_0 15 rfl rfl)
theorem dJ9_getChar_18 : decode cJ9_getChar 18 = .ok (.new 52, 3) := dk_187 0 52 (dk_at dksJ9_getChar_0 18 rfl rfl)
theorem dJ9_getChar_21 : decode cJ9_getChar 21 = .ok (.dup, 1) := dk_89 (dk_at dksJ9_getChar_0 21 rfl rfl)
theorem dJ9_getChar_22 : decode cJ9_getChar 22 = .ok (.ldc 54, 2) := dk_18 54 (dk_at dksJ9_getChar_0 22 rfl rfl)
theorem dJ9_getChar_24 : decode cJ9_getChar 24 = .ok (.invokespecial 56, 3) := dk_183 0 56 (dk_at dksJ9_getChar_1 0 rfl rfl)
theorem dJ9_getChar_27 : decode cJ9_getChar 27 = .ok (.athrow, 1) := dk_191 (dk_at dksJ9_getChar_1 3 rfl rfl)
theorem dJ9_getChar_28 : decode cJ9_getChar 28 = .ok (.iload_n 1, 1) := dk_27 (dk_at dksJ9_getChar_1 4 rfl rfl)
theorem dJ9_getChar_29 : decode cJ9_getChar 29 = .ok (.iconst 1, 1) := dk_4 (dk_at dksJ9_getChar_1 5 rfl rfl)
theorem dJ9_getChar_30 : decode cJ9_getChar 30 = .ok (.ishl, 1) := dk_120 (dk_at dksJ9_getChar_1 6 rfl rfl)
theorem dJ9_getChar_31 : decode cJ9_getChar 31 = .ok (.istore_n 1, 1) := dk_60 (dk_at dksJ9_getChar_1 7 rfl rfl)
theorem dJ9_getChar_32 : decode cJ9_getChar 32 = .ok (.aload_n 0, 1) := dk_42 (dk_at dksJ9_getChar_1 8 rfl rfl)
theorem dJ9_getChar_33 : decode cJ9_getChar 33 = .ok (.iload_n 1, 1) := dk_27 (dk_at dksJ9_getChar_1 9 rfl rfl)
theorem dJ9_getChar_34 : decode cJ9_getChar 34 = .ok (.iinc 1 1, 3) := dk_132 1 1 (dk_at dksJ9_getChar_1 10 rfl rfl)
theorem dJ9_getChar_37 : decode cJ9_getChar 37 = .ok (.baload, 1) := dk_51 (dk_at dksJ9_getChar_1 13 rfl rfl)
theorem dJ9_getChar_38 : decode cJ9_getChar 38 = .ok (.sipush 255, 3) := dk_17 0 255 (dk_at dksJ9_getChar_1 14 rfl rfl)
theorem dJ9_getChar_41 : decode cJ9_getChar 41 = .ok (.iand, 1) := dk_126 (dk_at dksJ9_getChar_1 17 rfl rfl)
theorem dJ9_getChar_42 : decode cJ9_getChar 42 = .ok (.getstatic 59, 3) := dk_178 0 59 (dk_at dksJ9_getChar_1 18 rfl rfl)
theorem dJ9_getChar_45 : decode cJ9_getChar 45 = .ok (.ishl, 1) := dk_120 (dk_at dksJ9_getChar_1 21 rfl rfl)
theorem dJ9_getChar_46 : decode cJ9_getChar 46 = .ok (.aload_n 0, 1) := dk_42 (dk_at dksJ9_getChar_1 22 rfl rfl)
theorem dJ9_getChar_47 : decode cJ9_getChar 47 = .ok (.iload_n 1, 1) := dk_27 (dk_at dksJ9_getChar_1 23 rfl rfl)
theorem dJ9_getChar_48 : decode cJ9_getChar 48 = .ok (.baload, 1) := dk_51 (dk_at dksJ9_getChar_2 0 rfl rfl)
theorem dJ9_getChar_49 : decode cJ9_getChar 49 = .ok (.sipush 255, 3) := dk_17 0 255 (dk_at dksJ9_getChar_2 1 rfl rfl)
theorem dJ9_getChar_52 : decode cJ9_getChar 52 = .ok (.iand, 1) := dk_126 (dk_at dksJ9_getChar_2 4 rfl rfl)
theorem dJ9_getChar_53 : decode cJ9_getChar 53 = .ok (.getstatic 63, 3) := dk_178 0 63 (dk_at dksJ9_getChar_2 5 rfl rfl)
theorem dJ9_getChar_56 : decode cJ9_getChar 56 = .ok (.ishl, 1) := dk_120 (dk_at dksJ9_getChar_2 8 rfl rfl)
theorem dJ9_getChar_57 : decode cJ9_getChar 57 = .ok (.ior, 1) := dk_128 (dk_at dksJ9_getChar_2 9 rfl rfl)
theorem dJ9_getChar_58 : decode cJ9_getChar 58 = .ok (.i2c, 1) := dk_146 (dk_at dksJ9_getChar_2 10 rfl rfl)
theorem dJ9_getChar_59 : decode cJ9_getChar 59 = .ok (.ireturn, 1) := dk_172 (dk_at dksJ9_getChar_2 11 rfl rfl)
theorem q93 : (Jvm.Cond.initialized "java/lang/StringUTF16") ∈ lw_all := lw_g (lw_at lw_m1 22 rfl) rfl
theorem q987 : (Jvm.Cond.static ({ cls := "java/lang/StringUTF16", name := "charAt", desc := "([BI)C" } : Jvm.MethodName)) ∈ lw_all := lw_g (lw_at lw_m4 196 rfl) rfl
theorem q988 : (Jvm.Cond.code ({ cls := "java/lang/StringUTF16", name := "charAt", desc := "([BI)C" } : Jvm.MethodName) prog_35_method_83_code (2 : Nat) (Option.some Jvm.ClassFile.FieldType.char)) ∈ lw_all := lw_g (lw_at lw_m4 197 rfl) rfl
theorem q989 : (Jvm.Cond.methodLink "java/lang/StringUTF16" (67 : Nat) ({ cls := "java/lang/StringUTF16", name := "checkIndex", desc := "(I[B)V" } : Jvm.MethodName)) ∈ lw_all := lw_g (lw_at lw_m4 198 rfl) rfl
theorem q990 : (Jvm.Cond.static ({ cls := "java/lang/StringUTF16", name := "checkIndex", desc := "(I[B)V" } : Jvm.MethodName)) ∈ lw_all := lw_g (lw_at lw_m4 199 rfl) rfl
theorem q991 : (Jvm.Cond.code ({ cls := "java/lang/StringUTF16", name := "checkIndex", desc := "(I[B)V" } : Jvm.MethodName) prog_35_method_91_code (2 : Nat) (Option.none : Option Jvm.ClassFile.FieldType)) ∈ lw_all := lw_g (lw_at lw_m4 200 rfl) rfl
theorem q992 : (Jvm.Cond.methodLink "java/lang/StringUTF16" (48 : Nat) ({ cls := "java/lang/StringUTF16", name := "length", desc := "([B)I" } : Jvm.MethodName)) ∈ lw_all := lw_g (lw_at lw_m4 201 rfl) rfl
theorem q993 : (Jvm.Cond.static ({ cls := "java/lang/StringUTF16", name := "length", desc := "([B)I" } : Jvm.MethodName)) ∈ lw_all := lw_g (lw_at lw_m4 202 rfl) rfl
theorem q994 : (Jvm.Cond.code ({ cls := "java/lang/StringUTF16", name := "length", desc := "([B)I" } : Jvm.MethodName) prog_35_method_6_code (1 : Nat) (Option.some Jvm.ClassFile.FieldType.int)) ∈ lw_all := lw_g (lw_at lw_m4 203 rfl) rfl
theorem q995 : (Jvm.Cond.methodLink "java/lang/StringUTF16" (414 : Nat) ({ cls := "java/lang/String", name := "checkIndex", desc := "(II)V" } : Jvm.MethodName)) ∈ lw_all := lw_g (lw_at lw_m4 204 rfl) rfl
theorem q996 : (Jvm.Cond.methodLink "java/lang/StringUTF16" (71 : Nat) ({ cls := "java/lang/StringUTF16", name := "getChar", desc := "([BI)C" } : Jvm.MethodName)) ∈ lw_all := lw_g (lw_at lw_m4 205 rfl) rfl
theorem q997 : (Jvm.Cond.static ({ cls := "java/lang/StringUTF16", name := "getChar", desc := "([BI)C" } : Jvm.MethodName)) ∈ lw_all := lw_g (lw_at lw_m4 206 rfl) rfl
theorem q998 : (Jvm.Cond.code ({ cls := "java/lang/StringUTF16", name := "getChar", desc := "([BI)C" } : Jvm.MethodName) prog_35_method_5_code (2 : Nat) (Option.some Jvm.ClassFile.FieldType.char)) ∈ lw_all := lw_g (lw_at lw_m4 207 rfl) rfl
theorem q999 : (Jvm.Cond.fieldLink "java/lang/StringUTF16" (44 : Nat) "java/lang/StringUTF16" "$assertionsDisabled" "Z") ∈ lw_all := lw_g (lw_at lw_m4 208 rfl) rfl
theorem q1000 : (Jvm.Cond.laysStatic "java/lang/StringUTF16" "$assertionsDisabled" "Z") ∈ lw_tbl := lw_at lw_m4 209 rfl
theorem q1001 : (Jvm.Cond.fieldLink "java/lang/StringUTF16" (59 : Nat) "java/lang/StringUTF16" "HI_BYTE_SHIFT" "I") ∈ lw_all := lw_g (lw_at lw_m4 210 rfl) rfl
theorem q1002 : (Jvm.Cond.laysStatic "java/lang/StringUTF16" "HI_BYTE_SHIFT" "I") ∈ lw_tbl := lw_at lw_m4 211 rfl
theorem q1003 : (Jvm.Cond.fieldLink "java/lang/StringUTF16" (63 : Nat) "java/lang/StringUTF16" "LO_BYTE_SHIFT" "I") ∈ lw_all := lw_g (lw_at lw_m4 212 rfl) rfl
theorem q1004 : (Jvm.Cond.laysStatic "java/lang/StringUTF16" "LO_BYTE_SHIFT" "I") ∈ lw_tbl := lw_at lw_m4 213 rfl

theorem q71 : (Jvm.Cond.initialized "TwoGuildsLaw") ∈ lw_all := lw_g (lw_at lw_m1 0 rfl) rfl
set_option maxRecDepth 100000
theorem q105 : (Jvm.Cond.classLink "TwoGuildsLaw" (7 : Nat) "TwoGuilds") ∈ lw_all := lw_g (lw_at lw_m1 34 rfl) rfl
theorem q107 : (Jvm.Cond.methodLink "TwoGuildsLaw" (9 : Nat) ({ cls := "TwoGuilds", name := "<init>", desc := "()V" } : Jvm.MethodName)) ∈ lw_all := lw_g (lw_at lw_m1 36 rfl) rfl
theorem q264 : (Jvm.Cond.methodLink "TwoGuildsLaw" (13 : Nat) ({ cls := "TwoGuilds", name := "glove", desc := "(IIII)I" } : Jvm.MethodName)) ∈ lw_all := lw_g (lw_at lw_m1 193 rfl) rfl
theorem q407 : (Jvm.Cond.methodLink "TwoGuildsLaw" (18 : Nat) ({ cls := "TwoGuilds", name := "told", desc := "(II)I" } : Jvm.MethodName)) ∈ lw_all := lw_g (lw_at lw_m2 96 rfl) rfl
theorem q467 : (Jvm.Cond.methodLink "TwoGuildsLaw" (23 : Nat) ({ cls := "TwoGuilds", name := "as", desc := "(II)I" } : Jvm.MethodName)) ∈ lw_all := lw_g (lw_at lw_m2 156 rfl) rfl
theorem q562 : (Jvm.Cond.methodLink "TwoGuildsLaw" (27 : Nat) ({ cls := "TwoGuilds", name := "turns", desc := "(II)I" } : Jvm.MethodName)) ∈ lw_all := lw_g (lw_at lw_m3 11 rfl) rfl
theorem q576 : (Jvm.Cond.methodLink "TwoGuildsLaw" (31 : Nat) ({ cls := "TwoGuilds", name := "set", desc := "(III)I" } : Jvm.MethodName)) ∈ lw_all := lw_g (lw_at lw_m3 25 rfl) rfl
theorem q581 : (Jvm.Cond.methodLink "TwoGuildsLaw" (36 : Nat) ({ cls := "TwoGuilds", name := "fits", desc := "(II)I" } : Jvm.MethodName)) ∈ lw_all := lw_g (lw_at lw_m3 30 rfl) rfl
theorem q630 : (Jvm.Cond.methodLink "TwoGuildsLaw" (40 : Nat) ({ cls := "TwoGuilds", name := "value", desc := "(II)I" } : Jvm.MethodName)) ∈ lw_all := lw_g (lw_at lw_m3 79 rfl) rfl
theorem q741 : (Jvm.Cond.methodLink "TwoGuildsLaw" (44 : Nat) ({ cls := "TwoGuilds", name := "deal", desc := "(I)I" } : Jvm.MethodName)) ∈ lw_all := lw_g (lw_at lw_m3 190 rfl) rfl
theorem q751 : (Jvm.Cond.methodLink "TwoGuildsLaw" (49 : Nat) ({ cls := "TwoGuilds", name := "seed", desc := "(I)I" } : Jvm.MethodName)) ∈ lw_all := lw_g (lw_at lw_m3 200 rfl) rfl
theorem q755 : (Jvm.Cond.methodLink "TwoGuildsLaw" (53 : Nat) ({ cls := "TwoGuilds", name := "best", desc := "(I)I" } : Jvm.MethodName)) ∈ lw_all := lw_g (lw_at lw_m3 204 rfl) rfl
theorem q775 : (Jvm.Cond.methodLink "TwoGuildsLaw" (57 : Nat) ({ cls := "TwoGuilds", name := "partner", desc := "(I)I" } : Jvm.MethodName)) ∈ lw_all := lw_g (lw_at lw_m3 224 rfl) rfl
theorem q786 : (Jvm.Cond.methodLink "TwoGuildsLaw" (61 : Nat) ({ cls := "TwoGuilds", name := "adds", desc := "(I)I" } : Jvm.MethodName)) ∈ lw_all := lw_g (lw_at lw_m3 235 rfl) rfl
theorem q790 : (Jvm.Cond.methodLink "TwoGuildsLaw" (65 : Nat) ({ cls := "TwoGuilds", name := "leaves", desc := "(I)I" } : Jvm.MethodName)) ∈ lw_all := lw_g (lw_at lw_m3 239 rfl) rfl
theorem q815 : (Jvm.Cond.methodLink "TwoGuildsLaw" (69 : Nat) ({ cls := "TwoGuilds", name := "loss", desc := "(I)I" } : Jvm.MethodName)) ∈ lw_all := lw_g (lw_at lw_m4 24 rfl) rfl
theorem q820 : (Jvm.Cond.methodLink "TwoGuildsLaw" (73 : Nat) ({ cls := "TwoGuilds", name := "days", desc := "(I)I" } : Jvm.MethodName)) ∈ lw_all := lw_g (lw_at lw_m4 29 rfl) rfl
theorem q847 : (Jvm.Cond.methodLink "TwoGuildsLaw" (77 : Nat) ({ cls := "TwoGuilds", name := "behind", desc := "(II)I" } : Jvm.MethodName)) ∈ lw_all := lw_g (lw_at lw_m4 56 rfl) rfl
theorem q879 : (Jvm.Cond.methodLink "TwoGuildsLaw" (81 : Nat) ({ cls := "TwoGuilds", name := "keepHome", desc := "(I)I" } : Jvm.MethodName)) ∈ lw_all := lw_g (lw_at lw_m4 88 rfl) rfl
theorem q884 : (Jvm.Cond.methodLink "TwoGuildsLaw" (85 : Nat) ({ cls := "TwoGuilds", name := "fine", desc := "()I" } : Jvm.MethodName)) ∈ lw_all := lw_g (lw_at lw_m4 93 rfl) rfl
theorem q888 : (Jvm.Cond.methodLink "TwoGuildsLaw" (90 : Nat) ({ cls := "TwoGuilds", name := "worn", desc := "(II)I" } : Jvm.MethodName)) ∈ lw_all := lw_g (lw_at lw_m4 97 rfl) rfl
theorem q893 : (Jvm.Cond.methodLink "TwoGuildsLaw" (94 : Nat) ({ cls := "TwoGuilds", name := "forget", desc := "()I" } : Jvm.MethodName)) ∈ lw_all := lw_g (lw_at lw_m4 102 rfl) rfl
theorem q897 : (Jvm.Cond.methodLink "TwoGuildsLaw" (98 : Nat) ({ cls := "TwoGuilds", name := "joins", desc := "()I" } : Jvm.MethodName)) ∈ lw_all := lw_g (lw_at lw_m4 106 rfl) rfl
theorem q913 : (Jvm.Cond.methodLink "TwoGuildsLaw" (102 : Nat) ({ cls := "TwoGuilds", name := "sure", desc := "(I)I" } : Jvm.MethodName)) ∈ lw_all := lw_g (lw_at lw_m4 122 rfl) rfl
theorem q917 : (Jvm.Cond.methodLink "TwoGuildsLaw" (106 : Nat) ({ cls := "TwoGuilds", name := "better", desc := "(I)I" } : Jvm.MethodName)) ∈ lw_all := lw_g (lw_at lw_m4 126 rfl) rfl
theorem q921 : (Jvm.Cond.methodLink "TwoGuildsLaw" (110 : Nat) ({ cls := "TwoGuilds", name := "feed", desc := "(III)I" } : Jvm.MethodName)) ∈ lw_all := lw_g (lw_at lw_m4 130 rfl) rfl
theorem q925 : (Jvm.Cond.methodLink "TwoGuildsLaw" (114 : Nat) ({ cls := "TwoGuilds", name := "trim", desc := "(I)I" } : Jvm.MethodName)) ∈ lw_all := lw_g (lw_at lw_m4 134 rfl) rfl
theorem q929 : (Jvm.Cond.methodLink "TwoGuildsLaw" (118 : Nat) ({ cls := "TwoGuilds", name := "text", desc := "()I" } : Jvm.MethodName)) ∈ lw_all := lw_g (lw_at lw_m4 138 rfl) rfl
theorem q1134 : (Jvm.Cond.methodLink "TwoGuildsLaw" (122 : Nat) ({ cls := "TwoGuilds", name := "textTold", desc := "(II)I" } : Jvm.MethodName)) ∈ lw_all := lw_g (lw_at lw_m5 103 rfl) rfl
theorem q1138 : (Jvm.Cond.methodLink "TwoGuildsLaw" (126 : Nat) ({ cls := "TwoGuilds", name := "why", desc := "(I)I" } : Jvm.MethodName)) ∈ lw_all := lw_g (lw_at lw_m5 107 rfl) rfl
theorem q1142 : (Jvm.Cond.methodLink "TwoGuildsLaw" (130 : Nat) ({ cls := "TwoGuilds", name := "sheet", desc := "(III)I" } : Jvm.MethodName)) ∈ lw_all := lw_g (lw_at lw_m5 111 rfl) rfl
theorem q1164 : (Jvm.Cond.methodLink "TwoGuildsLaw" (134 : Nat) ({ cls := "TwoGuilds", name := "mark", desc := "(III)I" } : Jvm.MethodName)) ∈ lw_all := lw_g (lw_at lw_m5 133 rfl) rfl
theorem q1236 : (Jvm.Cond.methodLink "TwoGuildsLaw" (138 : Nat) ({ cls := "TwoGuilds", name := "pour", desc := "(I)I" } : Jvm.MethodName)) ∈ lw_all := lw_g (lw_at lw_m5 205 rfl) rfl
theorem q1240 : (Jvm.Cond.methodLink "TwoGuildsLaw" (142 : Nat) ({ cls := "TwoGuilds", name := "reads", desc := "(I)I" } : Jvm.MethodName)) ∈ lw_all := lw_g (lw_at lw_m5 209 rfl) rfl
theorem q1244 : (Jvm.Cond.methodLink "TwoGuildsLaw" (146 : Nat) ({ cls := "TwoGuilds", name := "copy", desc := "(IIIII)I" } : Jvm.MethodName)) ∈ lw_all := lw_g (lw_at lw_m5 213 rfl) rfl
theorem q1249 : (Jvm.Cond.methodLink "TwoGuildsLaw" (151 : Nat) ({ cls := "TwoGuilds", name := "lay", desc := "(III)I" } : Jvm.MethodName)) ∈ lw_all := lw_g (lw_at lw_m5 218 rfl) rfl
theorem q1274 : (Jvm.Cond.methodLink "TwoGuildsLaw" (155 : Nat) ({ cls := "TwoGuilds", name := "ask", desc := "(II)I" } : Jvm.MethodName)) ∈ lw_all := lw_g (lw_at lw_m6 3 rfl) rfl
theorem q1306 : (Jvm.Cond.methodLink "TwoGuildsLaw" (159 : Nat) ({ cls := "TwoGuilds", name := "item", desc := "(II)I" } : Jvm.MethodName)) ∈ lw_all := lw_g (lw_at lw_m6 35 rfl) rfl
theorem q1310 : (Jvm.Cond.methodLink "TwoGuildsLaw" (163 : Nat) ({ cls := "TwoGuilds", name := "rest", desc := "(II)I" } : Jvm.MethodName)) ∈ lw_all := lw_g (lw_at lw_m6 39 rfl) rfl
theorem q1329 : (Jvm.Cond.methodLink "TwoGuildsLaw" (167 : Nat) ({ cls := "TwoGuilds", name := "tell", desc := "(I)I" } : Jvm.MethodName)) ∈ lw_all := lw_g (lw_at lw_m6 58 rfl) rfl
theorem q1333 : (Jvm.Cond.methodLink "TwoGuildsLaw" (171 : Nat) ({ cls := "TwoGuilds", name := "check", desc := "(I)I" } : Jvm.MethodName)) ∈ lw_all := lw_g (lw_at lw_m6 62 rfl) rfl
theorem q1341 : (Jvm.Cond.methodLink "TwoGuildsLaw" (175 : Nat) ({ cls := "TwoGuilds", name := "keep", desc := "()I" } : Jvm.MethodName)) ∈ lw_all := lw_g (lw_at lw_m6 70 rfl) rfl
theorem q1345 : (Jvm.Cond.methodLink "TwoGuildsLaw" (179 : Nat) ({ cls := "TwoGuilds", name := "back", desc := "()I" } : Jvm.MethodName)) ∈ lw_all := lw_g (lw_at lw_m6 74 rfl) rfl
theorem q1349 : (Jvm.Cond.methodLink "TwoGuildsLaw" (183 : Nat) ({ cls := "TwoGuilds", name := "count", desc := "(I)I" } : Jvm.MethodName)) ∈ lw_all := lw_g (lw_at lw_m6 78 rfl) rfl
theorem q1353 : (Jvm.Cond.classLink "TwoGuildsLaw" (10 : Nat) "TwoGuildsModel") ∈ lw_all := lw_g (lw_at lw_m6 82 rfl) rfl
theorem q1355 : (Jvm.Cond.methodLink "TwoGuildsLaw" (12 : Nat) ({ cls := "TwoGuildsModel", name := "<init>", desc := "()V" } : Jvm.MethodName)) ∈ lw_all := lw_g (lw_at lw_m6 84 rfl) rfl
theorem q1470 : (Jvm.Cond.methodLink "TwoGuildsLaw" (17 : Nat) ({ cls := "TwoGuildsModel", name := "glove", desc := "(IIII)I" } : Jvm.MethodName)) ∈ lw_all := lw_g (lw_at lw_m6 199 rfl) rfl
theorem q1487 : (Jvm.Cond.methodLink "TwoGuildsLaw" (22 : Nat) ({ cls := "TwoGuildsModel", name := "told", desc := "(II)I" } : Jvm.MethodName)) ∈ lw_all := lw_g (lw_at lw_m6 216 rfl) rfl
theorem q1503 : (Jvm.Cond.methodLink "TwoGuildsLaw" (26 : Nat) ({ cls := "TwoGuildsModel", name := "as", desc := "(II)I" } : Jvm.MethodName)) ∈ lw_all := lw_g (lw_at lw_m6 232 rfl) rfl
theorem q1511 : (Jvm.Cond.methodLink "TwoGuildsLaw" (30 : Nat) ({ cls := "TwoGuildsModel", name := "turns", desc := "(II)I" } : Jvm.MethodName)) ∈ lw_all := lw_g (lw_at lw_m7 0 rfl) rfl
theorem q1519 : (Jvm.Cond.methodLink "TwoGuildsLaw" (35 : Nat) ({ cls := "TwoGuildsModel", name := "set", desc := "(III)I" } : Jvm.MethodName)) ∈ lw_all := lw_g (lw_at lw_m7 8 rfl) rfl
theorem q1526 : (Jvm.Cond.methodLink "TwoGuildsLaw" (39 : Nat) ({ cls := "TwoGuildsModel", name := "fits", desc := "(II)I" } : Jvm.MethodName)) ∈ lw_all := lw_g (lw_at lw_m7 15 rfl) rfl
theorem q1534 : (Jvm.Cond.methodLink "TwoGuildsLaw" (43 : Nat) ({ cls := "TwoGuildsModel", name := "value", desc := "(II)I" } : Jvm.MethodName)) ∈ lw_all := lw_g (lw_at lw_m7 23 rfl) rfl
theorem q1561 : (Jvm.Cond.methodLink "TwoGuildsLaw" (48 : Nat) ({ cls := "TwoGuildsModel", name := "deal", desc := "(I)I" } : Jvm.MethodName)) ∈ lw_all := lw_g (lw_at lw_m7 50 rfl) rfl
theorem q1570 : (Jvm.Cond.methodLink "TwoGuildsLaw" (52 : Nat) ({ cls := "TwoGuildsModel", name := "seed", desc := "(I)I" } : Jvm.MethodName)) ∈ lw_all := lw_g (lw_at lw_m7 59 rfl) rfl
theorem q1574 : (Jvm.Cond.methodLink "TwoGuildsLaw" (56 : Nat) ({ cls := "TwoGuildsModel", name := "best", desc := "(I)I" } : Jvm.MethodName)) ∈ lw_all := lw_g (lw_at lw_m7 63 rfl) rfl
theorem q1593 : (Jvm.Cond.methodLink "TwoGuildsLaw" (60 : Nat) ({ cls := "TwoGuildsModel", name := "partner", desc := "(I)I" } : Jvm.MethodName)) ∈ lw_all := lw_g (lw_at lw_m7 82 rfl) rfl
theorem q1600 : (Jvm.Cond.methodLink "TwoGuildsLaw" (64 : Nat) ({ cls := "TwoGuildsModel", name := "adds", desc := "(I)I" } : Jvm.MethodName)) ∈ lw_all := lw_g (lw_at lw_m7 89 rfl) rfl
theorem q1604 : (Jvm.Cond.methodLink "TwoGuildsLaw" (68 : Nat) ({ cls := "TwoGuildsModel", name := "leaves", desc := "(I)I" } : Jvm.MethodName)) ∈ lw_all := lw_g (lw_at lw_m7 93 rfl) rfl
theorem q1624 : (Jvm.Cond.methodLink "TwoGuildsLaw" (72 : Nat) ({ cls := "TwoGuildsModel", name := "loss", desc := "(I)I" } : Jvm.MethodName)) ∈ lw_all := lw_g (lw_at lw_m7 113 rfl) rfl
theorem q1628 : (Jvm.Cond.methodLink "TwoGuildsLaw" (76 : Nat) ({ cls := "TwoGuildsModel", name := "days", desc := "(I)I" } : Jvm.MethodName)) ∈ lw_all := lw_g (lw_at lw_m7 117 rfl) rfl
theorem q1644 : (Jvm.Cond.methodLink "TwoGuildsLaw" (80 : Nat) ({ cls := "TwoGuildsModel", name := "behind", desc := "(II)I" } : Jvm.MethodName)) ∈ lw_all := lw_g (lw_at lw_m7 133 rfl) rfl
theorem q1668 : (Jvm.Cond.methodLink "TwoGuildsLaw" (84 : Nat) ({ cls := "TwoGuildsModel", name := "keepHome", desc := "(I)I" } : Jvm.MethodName)) ∈ lw_all := lw_g (lw_at lw_m7 157 rfl) rfl
theorem q1672 : (Jvm.Cond.methodLink "TwoGuildsLaw" (89 : Nat) ({ cls := "TwoGuildsModel", name := "fine", desc := "()I" } : Jvm.MethodName)) ∈ lw_all := lw_g (lw_at lw_m7 161 rfl) rfl
theorem q1676 : (Jvm.Cond.methodLink "TwoGuildsLaw" (93 : Nat) ({ cls := "TwoGuildsModel", name := "worn", desc := "(II)I" } : Jvm.MethodName)) ∈ lw_all := lw_g (lw_at lw_m7 165 rfl) rfl
theorem q1683 : (Jvm.Cond.methodLink "TwoGuildsLaw" (97 : Nat) ({ cls := "TwoGuildsModel", name := "forget", desc := "()I" } : Jvm.MethodName)) ∈ lw_all := lw_g (lw_at lw_m7 172 rfl) rfl
theorem q1687 : (Jvm.Cond.methodLink "TwoGuildsLaw" (101 : Nat) ({ cls := "TwoGuildsModel", name := "joins", desc := "()I" } : Jvm.MethodName)) ∈ lw_all := lw_g (lw_at lw_m7 176 rfl) rfl
theorem q1704 : (Jvm.Cond.methodLink "TwoGuildsLaw" (105 : Nat) ({ cls := "TwoGuildsModel", name := "sure", desc := "(I)I" } : Jvm.MethodName)) ∈ lw_all := lw_g (lw_at lw_m7 193 rfl) rfl
theorem q1708 : (Jvm.Cond.methodLink "TwoGuildsLaw" (109 : Nat) ({ cls := "TwoGuildsModel", name := "better", desc := "(I)I" } : Jvm.MethodName)) ∈ lw_all := lw_g (lw_at lw_m7 197 rfl) rfl
theorem q1712 : (Jvm.Cond.methodLink "TwoGuildsLaw" (113 : Nat) ({ cls := "TwoGuildsModel", name := "feed", desc := "(III)I" } : Jvm.MethodName)) ∈ lw_all := lw_g (lw_at lw_m7 201 rfl) rfl
theorem q1716 : (Jvm.Cond.methodLink "TwoGuildsLaw" (117 : Nat) ({ cls := "TwoGuildsModel", name := "trim", desc := "(I)I" } : Jvm.MethodName)) ∈ lw_all := lw_g (lw_at lw_m7 205 rfl) rfl
theorem q1720 : (Jvm.Cond.methodLink "TwoGuildsLaw" (121 : Nat) ({ cls := "TwoGuildsModel", name := "text", desc := "()I" } : Jvm.MethodName)) ∈ lw_all := lw_g (lw_at lw_m7 209 rfl) rfl
theorem q1767 : (Jvm.Cond.methodLink "TwoGuildsLaw" (125 : Nat) ({ cls := "TwoGuildsModel", name := "textTold", desc := "(II)I" } : Jvm.MethodName)) ∈ lw_all := lw_g (lw_at lw_m8 16 rfl) rfl
theorem q1771 : (Jvm.Cond.methodLink "TwoGuildsLaw" (129 : Nat) ({ cls := "TwoGuildsModel", name := "why", desc := "(I)I" } : Jvm.MethodName)) ∈ lw_all := lw_g (lw_at lw_m8 20 rfl) rfl
theorem q1775 : (Jvm.Cond.methodLink "TwoGuildsLaw" (133 : Nat) ({ cls := "TwoGuildsModel", name := "sheet", desc := "(III)I" } : Jvm.MethodName)) ∈ lw_all := lw_g (lw_at lw_m8 24 rfl) rfl
theorem q1780 : (Jvm.Cond.methodLink "TwoGuildsLaw" (137 : Nat) ({ cls := "TwoGuildsModel", name := "mark", desc := "(III)I" } : Jvm.MethodName)) ∈ lw_all := lw_g (lw_at lw_m8 29 rfl) rfl
theorem q1787 : (Jvm.Cond.methodLink "TwoGuildsLaw" (141 : Nat) ({ cls := "TwoGuildsModel", name := "pour", desc := "(I)I" } : Jvm.MethodName)) ∈ lw_all := lw_g (lw_at lw_m8 36 rfl) rfl
theorem q1791 : (Jvm.Cond.methodLink "TwoGuildsLaw" (145 : Nat) ({ cls := "TwoGuildsModel", name := "reads", desc := "(I)I" } : Jvm.MethodName)) ∈ lw_all := lw_g (lw_at lw_m8 40 rfl) rfl
theorem q1795 : (Jvm.Cond.methodLink "TwoGuildsLaw" (150 : Nat) ({ cls := "TwoGuildsModel", name := "copy", desc := "(IIIII)I" } : Jvm.MethodName)) ∈ lw_all := lw_g (lw_at lw_m8 44 rfl) rfl
theorem q1799 : (Jvm.Cond.methodLink "TwoGuildsLaw" (154 : Nat) ({ cls := "TwoGuildsModel", name := "lay", desc := "(III)I" } : Jvm.MethodName)) ∈ lw_all := lw_g (lw_at lw_m8 48 rfl) rfl
theorem q1806 : (Jvm.Cond.methodLink "TwoGuildsLaw" (158 : Nat) ({ cls := "TwoGuildsModel", name := "ask", desc := "(II)I" } : Jvm.MethodName)) ∈ lw_all := lw_g (lw_at lw_m8 55 rfl) rfl
theorem q1810 : (Jvm.Cond.methodLink "TwoGuildsLaw" (162 : Nat) ({ cls := "TwoGuildsModel", name := "item", desc := "(II)I" } : Jvm.MethodName)) ∈ lw_all := lw_g (lw_at lw_m8 59 rfl) rfl
theorem q1814 : (Jvm.Cond.methodLink "TwoGuildsLaw" (166 : Nat) ({ cls := "TwoGuildsModel", name := "rest", desc := "(II)I" } : Jvm.MethodName)) ∈ lw_all := lw_g (lw_at lw_m8 63 rfl) rfl
theorem q1819 : (Jvm.Cond.methodLink "TwoGuildsLaw" (170 : Nat) ({ cls := "TwoGuildsModel", name := "tell", desc := "(I)I" } : Jvm.MethodName)) ∈ lw_all := lw_g (lw_at lw_m8 68 rfl) rfl
theorem q1823 : (Jvm.Cond.methodLink "TwoGuildsLaw" (174 : Nat) ({ cls := "TwoGuildsModel", name := "check", desc := "(I)I" } : Jvm.MethodName)) ∈ lw_all := lw_g (lw_at lw_m8 72 rfl) rfl
theorem q1830 : (Jvm.Cond.methodLink "TwoGuildsLaw" (178 : Nat) ({ cls := "TwoGuildsModel", name := "keep", desc := "()I" } : Jvm.MethodName)) ∈ lw_all := lw_g (lw_at lw_m8 79 rfl) rfl
theorem q1834 : (Jvm.Cond.methodLink "TwoGuildsLaw" (182 : Nat) ({ cls := "TwoGuildsModel", name := "back", desc := "()I" } : Jvm.MethodName)) ∈ lw_all := lw_g (lw_at lw_m8 83 rfl) rfl
theorem q1838 : (Jvm.Cond.methodLink "TwoGuildsLaw" (186 : Nat) ({ cls := "TwoGuildsModel", name := "count", desc := "(I)I" } : Jvm.MethodName)) ∈ lw_all := lw_g (lw_at lw_m8 87 rfl) rfl

theorem q1280 : (Jvm.Cond.interfaceMethod "TwoGuilds$Weighs" "TwoGuilds$Weighs" "worth" "()I") ∈ lw_tbl := lw_at lw_m6 9 rfl
set_option maxRecDepth 100000
theorem q1281 : (Jvm.Cond.declares ({ cls := "TwoGuilds$Weighs", name := "worth", desc := "()I" } : Jvm.MethodName)) ∈ lw_tbl := lw_at lw_m6 10 rfl

theorem q704 : (Jvm.Cond.interfaceMethod "TwoGuilds$Worth" "TwoGuilds$Worth" "worth" "()I") ∈ lw_tbl := lw_at lw_m3 153 rfl
set_option maxRecDepth 100000
theorem q705 : (Jvm.Cond.declares ({ cls := "TwoGuilds$Worth", name := "worth", desc := "()I" } : Jvm.MethodName)) ∈ lw_tbl := lw_at lw_m3 154 rfl

theorem q90 : (Jvm.Cond.initialized "java/lang/System") ∈ lw_all := lw_g (lw_at lw_m1 19 rfl) rfl
set_option maxRecDepth 100000
theorem q861 : (Jvm.Cond.static ({ cls := "java/lang/System", name := "arraycopy", desc := "(Ljava/lang/Object;ILjava/lang/Object;II)V" } : Jvm.MethodName)) ∈ lw_all := lw_g (lw_at lw_m4 70 rfl) rfl
theorem q862 : (Jvm.Cond.native ({ cls := "java/lang/System", name := "arraycopy", desc := "(Ljava/lang/Object;ILjava/lang/Object;II)V" } : Jvm.MethodName)) ∈ lw_all := lw_g (lw_at lw_m4 71 rfl) rfl

theorem q120 : (Jvm.Cond.arrayOver (Jvm.ClassFile.FieldType.object "TwoGuilds$Glove")) ∈ lw_tbl := lw_at lw_m1 49 rfl
set_option maxRecDepth 100000
theorem q122 : (Jvm.Cond.arrayOver (Jvm.ClassFile.FieldType.object "TwoGuilds$Text")) ∈ lw_tbl := lw_at lw_m1 51 rfl
theorem q167 : (Jvm.Cond.arrayClass Jvm.ClassFile.FieldType.int) ∈ lw_all := lw_g (lw_at lw_m1 96 rfl) rfl
theorem q169 : (Jvm.Cond.arrayOver (Jvm.ClassFile.FieldType.object "TwoGuilds$Holder")) ∈ lw_tbl := lw_at lw_m1 98 rfl
theorem q179 : (Jvm.Cond.arrayClass Jvm.ClassFile.FieldType.byte) ∈ lw_all := lw_g (lw_at lw_m1 108 rfl) rfl
theorem q1162 : (Jvm.Cond.arrayClass Jvm.ClassFile.FieldType.short) ∈ lw_all := lw_g (lw_at lw_m5 131 rfl) rfl
theorem q1163 : (Jvm.Cond.arrayClass Jvm.ClassFile.FieldType.float) ∈ lw_all := lw_g (lw_at lw_m5 132 rfl) rfl
theorem q1468 : (Jvm.Cond.arrayClass Jvm.ClassFile.FieldType.char) ∈ lw_all := lw_g (lw_at lw_m6 197 rfl) rfl
theorem q1469 : (Jvm.Cond.arrayClass Jvm.ClassFile.FieldType.boolean) ∈ lw_all := lw_g (lw_at lw_m6 198 rfl) rfl
