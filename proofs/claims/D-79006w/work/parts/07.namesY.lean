/-! LogCompactor$RefusedException -/
set_option maxRecDepth 100000
def RX9 : String := "LogCompactor$RefusedException"
def TX9 : u_T := fun k => match k with
  | 0 => ("java/lang/Throwable", "cause", "Ljava/lang/Throwable;", false)
  | 1 => ("java/lang/Throwable", "stackTrace", "[Ljava/lang/StackTraceElement;", false)
  | 2 => ("java/lang/Throwable", "suppressedExceptions", "Ljava/util/List;", false)
  | 3 => ("java/lang/Throwable", "detailMessage", "Ljava/lang/String;", false)
  | 4 => ("java/lang/Throwable", "backtrace", "Ljava/lang/Object;", false)
  | 5 => ("java/lang/Throwable", "depth", "I", false)
  | 6 => ("LogCompactor$RefusedException", "code", "I", true)
  | _ => ("LogCompactor$RefusedException", "detail", "I", true)
def tyX9 : Nat → FieldType := fun k => match k with
  | 0 => .object "java/lang/Throwable"
  | 1 => .array (.object "java/lang/StackTraceElement")
  | 2 => .object "java/util/List"
  | 3 => .object "java/lang/String"
  | 4 => .object "java/lang/Object"
  | 5 => .int
  | 6 => .int
  | _ => .int
abbrev wsX90 : List Cond := u_ws RX9 TX9 8
theorem nmX9 : ∀ a, a < 8 → ∀ b, b < 8 → a ≠ b → (TX9 a).2.1 ≠ (TX9 b).2.1 := by decide +kernel
theorem tyX9_ok : ∀ k, k < 8 → parseFieldDescriptor (TX9 k).2.2.1 = some (tyX9 k) := by decide +kernel
abbrev cX9_init : ByteArray := prog_9_method_1_code
def yX9_init : MethodName := ⟨RX9, "<init>", "(II)V"⟩
def dkwX9_init_0 : List UInt8 := [42, 1, 1, 3, 3, 183, 0, 1, 42, 27, 181, 0, 7, 42, 28, 181, 0, 13, 177]
abbrev dktX9_init_0 : List UInt8 := dkwX9_init_0 ++ []
theorem dksX9_init_0 : cX9_init.data.toList.drop 0 = dktX9_init_0 := by decide +kernel
theorem dX9_init_0 : decode cX9_init 0 = .ok (.aload_n 0, 1) := dk_42 (dk_at dksX9_init_0 0 rfl rfl)
theorem dX9_init_1 : decode cX9_init 1 = .ok (.aconst_null, 1) := dk_1 (dk_at dksX9_init_0 1 rfl rfl)
theorem dX9_init_2 : decode cX9_init 2 = .ok (.aconst_null, 1) := dk_1 (dk_at dksX9_init_0 2 rfl rfl)
theorem dX9_init_3 : decode cX9_init 3 = .ok (.iconst 0, 1) := dk_3 (dk_at dksX9_init_0 3 rfl rfl)
theorem dX9_init_4 : decode cX9_init 4 = .ok (.iconst 0, 1) := dk_3 (dk_at dksX9_init_0 4 rfl rfl)
theorem dX9_init_5 : decode cX9_init 5 = .ok (.invokespecial 1, 3) := dk_183 0 1 (dk_at dksX9_init_0 5 rfl rfl)
theorem dX9_init_8 : decode cX9_init 8 = .ok (.aload_n 0, 1) := dk_42 (dk_at dksX9_init_0 8 rfl rfl)
theorem dX9_init_9 : decode cX9_init 9 = .ok (.iload_n 1, 1) := dk_27 (dk_at dksX9_init_0 9 rfl rfl)
theorem dX9_init_10 : decode cX9_init 10 = .ok (.putfield 7, 3) := dk_181 0 7 (dk_at dksX9_init_0 10 rfl rfl)
theorem dX9_init_13 : decode cX9_init 13 = .ok (.aload_n 0, 1) := dk_42 (dk_at dksX9_init_0 13 rfl rfl)
theorem dX9_init_14 : decode cX9_init 14 = .ok (.iload_n 2, 1) := dk_28 (dk_at dksX9_init_0 14 rfl rfl)
theorem dX9_init_15 : decode cX9_init 15 = .ok (.putfield 13, 3) := dk_181 0 13 (dk_at dksX9_init_0 15 rfl rfl)
theorem dX9_init_18 : decode cX9_init 18 = .ok (.return_, 1) := dk_177 (dk_at dksX9_init_0 18 rfl rfl)
abbrev cX9_init_2 : ByteArray := prog_9_method_2_code
def yX9_init_2 : MethodName := ⟨RX9, "<init>", "(IILLogCompactor$RefusedException;)V"⟩
def dkwX9_init_2_0 : List UInt8 := [42, 1, 45, 3, 3, 183, 0, 1, 42, 27, 181, 0, 7, 42, 28, 181, 0, 13, 177]
abbrev dktX9_init_2_0 : List UInt8 := dkwX9_init_2_0 ++ []
theorem dksX9_init_2_0 : cX9_init_2.data.toList.drop 0 = dktX9_init_2_0 := by decide +kernel
theorem dX9_init_2_0 : decode cX9_init_2 0 = .ok (.aload_n 0, 1) := dk_42 (dk_at dksX9_init_2_0 0 rfl rfl)
theorem dX9_init_2_1 : decode cX9_init_2 1 = .ok (.aconst_null, 1) := dk_1 (dk_at dksX9_init_2_0 1 rfl rfl)
theorem dX9_init_2_2 : decode cX9_init_2 2 = .ok (.aload_n 3, 1) := dk_45 (dk_at dksX9_init_2_0 2 rfl rfl)
theorem dX9_init_2_3 : decode cX9_init_2 3 = .ok (.iconst 0, 1) := dk_3 (dk_at dksX9_init_2_0 3 rfl rfl)
theorem dX9_init_2_4 : decode cX9_init_2 4 = .ok (.iconst 0, 1) := dk_3 (dk_at dksX9_init_2_0 4 rfl rfl)
theorem dX9_init_2_5 : decode cX9_init_2 5 = .ok (.invokespecial 1, 3) := dk_183 0 1 (dk_at dksX9_init_2_0 5 rfl rfl)
theorem dX9_init_2_8 : decode cX9_init_2 8 = .ok (.aload_n 0, 1) := dk_42 (dk_at dksX9_init_2_0 8 rfl rfl)
theorem dX9_init_2_9 : decode cX9_init_2 9 = .ok (.iload_n 1, 1) := dk_27 (dk_at dksX9_init_2_0 9 rfl rfl)
theorem dX9_init_2_10 : decode cX9_init_2 10 = .ok (.putfield 7, 3) := dk_181 0 7 (dk_at dksX9_init_2_0 10 rfl rfl)
theorem dX9_init_2_13 : decode cX9_init_2 13 = .ok (.aload_n 0, 1) := dk_42 (dk_at dksX9_init_2_0 13 rfl rfl)
theorem dX9_init_2_14 : decode cX9_init_2 14 = .ok (.iload_n 2, 1) := dk_28 (dk_at dksX9_init_2_0 14 rfl rfl)
theorem dX9_init_2_15 : decode cX9_init_2 15 = .ok (.putfield 13, 3) := dk_181 0 13 (dk_at dksX9_init_2_0 15 rfl rfl)
theorem dX9_init_2_18 : decode cX9_init_2 18 = .ok (.return_, 1) := dk_177 (dk_at dksX9_init_2_0 18 rfl rfl)
abbrev cX9_at : ByteArray := prog_9_method_3_code
def yX9_at : MethodName := ⟨RX9, "at", "(I)LLogCompactor$RefusedException;"⟩
def dkwX9_at_1 : List UInt8 := [44, 193, 0, 8, 153, 0, 10, 44, 192, 0, 8, 167, 0, 4, 1, 176]
abbrev dktX9_at_1 : List UInt8 := dkwX9_at_1 ++ []
def dkwX9_at_0 : List UInt8 := [42, 77, 3, 62, 29, 27, 162, 0, 18, 44, 198, 0, 14, 44, 182, 0, 16, 77, 132, 3, 1, 167, 255, 239]
abbrev dktX9_at_0 : List UInt8 := dkwX9_at_0 ++ dktX9_at_1
theorem dksX9_at_0 : cX9_at.data.toList.drop 0 = dktX9_at_0 := by decide +kernel
theorem dksX9_at_1 : cX9_at.data.toList.drop 24 = dktX9_at_1 := dk_seg dksX9_at_0 24 rfl rfl
theorem dX9_at_0 : decode cX9_at 0 = .ok (.aload_n 0, 1) := dk_42 (dk_at dksX9_at_0 0 rfl rfl)
theorem dX9_at_1 : decode cX9_at 1 = .ok (.astore_n 2, 1) := dk_77 (dk_at dksX9_at_0 1 rfl rfl)
theorem dX9_at_2 : decode cX9_at 2 = .ok (.iconst 0, 1) := dk_3 (dk_at dksX9_at_0 2 rfl rfl)
theorem dX9_at_3 : decode cX9_at 3 = .ok (.istore_n 3, 1) := dk_62 (dk_at dksX9_at_0 3 rfl rfl)
theorem dX9_at_4 : decode cX9_at 4 = .ok (.iload_n 3, 1) := dk_29 (dk_at dksX9_at_0 4 rfl rfl)
theorem dX9_at_5 : decode cX9_at 5 = .ok (.iload_n 1, 1) := dk_27 (dk_at dksX9_at_0 5 rfl rfl)
theorem dX9_at_6 : decode cX9_at 6 = .ok (.if_icmp .ge 18, 3) := dk_162 0 18 (dk_at dksX9_at_0 6 rfl rfl)
theorem dX9_at_9 : decode cX9_at 9 = .ok (.aload_n 2, 1) := dk_44 (dk_at dksX9_at_0 9 rfl rfl)
theorem dX9_at_10 : decode cX9_at 10 = .ok (.ifnull 14, 3) := dk_198 0 14 (dk_at dksX9_at_0 10 rfl rfl)
theorem dX9_at_13 : decode cX9_at 13 = .ok (.aload_n 2, 1) := dk_44 (dk_at dksX9_at_0 13 rfl rfl)
theorem dX9_at_14 : decode cX9_at 14 = .ok (.invokevirtual 16, 3) := dk_182 0 16 (dk_at dksX9_at_0 14 rfl rfl)
theorem dX9_at_17 : decode cX9_at 17 = .ok (.astore_n 2, 1) := dk_77 (dk_at dksX9_at_0 17 rfl rfl)
theorem dX9_at_18 : decode cX9_at 18 = .ok (.iinc 3 1, 3) := dk_132 3 1 (dk_at dksX9_at_0 18 rfl rfl)
theorem dX9_at_21 : decode cX9_at 21 = .ok (.goto (-17), 3) := dk_167 255 239 (dk_at dksX9_at_0 21 rfl rfl)
theorem dX9_at_24 : decode cX9_at 24 = .ok (.aload_n 2, 1) := dk_44 (dk_at dksX9_at_1 0 rfl rfl)
theorem dX9_at_25 : decode cX9_at 25 = .ok (.instanceof 8, 3) := dk_193 0 8 (dk_at dksX9_at_1 1 rfl rfl)
theorem dX9_at_28 : decode cX9_at 28 = .ok (.ifCond .eq 10, 3) := dk_153 0 10 (dk_at dksX9_at_1 4 rfl rfl)
theorem dX9_at_31 : decode cX9_at 31 = .ok (.aload_n 2, 1) := dk_44 (dk_at dksX9_at_1 7 rfl rfl)
theorem dX9_at_32 : decode cX9_at 32 = .ok (.checkcast 8, 3) := dk_192 0 8 (dk_at dksX9_at_1 8 rfl rfl)
theorem dX9_at_35 : decode cX9_at 35 = .ok (.goto 4, 3) := dk_167 0 4 (dk_at dksX9_at_1 11 rfl rfl)
theorem dX9_at_38 : decode cX9_at 38 = .ok (.aconst_null, 1) := dk_1 (dk_at dksX9_at_1 14 rfl rfl)
theorem dX9_at_39 : decode cX9_at 39 = .ok (.areturn, 1) := dk_176 (dk_at dksX9_at_1 15 rfl rfl)
abbrev cX9_part : ByteArray := prog_9_method_4_code
def yX9_part : MethodName := ⟨RX9, "part", "(I)I"⟩
def dkwX9_part_0 : List UInt8 := [27, 154, 0, 10, 42, 180, 0, 7, 167, 0, 7, 42, 180, 0, 13, 172]
abbrev dktX9_part_0 : List UInt8 := dkwX9_part_0 ++ []
theorem dksX9_part_0 : cX9_part.data.toList.drop 0 = dktX9_part_0 := by decide +kernel
theorem dX9_part_0 : decode cX9_part 0 = .ok (.iload_n 1, 1) := dk_27 (dk_at dksX9_part_0 0 rfl rfl)
theorem dX9_part_1 : decode cX9_part 1 = .ok (.ifCond .ne 10, 3) := dk_154 0 10 (dk_at dksX9_part_0 1 rfl rfl)
theorem dX9_part_4 : decode cX9_part 4 = .ok (.aload_n 0, 1) := dk_42 (dk_at dksX9_part_0 4 rfl rfl)
theorem dX9_part_5 : decode cX9_part 5 = .ok (.getfield 7, 3) := dk_180 0 7 (dk_at dksX9_part_0 5 rfl rfl)
theorem dX9_part_8 : decode cX9_part 8 = .ok (.goto 7, 3) := dk_167 0 7 (dk_at dksX9_part_0 8 rfl rfl)
theorem dX9_part_11 : decode cX9_part 11 = .ok (.aload_n 0, 1) := dk_42 (dk_at dksX9_part_0 11 rfl rfl)
theorem dX9_part_12 : decode cX9_part 12 = .ok (.getfield 13, 3) := dk_180 0 13 (dk_at dksX9_part_0 12 rfl rfl)
theorem dX9_part_15 : decode cX9_part 15 = .ok (.ireturn, 1) := dk_172 (dk_at dksX9_part_0 15 rfl rfl)
theorem q130 : (Jvm.Cond.initialized "LogCompactor$RefusedException") ∈ lw_all := lw_g (lw_at lw_m1 34 rfl) rfl
theorem q340 : (Jvm.Cond.selects "LogCompactor$RefusedException" ({ cls := "java/lang/Throwable", name := "fillInStackTrace", desc := "()Ljava/lang/Throwable;" } : Jvm.MethodName) ({ cls := "java/lang/Throwable", name := "fillInStackTrace", desc := "()Ljava/lang/Throwable;" } : Jvm.MethodName)) ∈ lw_all := lw_g (lw_at lw_m2 4 rfl) rfl
theorem q417 : (Jvm.Cond.selects "LogCompactor$RefusedException" ({ cls := "java/lang/Object", name := "getClass", desc := "()Ljava/lang/Class;" } : Jvm.MethodName) ({ cls := "java/lang/Object", name := "getClass", desc := "()Ljava/lang/Class;" } : Jvm.MethodName)) ∈ lw_all := lw_g (lw_at lw_m2 81 rfl) rfl
theorem q495 : (Jvm.Cond.instantiable "LogCompactor$RefusedException" (8 : Nat)) ∈ lw_all := lw_g (lw_at lw_m2 159 rfl) rfl
theorem q496 : (Jvm.Cond.castable "LogCompactor$RefusedException" "LogCompactor$RefusedException") ∈ lw_tbl := lw_at lw_m2 160 rfl
theorem q497 : (Jvm.Cond.selects "LogCompactor$RefusedException" ({ cls := "java/lang/Throwable", name := "fillInStackTrace", desc := "(I)Ljava/lang/Throwable;" } : Jvm.MethodName) ({ cls := "java/lang/Throwable", name := "fillInStackTrace", desc := "(I)Ljava/lang/Throwable;" } : Jvm.MethodName)) ∈ lw_all := lw_g (lw_at lw_m2 161 rfl) rfl
theorem q498 : (Jvm.Cond.lays "LogCompactor$RefusedException" "java/lang/Throwable" "cause" "Ljava/lang/Throwable;") ∈ lw_all := lw_g (lw_at lw_m2 162 rfl) rfl
theorem q499 : (Jvm.Cond.lays "LogCompactor$RefusedException" "java/lang/Throwable" "stackTrace" "[Ljava/lang/StackTraceElement;") ∈ lw_all := lw_g (lw_at lw_m2 163 rfl) rfl
theorem q500 : (Jvm.Cond.lays "LogCompactor$RefusedException" "java/lang/Throwable" "suppressedExceptions" "Ljava/util/List;") ∈ lw_all := lw_g (lw_at lw_m2 164 rfl) rfl
theorem q501 : (Jvm.Cond.lays "LogCompactor$RefusedException" "java/lang/Throwable" "detailMessage" "Ljava/lang/String;") ∈ lw_all := lw_g (lw_at lw_m2 165 rfl) rfl
theorem q502 : (Jvm.Cond.lays "LogCompactor$RefusedException" "java/lang/Throwable" "backtrace" "Ljava/lang/Object;") ∈ lw_all := lw_g (lw_at lw_m2 166 rfl) rfl
theorem q504 : (Jvm.Cond.instanceMethod ({ cls := "LogCompactor$RefusedException", name := "<init>", desc := "(II)V" } : Jvm.MethodName)) ∈ lw_all := lw_g (lw_at lw_m2 168 rfl) rfl
theorem q505 : (Jvm.Cond.code ({ cls := "LogCompactor$RefusedException", name := "<init>", desc := "(II)V" } : Jvm.MethodName) prog_9_method_1_code (3 : Nat) (Option.none : Option Jvm.ClassFile.FieldType)) ∈ lw_all := lw_g (lw_at lw_m2 169 rfl) rfl
theorem q506 : (Jvm.Cond.methodLink "LogCompactor$RefusedException" (1 : Nat) ({ cls := "java/lang/Exception", name := "<init>", desc := "(Ljava/lang/String;Ljava/lang/Throwable;ZZ)V" } : Jvm.MethodName)) ∈ lw_all := lw_g (lw_at lw_m2 170 rfl) rfl
theorem q512 : (Jvm.Cond.fieldLink "LogCompactor$RefusedException" (7 : Nat) "LogCompactor$RefusedException" "code" "I") ∈ lw_all := lw_g (lw_at lw_m2 176 rfl) rfl
theorem q513 : (Jvm.Cond.fieldLink "LogCompactor$RefusedException" (13 : Nat) "LogCompactor$RefusedException" "detail" "I") ∈ lw_all := lw_g (lw_at lw_m2 177 rfl) rfl
theorem q514 : (Jvm.Cond.laysFinal "LogCompactor$RefusedException" "LogCompactor$RefusedException" "code" "I") ∈ lw_all := lw_g (lw_at lw_m2 178 rfl) rfl
theorem q515 : (Jvm.Cond.soleField "LogCompactor$RefusedException" "code") ∈ lw_all := lw_g (lw_at lw_m2 179 rfl) rfl
theorem q516 : (Jvm.Cond.laysFinal "LogCompactor$RefusedException" "LogCompactor$RefusedException" "detail" "I") ∈ lw_all := lw_g (lw_at lw_m2 180 rfl) rfl
theorem q517 : (Jvm.Cond.soleField "LogCompactor$RefusedException" "detail") ∈ lw_all := lw_g (lw_at lw_m2 181 rfl) rfl
theorem q518 : (Jvm.Cond.lays "LogCompactor$RefusedException" "java/lang/Throwable" "depth" "I") ∈ lw_all := lw_g (lw_at lw_m2 182 rfl) rfl
theorem q519 : (Jvm.Cond.superclass "LogCompactor$RefusedException" "java/lang/Exception") ∈ lw_all := lw_g (lw_at lw_m2 183 rfl) rfl
theorem q987 : (Jvm.Cond.instanceMethod ({ cls := "LogCompactor$RefusedException", name := "<init>", desc := "(IILLogCompactor$RefusedException;)V" } : Jvm.MethodName)) ∈ lw_all := lw_g (lw_at lw_m4 171 rfl) rfl
theorem q988 : (Jvm.Cond.code ({ cls := "LogCompactor$RefusedException", name := "<init>", desc := "(IILLogCompactor$RefusedException;)V" } : Jvm.MethodName) prog_9_method_2_code (4 : Nat) (Option.none : Option Jvm.ClassFile.FieldType)) ∈ lw_all := lw_g (lw_at lw_m4 172 rfl) rfl
theorem q1219 : (Jvm.Cond.selects "LogCompactor$RefusedException" ({ cls := "java/lang/Object", name := "equals", desc := "(Ljava/lang/Object;)Z" } : Jvm.MethodName) ({ cls := "java/lang/Object", name := "equals", desc := "(Ljava/lang/Object;)Z" } : Jvm.MethodName)) ∈ lw_all := lw_g (lw_at lw_m5 163 rfl) rfl
theorem q1819 : (Jvm.Cond.instanceMethod ({ cls := "LogCompactor$RefusedException", name := "at", desc := "(I)LLogCompactor$RefusedException;" } : Jvm.MethodName)) ∈ lw_all := lw_g (lw_at lw_m8 43 rfl) rfl
theorem q1820 : (Jvm.Cond.selects "LogCompactor$RefusedException" ({ cls := "LogCompactor$RefusedException", name := "at", desc := "(I)LLogCompactor$RefusedException;" } : Jvm.MethodName) ({ cls := "LogCompactor$RefusedException", name := "at", desc := "(I)LLogCompactor$RefusedException;" } : Jvm.MethodName)) ∈ lw_all := lw_g (lw_at lw_m8 44 rfl) rfl
theorem q1821 : (Jvm.Cond.code ({ cls := "LogCompactor$RefusedException", name := "at", desc := "(I)LLogCompactor$RefusedException;" } : Jvm.MethodName) prog_9_method_3_code (4 : Nat) (Option.some (Jvm.ClassFile.FieldType.object "LogCompactor$RefusedException"))) ∈ lw_all := lw_g (lw_at lw_m8 45 rfl) rfl
theorem q1822 : (Jvm.Cond.methodLink "LogCompactor$RefusedException" (16 : Nat) ({ cls := "java/lang/Throwable", name := "getCause", desc := "()Ljava/lang/Throwable;" } : Jvm.MethodName)) ∈ lw_all := lw_g (lw_at lw_m8 46 rfl) rfl
theorem q1825 : (Jvm.Cond.selects "LogCompactor$RefusedException" ({ cls := "java/lang/Throwable", name := "getCause", desc := "()Ljava/lang/Throwable;" } : Jvm.MethodName) ({ cls := "java/lang/Throwable", name := "getCause", desc := "()Ljava/lang/Throwable;" } : Jvm.MethodName)) ∈ lw_all := lw_g (lw_at lw_m8 49 rfl) rfl
theorem q1835 : (Jvm.Cond.classLink "LogCompactor$RefusedException" (8 : Nat) "LogCompactor$RefusedException") ∈ lw_all := lw_g (lw_at lw_m8 59 rfl) rfl
theorem q1837 : (Jvm.Cond.instanceMethod ({ cls := "LogCompactor$RefusedException", name := "part", desc := "(I)I" } : Jvm.MethodName)) ∈ lw_all := lw_g (lw_at lw_m8 61 rfl) rfl
theorem q1838 : (Jvm.Cond.selects "LogCompactor$RefusedException" ({ cls := "LogCompactor$RefusedException", name := "part", desc := "(I)I" } : Jvm.MethodName) ({ cls := "LogCompactor$RefusedException", name := "part", desc := "(I)I" } : Jvm.MethodName)) ∈ lw_all := lw_g (lw_at lw_m8 62 rfl) rfl
theorem q1839 : (Jvm.Cond.code ({ cls := "LogCompactor$RefusedException", name := "part", desc := "(I)I" } : Jvm.MethodName) prog_9_method_4_code (2 : Nat) (Option.some Jvm.ClassFile.FieldType.int)) ∈ lw_all := lw_g (lw_at lw_m8 63 rfl) rfl
theorem q2341 : (Jvm.Cond.castable "LogCompactor$RefusedException" "java/lang/Object") ∈ lw_tbl := lw_at lw_m10 85 rfl
theorem in_X9 : ∀ w ∈ wsX90, w ∈ lw_all := lw_in wsX90 [498, 499, 500, 501, 502, 518, 514, 516] (by decide +kernel) (by decide +kernel)
/-! LogCompactor$Reader -/
set_option maxRecDepth 100000
def RX10 : String := "LogCompactor$Reader"
def TX10 : u_T := fun k => match k with
  | 0 => ("LogCompactor$Reader", "position", "I", false)
  | _ => ("LogCompactor$Reader", "this$0", "LLogCompactor;", true)
def tyX10 : Nat → FieldType := fun k => match k with
  | 0 => .int
  | _ => .object "LogCompactor"
abbrev wsX100 : List Cond := u_ws RX10 TX10 2
theorem nmX10 : ∀ a, a < 2 → ∀ b, b < 2 → a ≠ b → (TX10 a).2.1 ≠ (TX10 b).2.1 := by decide +kernel
theorem tyX10_ok : ∀ k, k < 2 → parseFieldDescriptor (TX10 k).2.2.1 = some (tyX10 k) := by decide +kernel
abbrev cX10_init : ByteArray := prog_8_method_1_code
def yX10_init : MethodName := ⟨RX10, "<init>", "(LLogCompactor;)V"⟩
def dkwX10_init_0 : List UInt8 := [42, 43, 181, 0, 3, 42, 183, 0, 9, 177]
abbrev dktX10_init_0 : List UInt8 := dkwX10_init_0 ++ []
theorem dksX10_init_0 : cX10_init.data.toList.drop 0 = dktX10_init_0 := by decide +kernel
theorem dX10_init_0 : decode cX10_init 0 = .ok (.aload_n 0, 1) := dk_42 (dk_at dksX10_init_0 0 rfl rfl)
theorem dX10_init_1 : decode cX10_init 1 = .ok (.aload_n 1, 1) := dk_43 (dk_at dksX10_init_0 1 rfl rfl)
theorem dX10_init_2 : decode cX10_init 2 = .ok (.putfield 3, 3) := dk_181 0 3 (dk_at dksX10_init_0 2 rfl rfl)
theorem dX10_init_5 : decode cX10_init 5 = .ok (.aload_n 0, 1) := dk_42 (dk_at dksX10_init_0 5 rfl rfl)
theorem dX10_init_6 : decode cX10_init 6 = .ok (.invokespecial 9, 3) := dk_183 0 9 (dk_at dksX10_init_0 6 rfl rfl)
theorem dX10_init_9 : decode cX10_init 9 = .ok (.return_, 1) := dk_177 (dk_at dksX10_init_0 9 rfl rfl)
abbrev cX10_all : ByteArray := prog_8_method_10_code
def yX10_all : MethodName := ⟨RX10, "all", "()Ljava/util/ArrayList;"⟩
def dkwX10_all_2 : List UInt8 := [160, 0, 7, 4, 167, 0, 4, 3, 182, 0, 47, 43, 176]
abbrev dktX10_all_2 : List UInt8 := dkwX10_all_2 ++ []
def dkwX10_all_1 : List UInt8 := [42, 16, 38, 182, 0, 39, 61, 167, 255, 235, 42, 42, 180, 0, 15, 42, 180, 0, 3, 180, 0, 19]
abbrev dktX10_all_1 : List UInt8 := dkwX10_all_1 ++ dktX10_all_2
def dkwX10_all_0 : List UInt8 := [187, 0, 90, 89, 183, 0, 92, 76, 4, 61, 28, 153, 0, 23, 43, 42, 3, 182, 0, 83, 182, 0, 93, 62]
abbrev dktX10_all_0 : List UInt8 := dkwX10_all_0 ++ dktX10_all_1
theorem dksX10_all_0 : cX10_all.data.toList.drop 0 = dktX10_all_0 := by decide +kernel
theorem dksX10_all_1 : cX10_all.data.toList.drop 24 = dktX10_all_1 := dk_seg dksX10_all_0 24 rfl rfl
theorem dksX10_all_2 : cX10_all.data.toList.drop 46 = dktX10_all_2 := dk_seg dksX10_all_1 22 rfl rfl
theorem dX10_all_0 : decode cX10_all 0 = .ok (.new 90, 3) := dk_187 0 90 (dk_at dksX10_all_0 0 rfl rfl)
theorem dX10_all_3 : decode cX10_all 3 = .ok (.dup, 1) := dk_89 (dk_at dksX10_all_0 3 rfl rfl)
theorem dX10_all_4 : decode cX10_all 4 = .ok (.invokespecial 92, 3) := dk_183 0 92 (dk_at dksX10_all_0 4 rfl rfl)
theorem dX10_all_7 : decode cX10_all 7 = .ok (.astore_n 1, 1) := dk_76 (dk_at dksX10_all_0 7 rfl rfl)
theorem dX10_all_8 : decode cX10_all 8 = .ok (.iconst 1, 1) := dk_4 (dk_at dksX10_all_0 8 rfl rfl)
theorem dX10_all_9 : decode cX10_all 9 = .ok (.istore_n 2, 1) := dk_61 (dk_at dksX10_all_0 9 rfl rfl)
theorem dX10_all_10 : decode cX10_all 10 = .ok (.iload_n 2, 1) := dk_28 (dk_at dksX10_all_0 10 rfl rfl)
theorem dX10_all_11 : decode cX10_all 11 = .ok (.ifCond .eq 23, 3) := dk_153 0 23 (dk_at dksX10_all_0 11 rfl rfl)
theorem dX10_all_14 : decode cX10_all 14 = .ok (.aload_n 1, 1) := dk_43 (dk_at dksX10_all_0 14 rfl rfl)
theorem dX10_all_15 : decode cX10_all 15 = .ok (.aload_n 0, 1) := dk_42 (dk_at dksX10_all_0 15 rfl rfl)
theorem dX10_all_16 : decode cX10_all 16 = .ok (.iconst 0, 1) := dk_3 (dk_at dksX10_all_0 16 rfl rfl)
theorem dX10_all_17 : decode cX10_all 17 = .ok (.invokevirtual 83, 3) := dk_182 0 83 (dk_at dksX10_all_0 17 rfl rfl)
theorem dX10_all_20 : decode cX10_all 20 = .ok (.invokevirtual 93, 3) := dk_182 0 93 (dk_at dksX10_all_0 20 rfl rfl)
theorem dX10_all_23 : decode cX10_all 23 = .ok (.istore_n 3, 1) := dk_62 (dk_at dksX10_all_0 23 rfl rfl)
theorem dX10_all_24 : decode cX10_all 24 = .ok (.aload_n 0, 1) := dk_42 (dk_at dksX10_all_1 0 rfl rfl)
theorem dX10_all_25 : decode cX10_all 25 = .ok (.bipush 38, 2) := dk_16 38 (dk_at dksX10_all_1 1 rfl rfl)
theorem dX10_all_27 : decode cX10_all 27 = .ok (.invokevirtual 39, 3) := dk_182 0 39 (dk_at dksX10_all_1 3 rfl rfl)
theorem dX10_all_30 : decode cX10_all 30 = .ok (.istore_n 2, 1) := dk_61 (dk_at dksX10_all_1 6 rfl rfl)
theorem dX10_all_31 : decode cX10_all 31 = .ok (.goto (-21), 3) := dk_167 255 235 (dk_at dksX10_all_1 7 rfl rfl)
theorem dX10_all_34 : decode cX10_all 34 = .ok (.aload_n 0, 1) := dk_42 (dk_at dksX10_all_1 10 rfl rfl)
theorem dX10_all_35 : decode cX10_all 35 = .ok (.aload_n 0, 1) := dk_42 (dk_at dksX10_all_1 11 rfl rfl)
theorem dX10_all_36 : decode cX10_all 36 = .ok (.getfield 15, 3) := dk_180 0 15 (dk_at dksX10_all_1 12 rfl rfl)
theorem dX10_all_39 : decode cX10_all 39 = .ok (.aload_n 0, 1) := dk_42 (dk_at dksX10_all_1 15 rfl rfl)
theorem dX10_all_40 : decode cX10_all 40 = .ok (.getfield 3, 3) := dk_180 0 3 (dk_at dksX10_all_1 16 rfl rfl)
theorem dX10_all_43 : decode cX10_all 43 = .ok (.getfield 19, 3) := dk_180 0 19 (dk_at dksX10_all_1 19 rfl rfl)
theorem dX10_all_46 : decode cX10_all 46 = .ok (.if_icmp .ne 7, 3) := dk_160 0 7 (dk_at dksX10_all_2 0 rfl rfl)
theorem dX10_all_49 : decode cX10_all 49 = .ok (.iconst 1, 1) := dk_4 (dk_at dksX10_all_2 3 rfl rfl)
theorem dX10_all_50 : decode cX10_all 50 = .ok (.goto 4, 3) := dk_167 0 4 (dk_at dksX10_all_2 4 rfl rfl)
theorem dX10_all_53 : decode cX10_all 53 = .ok (.iconst 0, 1) := dk_3 (dk_at dksX10_all_2 7 rfl rfl)
theorem dX10_all_54 : decode cX10_all 54 = .ok (.invokevirtual 47, 3) := dk_182 0 47 (dk_at dksX10_all_2 8 rfl rfl)
theorem dX10_all_57 : decode cX10_all 57 = .ok (.aload_n 1, 1) := dk_43 (dk_at dksX10_all_2 11 rfl rfl)
theorem dX10_all_58 : decode cX10_all 58 = .ok (.areturn, 1) := dk_176 (dk_at dksX10_all_2 12 rfl rfl)
abbrev cX10_condition : ByteArray := prog_8_method_9_code
def yX10_condition : MethodName := ⟨RX10, "condition", "(I)LLogCompactor$Condition;"⟩
def dkwX10_condition_3 : List UInt8 := [167, 0, 4, 3, 182, 0, 47, 187, 0, 81, 89, 42, 27, 4, 96, 182, 0, 83, 183, 0, 87, 176]
abbrev dktX10_condition_3 : List UInt8 := dkwX10_condition_3 ++ []
def dkwX10_condition_2 : List UInt8 := [153, 0, 8, 42, 182, 0, 77, 176, 42, 27, 7, 162, 0, 16, 42, 16, 33, 182, 0, 39, 153, 0, 7, 4]
abbrev dktX10_condition_2 : List UInt8 := dkwX10_condition_2 ++ dktX10_condition_3
def dkwX10_condition_1 : List UInt8 := [182, 0, 39, 153, 0, 15, 187, 0, 68, 89, 42, 182, 0, 70, 183, 0, 74, 176, 42, 16, 37, 182, 0, 39]
abbrev dktX10_condition_1 : List UInt8 := dkwX10_condition_1 ++ dktX10_condition_2
def dkwX10_condition_0 : List UInt8 := [42, 16, 35, 182, 0, 39, 153, 0, 15, 187, 0, 65, 89, 42, 182, 0, 59, 183, 0, 67, 176, 42, 16, 36]
abbrev dktX10_condition_0 : List UInt8 := dkwX10_condition_0 ++ dktX10_condition_1
theorem dksX10_condition_0 : cX10_condition.data.toList.drop 0 = dktX10_condition_0 := by decide +kernel
theorem dksX10_condition_1 : cX10_condition.data.toList.drop 24 = dktX10_condition_1 := dk_seg dksX10_condition_0 24 rfl rfl
theorem dksX10_condition_2 : cX10_condition.data.toList.drop 48 = dktX10_condition_2 := dk_seg dksX10_condition_1 24 rfl rfl
theorem dksX10_condition_3 : cX10_condition.data.toList.drop 72 = dktX10_condition_3 := dk_seg dksX10_condition_2 24 rfl rfl
theorem dX10_condition_0 : decode cX10_condition 0 = .ok (.aload_n 0, 1) := dk_42 (dk_at dksX10_condition_0 0 rfl rfl)
theorem dX10_condition_1 : decode cX10_condition 1 = .ok (.bipush 35, 2) := dk_16 35 (dk_at dksX10_condition_0 1 rfl rfl)
theorem dX10_condition_3 : decode cX10_condition 3 = .ok (.invokevirtual 39, 3) := dk_182 0 39 (dk_at dksX10_condition_0 3 rfl rfl)
theorem dX10_condition_6 : decode cX10_condition 6 = .ok (.ifCond .eq 15, 3) := dk_153 0 15 (dk_at dksX10_condition_0 6 rfl rfl)
theorem dX10_condition_9 : decode cX10_condition 9 = .ok (.new 65, 3) := dk_187 0 65 (dk_at dksX10_condition_0 9 rfl rfl)
theorem dX10_condition_12 : decode cX10_condition 12 = .ok (.dup, 1) := dk_89 (dk_at dksX10_condition_0 12 rfl rfl)
theorem dX10_condition_13 : decode cX10_condition 13 = .ok (.aload_n 0, 1) := dk_42 (dk_at dksX10_condition_0 13 rfl rfl)
theorem dX10_condition_14 : decode cX10_condition 14 = .ok (.invokevirtual 59, 3) := dk_182 0 59 (dk_at dksX10_condition_0 14 rfl rfl)
theorem dX10_condition_17 : decode cX10_condition 17 = .ok (.invokespecial 67, 3) := dk_183 0 67 (dk_at dksX10_condition_0 17 rfl rfl)
theorem dX10_condition_20 : decode cX10_condition 20 = .ok (.areturn, 1) := dk_176 (dk_at dksX10_condition_0 20 rfl rfl)
theorem dX10_condition_21 : decode cX10_condition 21 = .ok (.aload_n 0, 1) := dk_42 (dk_at dksX10_condition_0 21 rfl rfl)
theorem dX10_condition_22 : decode cX10_condition 22 = .ok (.bipush 36, 2) := dk_16 36 (dk_at dksX10_condition_0 22 rfl rfl)
theorem dX10_condition_24 : decode cX10_condition 24 = .ok (.invokevirtual 39, 3) := dk_182 0 39 (dk_at dksX10_condition_1 0 rfl rfl)
theorem dX10_condition_27 : decode cX10_condition 27 = .ok (.ifCond .eq 15, 3) := dk_153 0 15 (dk_at dksX10_condition_1 3 rfl rfl)
theorem dX10_condition_30 : decode cX10_condition 30 = .ok (.new 68, 3) := dk_187 0 68 (dk_at dksX10_condition_1 6 rfl rfl)
theorem dX10_condition_33 : decode cX10_condition 33 = .ok (.dup, 1) := dk_89 (dk_at dksX10_condition_1 9 rfl rfl)
theorem dX10_condition_34 : decode cX10_condition 34 = .ok (.aload_n 0, 1) := dk_42 (dk_at dksX10_condition_1 10 rfl rfl)
theorem dX10_condition_35 : decode cX10_condition 35 = .ok (.invokevirtual 70, 3) := dk_182 0 70 (dk_at dksX10_condition_1 11 rfl rfl)
theorem dX10_condition_38 : decode cX10_condition 38 = .ok (.invokespecial 74, 3) := dk_183 0 74 (dk_at dksX10_condition_1 14 rfl rfl)
theorem dX10_condition_41 : decode cX10_condition 41 = .ok (.areturn, 1) := dk_176 (dk_at dksX10_condition_1 17 rfl rfl)
theorem dX10_condition_42 : decode cX10_condition 42 = .ok (.aload_n 0, 1) := dk_42 (dk_at dksX10_condition_1 18 rfl rfl)
theorem dX10_condition_43 : decode cX10_condition 43 = .ok (.bipush 37, 2) := dk_16 37 (dk_at dksX10_condition_1 19 rfl rfl)
theorem dX10_condition_45 : decode cX10_condition 45 = .ok (.invokevirtual 39, 3) := dk_182 0 39 (dk_at dksX10_condition_1 21 rfl rfl)
theorem dX10_condition_48 : decode cX10_condition 48 = .ok (.ifCond .eq 8, 3) := dk_153 0 8 (dk_at dksX10_condition_2 0 rfl rfl)
theorem dX10_condition_51 : decode cX10_condition 51 = .ok (.aload_n 0, 1) := dk_42 (dk_at dksX10_condition_2 3 rfl rfl)
theorem dX10_condition_52 : decode cX10_condition 52 = .ok (.invokevirtual 77, 3) := dk_182 0 77 (dk_at dksX10_condition_2 4 rfl rfl)
theorem dX10_condition_55 : decode cX10_condition 55 = .ok (.areturn, 1) := dk_176 (dk_at dksX10_condition_2 7 rfl rfl)
theorem dX10_condition_56 : decode cX10_condition 56 = .ok (.aload_n 0, 1) := dk_42 (dk_at dksX10_condition_2 8 rfl rfl)
theorem dX10_condition_57 : decode cX10_condition 57 = .ok (.iload_n 1, 1) := dk_27 (dk_at dksX10_condition_2 9 rfl rfl)
theorem dX10_condition_58 : decode cX10_condition 58 = .ok (.iconst 4, 1) := dk_7 (dk_at dksX10_condition_2 10 rfl rfl)
theorem dX10_condition_59 : decode cX10_condition 59 = .ok (.if_icmp .ge 16, 3) := dk_162 0 16 (dk_at dksX10_condition_2 11 rfl rfl)
theorem dX10_condition_62 : decode cX10_condition 62 = .ok (.aload_n 0, 1) := dk_42 (dk_at dksX10_condition_2 14 rfl rfl)
theorem dX10_condition_63 : decode cX10_condition 63 = .ok (.bipush 33, 2) := dk_16 33 (dk_at dksX10_condition_2 15 rfl rfl)
theorem dX10_condition_65 : decode cX10_condition 65 = .ok (.invokevirtual 39, 3) := dk_182 0 39 (dk_at dksX10_condition_2 17 rfl rfl)
theorem dX10_condition_68 : decode cX10_condition 68 = .ok (.ifCond .eq 7, 3) := dk_153 0 7 (dk_at dksX10_condition_2 20 rfl rfl)
theorem dX10_condition_71 : decode cX10_condition 71 = .ok (.iconst 1, 1) := dk_4 (dk_at dksX10_condition_2 23 rfl rfl)
theorem dX10_condition_72 : decode cX10_condition 72 = .ok (.goto 4, 3) := dk_167 0 4 (dk_at dksX10_condition_3 0 rfl rfl)
theorem dX10_condition_75 : decode cX10_condition 75 = .ok (.iconst 0, 1) := dk_3 (dk_at dksX10_condition_3 3 rfl rfl)
theorem dX10_condition_76 : decode cX10_condition 76 = .ok (.invokevirtual 47, 3) := dk_182 0 47 (dk_at dksX10_condition_3 4 rfl rfl)
theorem dX10_condition_79 : decode cX10_condition 79 = .ok (.new 81, 3) := dk_187 0 81 (dk_at dksX10_condition_3 7 rfl rfl)
theorem dX10_condition_82 : decode cX10_condition 82 = .ok (.dup, 1) := dk_89 (dk_at dksX10_condition_3 10 rfl rfl)
theorem dX10_condition_83 : decode cX10_condition 83 = .ok (.aload_n 0, 1) := dk_42 (dk_at dksX10_condition_3 11 rfl rfl)
theorem dX10_condition_84 : decode cX10_condition 84 = .ok (.iload_n 1, 1) := dk_27 (dk_at dksX10_condition_3 12 rfl rfl)
theorem dX10_condition_85 : decode cX10_condition 85 = .ok (.iconst 1, 1) := dk_4 (dk_at dksX10_condition_3 13 rfl rfl)
theorem dX10_condition_86 : decode cX10_condition 86 = .ok (.iadd, 1) := dk_96 (dk_at dksX10_condition_3 14 rfl rfl)
theorem dX10_condition_87 : decode cX10_condition 87 = .ok (.invokevirtual 83, 3) := dk_182 0 83 (dk_at dksX10_condition_3 15 rfl rfl)
theorem dX10_condition_90 : decode cX10_condition 90 = .ok (.invokespecial 87, 3) := dk_183 0 87 (dk_at dksX10_condition_3 18 rfl rfl)
theorem dX10_condition_93 : decode cX10_condition 93 = .ok (.areturn, 1) := dk_176 (dk_at dksX10_condition_3 21 rfl rfl)
abbrev cX10_takes : ByteArray := prog_8_method_4_code
def yX10_takes : MethodName := ⟨RX10, "takes", "(C)Z"⟩
def dkwX10_takes_2 : List UInt8 := [172]
abbrev dktX10_takes_2 : List UInt8 := dkwX10_takes_2 ++ []
def dkwX10_takes_1 : List UInt8 := [167, 0, 4, 3, 61, 42, 89, 180, 0, 15, 28, 153, 0, 7, 4, 167, 0, 4, 3, 96, 181, 0, 15, 28]
abbrev dktX10_takes_1 : List UInt8 := dkwX10_takes_1 ++ dktX10_takes_2
def dkwX10_takes_0 : List UInt8 := [42, 180, 0, 15, 42, 180, 0, 3, 180, 0, 19, 162, 0, 15, 42, 182, 0, 31, 27, 160, 0, 7, 4]
abbrev dktX10_takes_0 : List UInt8 := dkwX10_takes_0 ++ dktX10_takes_1
theorem dksX10_takes_0 : cX10_takes.data.toList.drop 0 = dktX10_takes_0 := by decide +kernel
theorem dksX10_takes_1 : cX10_takes.data.toList.drop 23 = dktX10_takes_1 := dk_seg dksX10_takes_0 23 rfl rfl
theorem dksX10_takes_2 : cX10_takes.data.toList.drop 47 = dktX10_takes_2 := dk_seg dksX10_takes_1 24 rfl rfl
theorem dX10_takes_0 : decode cX10_takes 0 = .ok (.aload_n 0, 1) := dk_42 (dk_at dksX10_takes_0 0 rfl rfl)
theorem dX10_takes_1 : decode cX10_takes 1 = .ok (.getfield 15, 3) := dk_180 0 15 (dk_at dksX10_takes_0 1 rfl rfl)
theorem dX10_takes_4 : decode cX10_takes 4 = .ok (.aload_n 0, 1) := dk_42 (dk_at dksX10_takes_0 4 rfl rfl)
theorem dX10_takes_5 : decode cX10_takes 5 = .ok (.getfield 3, 3) := dk_180 0 3 (dk_at dksX10_takes_0 5 rfl rfl)
theorem dX10_takes_8 : decode cX10_takes 8 = .ok (.getfield 19, 3) := dk_180 0 19 (dk_at dksX10_takes_0 8 rfl rfl)
theorem dX10_takes_11 : decode cX10_takes 11 = .ok (.if_icmp .ge 15, 3) := dk_162 0 15 (dk_at dksX10_takes_0 11 rfl rfl)
theorem dX10_takes_14 : decode cX10_takes 14 = .ok (.aload_n 0, 1) := dk_42 (dk_at dksX10_takes_0 14 rfl rfl)
theorem dX10_takes_15 : decode cX10_takes 15 = .ok (.invokevirtual 31, 3) := dk_182 0 31 (dk_at dksX10_takes_0 15 rfl rfl)
theorem dX10_takes_18 : decode cX10_takes 18 = .ok (.iload_n 1, 1) := dk_27 (dk_at dksX10_takes_0 18 rfl rfl)
theorem dX10_takes_19 : decode cX10_takes 19 = .ok (.if_icmp .ne 7, 3) := dk_160 0 7 (dk_at dksX10_takes_0 19 rfl rfl)
theorem dX10_takes_22 : decode cX10_takes 22 = .ok (.iconst 1, 1) := dk_4 (dk_at dksX10_takes_0 22 rfl rfl)
theorem dX10_takes_23 : decode cX10_takes 23 = .ok (.goto 4, 3) := dk_167 0 4 (dk_at dksX10_takes_1 0 rfl rfl)
theorem dX10_takes_26 : decode cX10_takes 26 = .ok (.iconst 0, 1) := dk_3 (dk_at dksX10_takes_1 3 rfl rfl)
theorem dX10_takes_27 : decode cX10_takes 27 = .ok (.istore_n 2, 1) := dk_61 (dk_at dksX10_takes_1 4 rfl rfl)
theorem dX10_takes_28 : decode cX10_takes 28 = .ok (.aload_n 0, 1) := dk_42 (dk_at dksX10_takes_1 5 rfl rfl)
theorem dX10_takes_29 : decode cX10_takes 29 = .ok (.dup, 1) := dk_89 (dk_at dksX10_takes_1 6 rfl rfl)
theorem dX10_takes_30 : decode cX10_takes 30 = .ok (.getfield 15, 3) := dk_180 0 15 (dk_at dksX10_takes_1 7 rfl rfl)
theorem dX10_takes_33 : decode cX10_takes 33 = .ok (.iload_n 2, 1) := dk_28 (dk_at dksX10_takes_1 10 rfl rfl)
theorem dX10_takes_34 : decode cX10_takes 34 = .ok (.ifCond .eq 7, 3) := dk_153 0 7 (dk_at dksX10_takes_1 11 rfl rfl)
theorem dX10_takes_37 : decode cX10_takes 37 = .ok (.iconst 1, 1) := dk_4 (dk_at dksX10_takes_1 14 rfl rfl)
theorem dX10_takes_38 : decode cX10_takes 38 = .ok (.goto 4, 3) := dk_167 0 4 (dk_at dksX10_takes_1 15 rfl rfl)
theorem dX10_takes_41 : decode cX10_takes 41 = .ok (.iconst 0, 1) := dk_3 (dk_at dksX10_takes_1 18 rfl rfl)
theorem dX10_takes_42 : decode cX10_takes 42 = .ok (.iadd, 1) := dk_96 (dk_at dksX10_takes_1 19 rfl rfl)
theorem dX10_takes_43 : decode cX10_takes 43 = .ok (.putfield 15, 3) := dk_181 0 15 (dk_at dksX10_takes_1 20 rfl rfl)
theorem dX10_takes_46 : decode cX10_takes 46 = .ok (.iload_n 2, 1) := dk_28 (dk_at dksX10_takes_1 23 rfl rfl)
theorem dX10_takes_47 : decode cX10_takes 47 = .ok (.ireturn, 1) := dk_172 (dk_at dksX10_takes_2 0 rfl rfl)
abbrev cX10_next : ByteArray := prog_8_method_2_code
def yX10_next : MethodName := ⟨RX10, "next", "()I"⟩
def dkwX10_next_1 : List UInt8 := [180, 0, 15, 52, 167, 0, 4, 3, 172]
abbrev dktX10_next_1 : List UInt8 := dkwX10_next_1 ++ []
def dkwX10_next_0 : List UInt8 := [42, 180, 0, 15, 42, 180, 0, 3, 180, 0, 19, 162, 0, 18, 42, 180, 0, 3, 180, 0, 22, 42]
abbrev dktX10_next_0 : List UInt8 := dkwX10_next_0 ++ dktX10_next_1
theorem dksX10_next_0 : cX10_next.data.toList.drop 0 = dktX10_next_0 := by decide +kernel
theorem dksX10_next_1 : cX10_next.data.toList.drop 22 = dktX10_next_1 := dk_seg dksX10_next_0 22 rfl rfl
theorem dX10_next_0 : decode cX10_next 0 = .ok (.aload_n 0, 1) := dk_42 (dk_at dksX10_next_0 0 rfl rfl)
theorem dX10_next_1 : decode cX10_next 1 = .ok (.getfield 15, 3) := dk_180 0 15 (dk_at dksX10_next_0 1 rfl rfl)
theorem dX10_next_4 : decode cX10_next 4 = .ok (.aload_n 0, 1) := dk_42 (dk_at dksX10_next_0 4 rfl rfl)
theorem dX10_next_5 : decode cX10_next 5 = .ok (.getfield 3, 3) := dk_180 0 3 (dk_at dksX10_next_0 5 rfl rfl)
theorem dX10_next_8 : decode cX10_next 8 = .ok (.getfield 19, 3) := dk_180 0 19 (dk_at dksX10_next_0 8 rfl rfl)
theorem dX10_next_11 : decode cX10_next 11 = .ok (.if_icmp .ge 18, 3) := dk_162 0 18 (dk_at dksX10_next_0 11 rfl rfl)
theorem dX10_next_14 : decode cX10_next 14 = .ok (.aload_n 0, 1) := dk_42 (dk_at dksX10_next_0 14 rfl rfl)
theorem dX10_next_15 : decode cX10_next 15 = .ok (.getfield 3, 3) := dk_180 0 3 (dk_at dksX10_next_0 15 rfl rfl)
theorem dX10_next_18 : decode cX10_next 18 = .ok (.getfield 22, 3) := dk_180 0 22 (dk_at dksX10_next_0 18 rfl rfl)
theorem dX10_next_21 : decode cX10_next 21 = .ok (.aload_n 0, 1) := dk_42 (dk_at dksX10_next_0 21 rfl rfl)
theorem dX10_next_22 : decode cX10_next 22 = .ok (.getfield 15, 3) := dk_180 0 15 (dk_at dksX10_next_1 0 rfl rfl)
theorem dX10_next_25 : decode cX10_next 25 = .ok (.caload, 1) := dk_52 (dk_at dksX10_next_1 3 rfl rfl)
theorem dX10_next_26 : decode cX10_next 26 = .ok (.goto 4, 3) := dk_167 0 4 (dk_at dksX10_next_1 4 rfl rfl)
theorem dX10_next_29 : decode cX10_next 29 = .ok (.iconst 0, 1) := dk_3 (dk_at dksX10_next_1 7 rfl rfl)
theorem dX10_next_30 : decode cX10_next 30 = .ok (.ireturn, 1) := dk_172 (dk_at dksX10_next_1 8 rfl rfl)
abbrev cX10_number : ByteArray := prog_8_method_6_code
def yX10_number : MethodName := ⟨RX10, "number", "()I"⟩
def dkwX10_number_3 : List UInt8 := [28, 172]
abbrev dktX10_number_3 : List UInt8 := dkwX10_number_3 ++ []
def dkwX10_number_2 : List UInt8 := [89, 180, 0, 15, 4, 96, 181, 0, 15, 132, 3, 1, 167, 255, 217, 27, 153, 0, 8, 28, 116, 167, 0, 4]
abbrev dktX10_number_2 : List UInt8 := dkwX10_number_2 ++ dktX10_number_3
def dkwX10_number_1 : List UInt8 := [162, 0, 39, 42, 182, 0, 43, 153, 0, 32, 16, 10, 28, 104, 42, 182, 0, 31, 96, 16, 48, 100, 61, 42]
abbrev dktX10_number_1 : List UInt8 := dkwX10_number_1 ++ dktX10_number_2
def dkwX10_number_0 : List UInt8 := [42, 16, 45, 182, 0, 39, 60, 42, 42, 182, 0, 43, 182, 0, 47, 3, 61, 3, 62, 29, 16, 6]
abbrev dktX10_number_0 : List UInt8 := dkwX10_number_0 ++ dktX10_number_1
theorem dksX10_number_0 : cX10_number.data.toList.drop 0 = dktX10_number_0 := by decide +kernel
theorem dksX10_number_1 : cX10_number.data.toList.drop 22 = dktX10_number_1 := dk_seg dksX10_number_0 22 rfl rfl
theorem dksX10_number_2 : cX10_number.data.toList.drop 46 = dktX10_number_2 := dk_seg dksX10_number_1 24 rfl rfl
theorem dksX10_number_3 : cX10_number.data.toList.drop 70 = dktX10_number_3 := dk_seg dksX10_number_2 24 rfl rfl
theorem dX10_number_0 : decode cX10_number 0 = .ok (.aload_n 0, 1) := dk_42 (dk_at dksX10_number_0 0 rfl rfl)
theorem dX10_number_1 : decode cX10_number 1 = .ok (.bipush 45, 2) := dk_16 45 (dk_at dksX10_number_0 1 rfl rfl)
theorem dX10_number_3 : decode cX10_number 3 = .ok (.invokevirtual 39, 3) := dk_182 0 39 (dk_at dksX10_number_0 3 rfl rfl)
theorem dX10_number_6 : decode cX10_number 6 = .ok (.istore_n 1, 1) := dk_60 (dk_at dksX10_number_0 6 rfl rfl)
theorem dX10_number_7 : decode cX10_number 7 = .ok (.aload_n 0, 1) := dk_42 (dk_at dksX10_number_0 7 rfl rfl)
theorem dX10_number_8 : decode cX10_number 8 = .ok (.aload_n 0, 1) := dk_42 (dk_at dksX10_number_0 8 rfl rfl)
theorem dX10_number_9 : decode cX10_number 9 = .ok (.invokevirtual 43, 3) := dk_182 0 43 (dk_at dksX10_number_0 9 rfl rfl)
theorem dX10_number_12 : decode cX10_number 12 = .ok (.invokevirtual 47, 3) := dk_182 0 47 (dk_at dksX10_number_0 12 rfl rfl)
theorem dX10_number_15 : decode cX10_number 15 = .ok (.iconst 0, 1) := dk_3 (dk_at dksX10_number_0 15 rfl rfl)
theorem dX10_number_16 : decode cX10_number 16 = .ok (.istore_n 2, 1) := dk_61 (dk_at dksX10_number_0 16 rfl rfl)
theorem dX10_number_17 : decode cX10_number 17 = .ok (.iconst 0, 1) := dk_3 (dk_at dksX10_number_0 17 rfl rfl)
theorem dX10_number_18 : decode cX10_number 18 = .ok (.istore_n 3, 1) := dk_62 (dk_at dksX10_number_0 18 rfl rfl)
theorem dX10_number_19 : decode cX10_number 19 = .ok (.iload_n 3, 1) := dk_29 (dk_at dksX10_number_0 19 rfl rfl)
theorem dX10_number_20 : decode cX10_number 20 = .ok (.bipush 6, 2) := dk_16 6 (dk_at dksX10_number_0 20 rfl rfl)
theorem dX10_number_22 : decode cX10_number 22 = .ok (.if_icmp .ge 39, 3) := dk_162 0 39 (dk_at dksX10_number_1 0 rfl rfl)
theorem dX10_number_25 : decode cX10_number 25 = .ok (.aload_n 0, 1) := dk_42 (dk_at dksX10_number_1 3 rfl rfl)
theorem dX10_number_26 : decode cX10_number 26 = .ok (.invokevirtual 43, 3) := dk_182 0 43 (dk_at dksX10_number_1 4 rfl rfl)
theorem dX10_number_29 : decode cX10_number 29 = .ok (.ifCond .eq 32, 3) := dk_153 0 32 (dk_at dksX10_number_1 7 rfl rfl)
theorem dX10_number_32 : decode cX10_number 32 = .ok (.bipush 10, 2) := dk_16 10 (dk_at dksX10_number_1 10 rfl rfl)
theorem dX10_number_34 : decode cX10_number 34 = .ok (.iload_n 2, 1) := dk_28 (dk_at dksX10_number_1 12 rfl rfl)
theorem dX10_number_35 : decode cX10_number 35 = .ok (.imul, 1) := dk_104 (dk_at dksX10_number_1 13 rfl rfl)
theorem dX10_number_36 : decode cX10_number 36 = .ok (.aload_n 0, 1) := dk_42 (dk_at dksX10_number_1 14 rfl rfl)
theorem dX10_number_37 : decode cX10_number 37 = .ok (.invokevirtual 31, 3) := dk_182 0 31 (dk_at dksX10_number_1 15 rfl rfl)
theorem dX10_number_40 : decode cX10_number 40 = .ok (.iadd, 1) := dk_96 (dk_at dksX10_number_1 18 rfl rfl)
theorem dX10_number_41 : decode cX10_number 41 = .ok (.bipush 48, 2) := dk_16 48 (dk_at dksX10_number_1 19 rfl rfl)
theorem dX10_number_43 : decode cX10_number 43 = .ok (.isub, 1) := dk_100 (dk_at dksX10_number_1 21 rfl rfl)
theorem dX10_number_44 : decode cX10_number 44 = .ok (.istore_n 2, 1) := dk_61 (dk_at dksX10_number_1 22 rfl rfl)
theorem dX10_number_45 : decode cX10_number 45 = .ok (.aload_n 0, 1) := dk_42 (dk_at dksX10_number_1 23 rfl rfl)
theorem dX10_number_46 : decode cX10_number 46 = .ok (.dup, 1) := dk_89 (dk_at dksX10_number_2 0 rfl rfl)
theorem dX10_number_47 : decode cX10_number 47 = .ok (.getfield 15, 3) := dk_180 0 15 (dk_at dksX10_number_2 1 rfl rfl)
theorem dX10_number_50 : decode cX10_number 50 = .ok (.iconst 1, 1) := dk_4 (dk_at dksX10_number_2 4 rfl rfl)
theorem dX10_number_51 : decode cX10_number 51 = .ok (.iadd, 1) := dk_96 (dk_at dksX10_number_2 5 rfl rfl)
theorem dX10_number_52 : decode cX10_number 52 = .ok (.putfield 15, 3) := dk_181 0 15 (dk_at dksX10_number_2 6 rfl rfl)
theorem dX10_number_55 : decode cX10_number 55 = .ok (.iinc 3 1, 3) := dk_132 3 1 (dk_at dksX10_number_2 9 rfl rfl)
theorem dX10_number_58 : decode cX10_number 58 = .ok (.goto (-39), 3) := dk_167 255 217 (dk_at dksX10_number_2 12 rfl rfl)
theorem dX10_number_61 : decode cX10_number 61 = .ok (.iload_n 1, 1) := dk_27 (dk_at dksX10_number_2 15 rfl rfl)
theorem dX10_number_62 : decode cX10_number 62 = .ok (.ifCond .eq 8, 3) := dk_153 0 8 (dk_at dksX10_number_2 16 rfl rfl)
theorem dX10_number_65 : decode cX10_number 65 = .ok (.iload_n 2, 1) := dk_28 (dk_at dksX10_number_2 19 rfl rfl)
theorem dX10_number_66 : decode cX10_number 66 = .ok (.ineg, 1) := dk_116 (dk_at dksX10_number_2 20 rfl rfl)
theorem dX10_number_67 : decode cX10_number 67 = .ok (.goto 4, 3) := dk_167 0 4 (dk_at dksX10_number_2 21 rfl rfl)
theorem dX10_number_70 : decode cX10_number 70 = .ok (.iload_n 2, 1) := dk_28 (dk_at dksX10_number_3 0 rfl rfl)
theorem dX10_number_71 : decode cX10_number 71 = .ok (.ireturn, 1) := dk_172 (dk_at dksX10_number_3 1 rfl rfl)
abbrev cX10_isDigit : ByteArray := prog_8_method_5_code
def yX10_isDigit : MethodName := ⟨RX10, "isDigit", "()Z"⟩
def dkwX10_isDigit_0 : List UInt8 := [42, 182, 0, 31, 16, 48, 16, 57, 184, 0, 35, 172]
abbrev dktX10_isDigit_0 : List UInt8 := dkwX10_isDigit_0 ++ []
theorem dksX10_isDigit_0 : cX10_isDigit.data.toList.drop 0 = dktX10_isDigit_0 := by decide +kernel
theorem dX10_isDigit_0 : decode cX10_isDigit 0 = .ok (.aload_n 0, 1) := dk_42 (dk_at dksX10_isDigit_0 0 rfl rfl)
theorem dX10_isDigit_1 : decode cX10_isDigit 1 = .ok (.invokevirtual 31, 3) := dk_182 0 31 (dk_at dksX10_isDigit_0 1 rfl rfl)
theorem dX10_isDigit_4 : decode cX10_isDigit 4 = .ok (.bipush 48, 2) := dk_16 48 (dk_at dksX10_isDigit_0 4 rfl rfl)
theorem dX10_isDigit_6 : decode cX10_isDigit 6 = .ok (.bipush 57, 2) := dk_16 57 (dk_at dksX10_isDigit_0 6 rfl rfl)
theorem dX10_isDigit_8 : decode cX10_isDigit 8 = .ok (.invokestatic 35, 3) := dk_184 0 35 (dk_at dksX10_isDigit_0 8 rfl rfl)
theorem dX10_isDigit_11 : decode cX10_isDigit 11 = .ok (.ireturn, 1) := dk_172 (dk_at dksX10_isDigit_0 11 rfl rfl)
abbrev cX10_need : ByteArray := prog_8_method_3_code
def yX10_need : MethodName := ⟨RX10, "need", "(Z)V"⟩
def dkwX10_need_0 : List UInt8 := [27, 154, 0, 15, 187, 0, 26, 89, 42, 180, 0, 15, 183, 0, 28, 191, 177]
abbrev dktX10_need_0 : List UInt8 := dkwX10_need_0 ++ []
theorem dksX10_need_0 : cX10_need.data.toList.drop 0 = dktX10_need_0 := by decide +kernel
theorem dX10_need_0 : decode cX10_need 0 = .ok (.iload_n 1, 1) := dk_27 (dk_at dksX10_need_0 0 rfl rfl)
theorem dX10_need_1 : decode cX10_need 1 = .ok (.ifCond .ne 15, 3) := dk_154 0 15 (dk_at dksX10_need_0 1 rfl rfl)
theorem dX10_need_4 : decode cX10_need 4 = .ok (.new 26, 3) := dk_187 0 26 (dk_at dksX10_need_0 4 rfl rfl)
theorem dX10_need_7 : decode cX10_need 7 = .ok (.dup, 1) := dk_89 (dk_at dksX10_need_0 7 rfl rfl)
theorem dX10_need_8 : decode cX10_need 8 = .ok (.aload_n 0, 1) := dk_42 (dk_at dksX10_need_0 8 rfl rfl)
theorem dX10_need_9 : decode cX10_need 9 = .ok (.getfield 15, 3) := dk_180 0 15 (dk_at dksX10_need_0 9 rfl rfl)
theorem dX10_need_12 : decode cX10_need 12 = .ok (.invokespecial 28, 3) := dk_183 0 28 (dk_at dksX10_need_0 12 rfl rfl)
theorem dX10_need_15 : decode cX10_need 15 = .ok (.athrow, 1) := dk_191 (dk_at dksX10_need_0 15 rfl rfl)
theorem dX10_need_16 : decode cX10_need 16 = .ok (.return_, 1) := dk_177 (dk_at dksX10_need_0 16 rfl rfl)
abbrev cX10_word : ByteArray := prog_8_method_7_code
def yX10_word : MethodName := ⟨RX10, "word", "()Ljava/lang/String;"⟩
def dkwX10_word_3 : List UInt8 := [182, 0, 47, 42, 180, 0, 3, 180, 0, 22, 27, 42, 180, 0, 15, 27, 100, 184, 0, 51, 176]
abbrev dktX10_word_3 : List UInt8 := dkwX10_word_3 ++ []
def dkwX10_word_2 : List UInt8 := [4, 96, 181, 0, 15, 167, 255, 209, 42, 42, 180, 0, 15, 27, 164, 0, 7, 4, 167, 0, 4, 3]
abbrev dktX10_word_2 : List UInt8 := dkwX10_word_2 ++ dktX10_word_3
def dkwX10_word_1 : List UInt8 := [16, 33, 16, 126, 184, 0, 35, 153, 0, 25, 42, 182, 0, 31, 16, 38, 159, 0, 16, 42, 89, 180, 0, 15]
abbrev dktX10_word_1 : List UInt8 := dkwX10_word_1 ++ dktX10_word_2
def dkwX10_word_0 : List UInt8 := [42, 180, 0, 15, 60, 42, 180, 0, 15, 42, 180, 0, 3, 180, 0, 19, 162, 0, 39, 42, 182, 0, 31]
abbrev dktX10_word_0 : List UInt8 := dkwX10_word_0 ++ dktX10_word_1
theorem dksX10_word_0 : cX10_word.data.toList.drop 0 = dktX10_word_0 := by decide +kernel
theorem dksX10_word_1 : cX10_word.data.toList.drop 23 = dktX10_word_1 := dk_seg dksX10_word_0 23 rfl rfl
theorem dksX10_word_2 : cX10_word.data.toList.drop 47 = dktX10_word_2 := dk_seg dksX10_word_1 24 rfl rfl
theorem dksX10_word_3 : cX10_word.data.toList.drop 69 = dktX10_word_3 := dk_seg dksX10_word_2 22 rfl rfl
theorem dX10_word_0 : decode cX10_word 0 = .ok (.aload_n 0, 1) := dk_42 (dk_at dksX10_word_0 0 rfl rfl)
theorem dX10_word_1 : decode cX10_word 1 = .ok (.getfield 15, 3) := dk_180 0 15 (dk_at dksX10_word_0 1 rfl rfl)
theorem dX10_word_4 : decode cX10_word 4 = .ok (.istore_n 1, 1) := dk_60 (dk_at dksX10_word_0 4 rfl rfl)
theorem dX10_word_5 : decode cX10_word 5 = .ok (.aload_n 0, 1) := dk_42 (dk_at dksX10_word_0 5 rfl rfl)
theorem dX10_word_6 : decode cX10_word 6 = .ok (.getfield 15, 3) := dk_180 0 15 (dk_at dksX10_word_0 6 rfl rfl)
theorem dX10_word_9 : decode cX10_word 9 = .ok (.aload_n 0, 1) := dk_42 (dk_at dksX10_word_0 9 rfl rfl)
theorem dX10_word_10 : decode cX10_word 10 = .ok (.getfield 3, 3) := dk_180 0 3 (dk_at dksX10_word_0 10 rfl rfl)
theorem dX10_word_13 : decode cX10_word 13 = .ok (.getfield 19, 3) := dk_180 0 19 (dk_at dksX10_word_0 13 rfl rfl)
theorem dX10_word_16 : decode cX10_word 16 = .ok (.if_icmp .ge 39, 3) := dk_162 0 39 (dk_at dksX10_word_0 16 rfl rfl)
theorem dX10_word_19 : decode cX10_word 19 = .ok (.aload_n 0, 1) := dk_42 (dk_at dksX10_word_0 19 rfl rfl)
theorem dX10_word_20 : decode cX10_word 20 = .ok (.invokevirtual 31, 3) := dk_182 0 31 (dk_at dksX10_word_0 20 rfl rfl)
theorem dX10_word_23 : decode cX10_word 23 = .ok (.bipush 33, 2) := dk_16 33 (dk_at dksX10_word_1 0 rfl rfl)
theorem dX10_word_25 : decode cX10_word 25 = .ok (.bipush 126, 2) := dk_16 126 (dk_at dksX10_word_1 2 rfl rfl)
theorem dX10_word_27 : decode cX10_word 27 = .ok (.invokestatic 35, 3) := dk_184 0 35 (dk_at dksX10_word_1 4 rfl rfl)
theorem dX10_word_30 : decode cX10_word 30 = .ok (.ifCond .eq 25, 3) := dk_153 0 25 (dk_at dksX10_word_1 7 rfl rfl)
theorem dX10_word_33 : decode cX10_word 33 = .ok (.aload_n 0, 1) := dk_42 (dk_at dksX10_word_1 10 rfl rfl)
theorem dX10_word_34 : decode cX10_word 34 = .ok (.invokevirtual 31, 3) := dk_182 0 31 (dk_at dksX10_word_1 11 rfl rfl)
theorem dX10_word_37 : decode cX10_word 37 = .ok (.bipush 38, 2) := dk_16 38 (dk_at dksX10_word_1 14 rfl rfl)
theorem dX10_word_39 : decode cX10_word 39 = .ok (.if_icmp .eq 16, 3) := dk_159 0 16 (dk_at dksX10_word_1 16 rfl rfl)
theorem dX10_word_42 : decode cX10_word 42 = .ok (.aload_n 0, 1) := dk_42 (dk_at dksX10_word_1 19 rfl rfl)
theorem dX10_word_43 : decode cX10_word 43 = .ok (.dup, 1) := dk_89 (dk_at dksX10_word_1 20 rfl rfl)
theorem dX10_word_44 : decode cX10_word 44 = .ok (.getfield 15, 3) := dk_180 0 15 (dk_at dksX10_word_1 21 rfl rfl)
theorem dX10_word_47 : decode cX10_word 47 = .ok (.iconst 1, 1) := dk_4 (dk_at dksX10_word_2 0 rfl rfl)
theorem dX10_word_48 : decode cX10_word 48 = .ok (.iadd, 1) := dk_96 (dk_at dksX10_word_2 1 rfl rfl)
theorem dX10_word_49 : decode cX10_word 49 = .ok (.putfield 15, 3) := dk_181 0 15 (dk_at dksX10_word_2 2 rfl rfl)
theorem dX10_word_52 : decode cX10_word 52 = .ok (.goto (-47), 3) := dk_167 255 209 (dk_at dksX10_word_2 5 rfl rfl)
theorem dX10_word_55 : decode cX10_word 55 = .ok (.aload_n 0, 1) := dk_42 (dk_at dksX10_word_2 8 rfl rfl)
theorem dX10_word_56 : decode cX10_word 56 = .ok (.aload_n 0, 1) := dk_42 (dk_at dksX10_word_2 9 rfl rfl)
theorem dX10_word_57 : decode cX10_word 57 = .ok (.getfield 15, 3) := dk_180 0 15 (dk_at dksX10_word_2 10 rfl rfl)
theorem dX10_word_60 : decode cX10_word 60 = .ok (.iload_n 1, 1) := dk_27 (dk_at dksX10_word_2 13 rfl rfl)
theorem dX10_word_61 : decode cX10_word 61 = .ok (.if_icmp .le 7, 3) := dk_164 0 7 (dk_at dksX10_word_2 14 rfl rfl)
theorem dX10_word_64 : decode cX10_word 64 = .ok (.iconst 1, 1) := dk_4 (dk_at dksX10_word_2 17 rfl rfl)
theorem dX10_word_65 : decode cX10_word 65 = .ok (.goto 4, 3) := dk_167 0 4 (dk_at dksX10_word_2 18 rfl rfl)
theorem dX10_word_68 : decode cX10_word 68 = .ok (.iconst 0, 1) := dk_3 (dk_at dksX10_word_2 21 rfl rfl)
theorem dX10_word_69 : decode cX10_word 69 = .ok (.invokevirtual 47, 3) := dk_182 0 47 (dk_at dksX10_word_3 0 rfl rfl)
theorem dX10_word_72 : decode cX10_word 72 = .ok (.aload_n 0, 1) := dk_42 (dk_at dksX10_word_3 3 rfl rfl)
theorem dX10_word_73 : decode cX10_word 73 = .ok (.getfield 3, 3) := dk_180 0 3 (dk_at dksX10_word_3 4 rfl rfl)
theorem dX10_word_76 : decode cX10_word 76 = .ok (.getfield 22, 3) := dk_180 0 22 (dk_at dksX10_word_3 7 rfl rfl)
theorem dX10_word_79 : decode cX10_word 79 = .ok (.iload_n 1, 1) := dk_27 (dk_at dksX10_word_3 10 rfl rfl)
theorem dX10_word_80 : decode cX10_word 80 = .ok (.aload_n 0, 1) := dk_42 (dk_at dksX10_word_3 11 rfl rfl)
theorem dX10_word_81 : decode cX10_word 81 = .ok (.getfield 15, 3) := dk_180 0 15 (dk_at dksX10_word_3 12 rfl rfl)
theorem dX10_word_84 : decode cX10_word 84 = .ok (.iload_n 1, 1) := dk_27 (dk_at dksX10_word_3 15 rfl rfl)
theorem dX10_word_85 : decode cX10_word 85 = .ok (.isub, 1) := dk_100 (dk_at dksX10_word_3 16 rfl rfl)
theorem dX10_word_86 : decode cX10_word 86 = .ok (.invokestatic 51, 3) := dk_184 0 51 (dk_at dksX10_word_3 17 rfl rfl)
theorem dX10_word_89 : decode cX10_word 89 = .ok (.areturn, 1) := dk_176 (dk_at dksX10_word_3 20 rfl rfl)
abbrev cX10_comparison : ByteArray := prog_8_method_8_code
def yX10_comparison : MethodName := ⟨RX10, "comparison", "()LLogCompactor$ColumnCondition;"⟩
def dkwX10_comparison_4 : List UInt8 := [176]
abbrev dktX10_comparison_4 : List UInt8 := dkwX10_comparison_4 ++ []
def dkwX10_comparison_3 : List UInt8 := [153, 0, 7, 4, 167, 0, 4, 3, 182, 0, 47, 187, 0, 57, 89, 27, 28, 42, 182, 0, 59, 183, 0, 62]
abbrev dktX10_comparison_3 : List UInt8 := dkwX10_comparison_3 ++ dktX10_comparison_4
def dkwX10_comparison_2 : List UInt8 := [153, 0, 8, 16, 61, 167, 0, 5, 16, 62, 61, 42, 28, 16, 62, 160, 0, 12, 42, 16, 62, 182, 0, 39]
abbrev dktX10_comparison_2 : List UInt8 := dkwX10_comparison_2 ++ dktX10_comparison_3
def dkwX10_comparison_1 : List UInt8 := [181, 0, 15, 42, 16, 60, 182, 0, 39, 153, 0, 8, 16, 60, 167, 0, 19, 42, 16, 61, 182, 0, 39]
abbrev dktX10_comparison_1 : List UInt8 := dkwX10_comparison_1 ++ dktX10_comparison_2
def dkwX10_comparison_0 : List UInt8 := [42, 42, 182, 0, 43, 182, 0, 47, 42, 182, 0, 31, 16, 48, 100, 60, 42, 89, 180, 0, 15, 4, 96]
abbrev dktX10_comparison_0 : List UInt8 := dkwX10_comparison_0 ++ dktX10_comparison_1
theorem dksX10_comparison_0 : cX10_comparison.data.toList.drop 0 = dktX10_comparison_0 := by decide +kernel
theorem dksX10_comparison_1 : cX10_comparison.data.toList.drop 23 = dktX10_comparison_1 := dk_seg dksX10_comparison_0 23 rfl rfl
theorem dksX10_comparison_2 : cX10_comparison.data.toList.drop 46 = dktX10_comparison_2 := dk_seg dksX10_comparison_1 23 rfl rfl
theorem dksX10_comparison_3 : cX10_comparison.data.toList.drop 70 = dktX10_comparison_3 := dk_seg dksX10_comparison_2 24 rfl rfl
theorem dksX10_comparison_4 : cX10_comparison.data.toList.drop 94 = dktX10_comparison_4 := dk_seg dksX10_comparison_3 24 rfl rfl
theorem dX10_comparison_0 : decode cX10_comparison 0 = .ok (.aload_n 0, 1) := dk_42 (dk_at dksX10_comparison_0 0 rfl rfl)
theorem dX10_comparison_1 : decode cX10_comparison 1 = .ok (.aload_n 0, 1) := dk_42 (dk_at dksX10_comparison_0 1 rfl rfl)
theorem dX10_comparison_2 : decode cX10_comparison 2 = .ok (.invokevirtual 43, 3) := dk_182 0 43 (dk_at dksX10_comparison_0 2 rfl rfl)
theorem dX10_comparison_5 : decode cX10_comparison 5 = .ok (.invokevirtual 47, 3) := dk_182 0 47 (dk_at dksX10_comparison_0 5 rfl rfl)
theorem dX10_comparison_8 : decode cX10_comparison 8 = .ok (.aload_n 0, 1) := dk_42 (dk_at dksX10_comparison_0 8 rfl rfl)
theorem dX10_comparison_9 : decode cX10_comparison 9 = .ok (.invokevirtual 31, 3) := dk_182 0 31 (dk_at dksX10_comparison_0 9 rfl rfl)
theorem dX10_comparison_12 : decode cX10_comparison 12 = .ok (.bipush 48, 2) := dk_16 48 (dk_at dksX10_comparison_0 12 rfl rfl)
theorem dX10_comparison_14 : decode cX10_comparison 14 = .ok (.isub, 1) := dk_100 (dk_at dksX10_comparison_0 14 rfl rfl)
theorem dX10_comparison_15 : decode cX10_comparison 15 = .ok (.istore_n 1, 1) := dk_60 (dk_at dksX10_comparison_0 15 rfl rfl)
theorem dX10_comparison_16 : decode cX10_comparison 16 = .ok (.aload_n 0, 1) := dk_42 (dk_at dksX10_comparison_0 16 rfl rfl)
theorem dX10_comparison_17 : decode cX10_comparison 17 = .ok (.dup, 1) := dk_89 (dk_at dksX10_comparison_0 17 rfl rfl)
theorem dX10_comparison_18 : decode cX10_comparison 18 = .ok (.getfield 15, 3) := dk_180 0 15 (dk_at dksX10_comparison_0 18 rfl rfl)
theorem dX10_comparison_21 : decode cX10_comparison 21 = .ok (.iconst 1, 1) := dk_4 (dk_at dksX10_comparison_0 21 rfl rfl)
theorem dX10_comparison_22 : decode cX10_comparison 22 = .ok (.iadd, 1) := dk_96 (dk_at dksX10_comparison_0 22 rfl rfl)
theorem dX10_comparison_23 : decode cX10_comparison 23 = .ok (.putfield 15, 3) := dk_181 0 15 (dk_at dksX10_comparison_1 0 rfl rfl)
theorem dX10_comparison_26 : decode cX10_comparison 26 = .ok (.aload_n 0, 1) := dk_42 (dk_at dksX10_comparison_1 3 rfl rfl)
theorem dX10_comparison_27 : decode cX10_comparison 27 = .ok (.bipush 60, 2) := dk_16 60 (dk_at dksX10_comparison_1 4 rfl rfl)
theorem dX10_comparison_29 : decode cX10_comparison 29 = .ok (.invokevirtual 39, 3) := dk_182 0 39 (dk_at dksX10_comparison_1 6 rfl rfl)
theorem dX10_comparison_32 : decode cX10_comparison 32 = .ok (.ifCond .eq 8, 3) := dk_153 0 8 (dk_at dksX10_comparison_1 9 rfl rfl)
theorem dX10_comparison_35 : decode cX10_comparison 35 = .ok (.bipush 60, 2) := dk_16 60 (dk_at dksX10_comparison_1 12 rfl rfl)
theorem dX10_comparison_37 : decode cX10_comparison 37 = .ok (.goto 19, 3) := dk_167 0 19 (dk_at dksX10_comparison_1 14 rfl rfl)
theorem dX10_comparison_40 : decode cX10_comparison 40 = .ok (.aload_n 0, 1) := dk_42 (dk_at dksX10_comparison_1 17 rfl rfl)
theorem dX10_comparison_41 : decode cX10_comparison 41 = .ok (.bipush 61, 2) := dk_16 61 (dk_at dksX10_comparison_1 18 rfl rfl)
theorem dX10_comparison_43 : decode cX10_comparison 43 = .ok (.invokevirtual 39, 3) := dk_182 0 39 (dk_at dksX10_comparison_1 20 rfl rfl)
theorem dX10_comparison_46 : decode cX10_comparison 46 = .ok (.ifCond .eq 8, 3) := dk_153 0 8 (dk_at dksX10_comparison_2 0 rfl rfl)
theorem dX10_comparison_49 : decode cX10_comparison 49 = .ok (.bipush 61, 2) := dk_16 61 (dk_at dksX10_comparison_2 3 rfl rfl)
theorem dX10_comparison_51 : decode cX10_comparison 51 = .ok (.goto 5, 3) := dk_167 0 5 (dk_at dksX10_comparison_2 5 rfl rfl)
theorem dX10_comparison_54 : decode cX10_comparison 54 = .ok (.bipush 62, 2) := dk_16 62 (dk_at dksX10_comparison_2 8 rfl rfl)
theorem dX10_comparison_56 : decode cX10_comparison 56 = .ok (.istore_n 2, 1) := dk_61 (dk_at dksX10_comparison_2 10 rfl rfl)
theorem dX10_comparison_57 : decode cX10_comparison 57 = .ok (.aload_n 0, 1) := dk_42 (dk_at dksX10_comparison_2 11 rfl rfl)
theorem dX10_comparison_58 : decode cX10_comparison 58 = .ok (.iload_n 2, 1) := dk_28 (dk_at dksX10_comparison_2 12 rfl rfl)
theorem dX10_comparison_59 : decode cX10_comparison 59 = .ok (.bipush 62, 2) := dk_16 62 (dk_at dksX10_comparison_2 13 rfl rfl)
theorem dX10_comparison_61 : decode cX10_comparison 61 = .ok (.if_icmp .ne 12, 3) := dk_160 0 12 (dk_at dksX10_comparison_2 15 rfl rfl)
theorem dX10_comparison_64 : decode cX10_comparison 64 = .ok (.aload_n 0, 1) := dk_42 (dk_at dksX10_comparison_2 18 rfl rfl)
theorem dX10_comparison_65 : decode cX10_comparison 65 = .ok (.bipush 62, 2) := dk_16 62 (dk_at dksX10_comparison_2 19 rfl rfl)
theorem dX10_comparison_67 : decode cX10_comparison 67 = .ok (.invokevirtual 39, 3) := dk_182 0 39 (dk_at dksX10_comparison_2 21 rfl rfl)
theorem dX10_comparison_70 : decode cX10_comparison 70 = .ok (.ifCond .eq 7, 3) := dk_153 0 7 (dk_at dksX10_comparison_3 0 rfl rfl)
theorem dX10_comparison_73 : decode cX10_comparison 73 = .ok (.iconst 1, 1) := dk_4 (dk_at dksX10_comparison_3 3 rfl rfl)
theorem dX10_comparison_74 : decode cX10_comparison 74 = .ok (.goto 4, 3) := dk_167 0 4 (dk_at dksX10_comparison_3 4 rfl rfl)
theorem dX10_comparison_77 : decode cX10_comparison 77 = .ok (.iconst 0, 1) := dk_3 (dk_at dksX10_comparison_3 7 rfl rfl)
theorem dX10_comparison_78 : decode cX10_comparison 78 = .ok (.invokevirtual 47, 3) := dk_182 0 47 (dk_at dksX10_comparison_3 8 rfl rfl)
theorem dX10_comparison_81 : decode cX10_comparison 81 = .ok (.new 57, 3) := dk_187 0 57 (dk_at dksX10_comparison_3 11 rfl rfl)
theorem dX10_comparison_84 : decode cX10_comparison 84 = .ok (.dup, 1) := dk_89 (dk_at dksX10_comparison_3 14 rfl rfl)
theorem dX10_comparison_85 : decode cX10_comparison 85 = .ok (.iload_n 1, 1) := dk_27 (dk_at dksX10_comparison_3 15 rfl rfl)
theorem dX10_comparison_86 : decode cX10_comparison 86 = .ok (.iload_n 2, 1) := dk_28 (dk_at dksX10_comparison_3 16 rfl rfl)
theorem dX10_comparison_87 : decode cX10_comparison 87 = .ok (.aload_n 0, 1) := dk_42 (dk_at dksX10_comparison_3 17 rfl rfl)
theorem dX10_comparison_88 : decode cX10_comparison 88 = .ok (.invokevirtual 59, 3) := dk_182 0 59 (dk_at dksX10_comparison_3 18 rfl rfl)
theorem dX10_comparison_91 : decode cX10_comparison 91 = .ok (.invokespecial 62, 3) := dk_183 0 62 (dk_at dksX10_comparison_3 21 rfl rfl)
theorem dX10_comparison_94 : decode cX10_comparison 94 = .ok (.areturn, 1) := dk_176 (dk_at dksX10_comparison_4 0 rfl rfl)
theorem q134 : (Jvm.Cond.initialized "LogCompactor$Reader") ∈ lw_all := lw_g (lw_at lw_m1 38 rfl) rfl
theorem q228 : (Jvm.Cond.fieldLinkNest "LogCompactor$Reader" (22 : Nat) "LogCompactor" "input" "[C" "LogCompactor") ∈ lw_tbl := lw_at lw_m1 132 rfl
theorem q230 : (Jvm.Cond.fieldLinkNest "LogCompactor$Reader" (19 : Nat) "LogCompactor" "inputLength" "I" "LogCompactor") ∈ lw_tbl := lw_at lw_m1 134 rfl
theorem q416 : (Jvm.Cond.selects "LogCompactor$Reader" ({ cls := "java/lang/Object", name := "getClass", desc := "()Ljava/lang/Class;" } : Jvm.MethodName) ({ cls := "java/lang/Object", name := "getClass", desc := "()Ljava/lang/Class;" } : Jvm.MethodName)) ∈ lw_all := lw_g (lw_at lw_m2 80 rfl) rfl
theorem q1009 : (Jvm.Cond.instantiable "LogCompactor$Reader" (2 : Nat)) ∈ lw_all := lw_g (lw_at lw_m4 193 rfl) rfl
theorem q1011 : (Jvm.Cond.instanceMethod ({ cls := "LogCompactor$Reader", name := "<init>", desc := "(LLogCompactor;)V" } : Jvm.MethodName)) ∈ lw_all := lw_g (lw_at lw_m4 195 rfl) rfl
theorem q1012 : (Jvm.Cond.code ({ cls := "LogCompactor$Reader", name := "<init>", desc := "(LLogCompactor;)V" } : Jvm.MethodName) prog_8_method_1_code (2 : Nat) (Option.none : Option Jvm.ClassFile.FieldType)) ∈ lw_all := lw_g (lw_at lw_m4 196 rfl) rfl
theorem q1013 : (Jvm.Cond.methodLink "LogCompactor$Reader" (9 : Nat) ({ cls := "java/lang/Object", name := "<init>", desc := "()V" } : Jvm.MethodName)) ∈ lw_all := lw_g (lw_at lw_m4 197 rfl) rfl
theorem q1014 : (Jvm.Cond.fieldLink "LogCompactor$Reader" (15 : Nat) "LogCompactor$Reader" "position" "I") ∈ lw_all := lw_g (lw_at lw_m4 198 rfl) rfl
theorem q1015 : (Jvm.Cond.fieldLink "LogCompactor$Reader" (3 : Nat) "LogCompactor$Reader" "this$0" "LLogCompactor;") ∈ lw_all := lw_g (lw_at lw_m4 199 rfl) rfl
theorem q1016 : (Jvm.Cond.lays "LogCompactor$Reader" "LogCompactor$Reader" "position" "I") ∈ lw_all := lw_g (lw_at lw_m4 200 rfl) rfl
theorem q1017 : (Jvm.Cond.soleField "LogCompactor$Reader" "position") ∈ lw_all := lw_g (lw_at lw_m4 201 rfl) rfl
theorem q1018 : (Jvm.Cond.laysFinal "LogCompactor$Reader" "LogCompactor$Reader" "this$0" "LLogCompactor;") ∈ lw_all := lw_g (lw_at lw_m4 202 rfl) rfl
theorem q1019 : (Jvm.Cond.soleField "LogCompactor$Reader" "this$0") ∈ lw_all := lw_g (lw_at lw_m4 203 rfl) rfl
theorem q1020 : (Jvm.Cond.superclass "LogCompactor$Reader" "java/lang/Object") ∈ lw_all := lw_g (lw_at lw_m4 204 rfl) rfl
theorem q1022 : (Jvm.Cond.instanceMethod ({ cls := "LogCompactor$Reader", name := "all", desc := "()Ljava/util/ArrayList;" } : Jvm.MethodName)) ∈ lw_all := lw_g (lw_at lw_m4 206 rfl) rfl
theorem q1023 : (Jvm.Cond.selects "LogCompactor$Reader" ({ cls := "LogCompactor$Reader", name := "all", desc := "()Ljava/util/ArrayList;" } : Jvm.MethodName) ({ cls := "LogCompactor$Reader", name := "all", desc := "()Ljava/util/ArrayList;" } : Jvm.MethodName)) ∈ lw_all := lw_g (lw_at lw_m4 207 rfl) rfl
theorem q1024 : (Jvm.Cond.code ({ cls := "LogCompactor$Reader", name := "all", desc := "()Ljava/util/ArrayList;" } : Jvm.MethodName) prog_8_method_10_code (4 : Nat) (Option.some (Jvm.ClassFile.FieldType.object "java/util/ArrayList"))) ∈ lw_all := lw_g (lw_at lw_m4 208 rfl) rfl
theorem q1025 : (Jvm.Cond.classLink "LogCompactor$Reader" (90 : Nat) "java/util/ArrayList") ∈ lw_all := lw_g (lw_at lw_m4 209 rfl) rfl
theorem q1026 : (Jvm.Cond.methodLink "LogCompactor$Reader" (92 : Nat) ({ cls := "java/util/ArrayList", name := "<init>", desc := "()V" } : Jvm.MethodName)) ∈ lw_all := lw_g (lw_at lw_m4 210 rfl) rfl
theorem q1027 : (Jvm.Cond.methodLink "LogCompactor$Reader" (83 : Nat) ({ cls := "LogCompactor$Reader", name := "condition", desc := "(I)LLogCompactor$Condition;" } : Jvm.MethodName)) ∈ lw_all := lw_g (lw_at lw_m4 211 rfl) rfl
theorem q1028 : (Jvm.Cond.privateMethod ({ cls := "LogCompactor$Reader", name := "condition", desc := "(I)LLogCompactor$Condition;" } : Jvm.MethodName)) ∈ lw_tbl := lw_at lw_m4 212 rfl
theorem q1029 : (Jvm.Cond.instanceMethod ({ cls := "LogCompactor$Reader", name := "condition", desc := "(I)LLogCompactor$Condition;" } : Jvm.MethodName)) ∈ lw_all := lw_g (lw_at lw_m4 213 rfl) rfl
theorem q1030 : (Jvm.Cond.code ({ cls := "LogCompactor$Reader", name := "condition", desc := "(I)LLogCompactor$Condition;" } : Jvm.MethodName) prog_8_method_9_code (2 : Nat) (Option.some (Jvm.ClassFile.FieldType.object "LogCompactor$Condition"))) ∈ lw_all := lw_g (lw_at lw_m4 214 rfl) rfl
theorem q1031 : (Jvm.Cond.methodLink "LogCompactor$Reader" (39 : Nat) ({ cls := "LogCompactor$Reader", name := "takes", desc := "(C)Z" } : Jvm.MethodName)) ∈ lw_all := lw_g (lw_at lw_m4 215 rfl) rfl
theorem q1032 : (Jvm.Cond.privateMethod ({ cls := "LogCompactor$Reader", name := "takes", desc := "(C)Z" } : Jvm.MethodName)) ∈ lw_tbl := lw_at lw_m4 216 rfl
theorem q1033 : (Jvm.Cond.instanceMethod ({ cls := "LogCompactor$Reader", name := "takes", desc := "(C)Z" } : Jvm.MethodName)) ∈ lw_all := lw_g (lw_at lw_m4 217 rfl) rfl
theorem q1034 : (Jvm.Cond.code ({ cls := "LogCompactor$Reader", name := "takes", desc := "(C)Z" } : Jvm.MethodName) prog_8_method_4_code (3 : Nat) (Option.some Jvm.ClassFile.FieldType.boolean)) ∈ lw_all := lw_g (lw_at lw_m4 218 rfl) rfl
theorem q1035 : (Jvm.Cond.methodLink "LogCompactor$Reader" (31 : Nat) ({ cls := "LogCompactor$Reader", name := "next", desc := "()I" } : Jvm.MethodName)) ∈ lw_all := lw_g (lw_at lw_m4 219 rfl) rfl
theorem q1036 : (Jvm.Cond.privateMethod ({ cls := "LogCompactor$Reader", name := "next", desc := "()I" } : Jvm.MethodName)) ∈ lw_tbl := lw_at lw_m4 220 rfl
theorem q1037 : (Jvm.Cond.instanceMethod ({ cls := "LogCompactor$Reader", name := "next", desc := "()I" } : Jvm.MethodName)) ∈ lw_all := lw_g (lw_at lw_m4 221 rfl) rfl
theorem q1038 : (Jvm.Cond.code ({ cls := "LogCompactor$Reader", name := "next", desc := "()I" } : Jvm.MethodName) prog_8_method_2_code (1 : Nat) (Option.some Jvm.ClassFile.FieldType.int)) ∈ lw_all := lw_g (lw_at lw_m4 222 rfl) rfl
theorem q1039 : (Jvm.Cond.classLink "LogCompactor$Reader" (65 : Nat) "LogCompactor$TemplateCondition") ∈ lw_all := lw_g (lw_at lw_m4 223 rfl) rfl
theorem q1041 : (Jvm.Cond.methodLink "LogCompactor$Reader" (59 : Nat) ({ cls := "LogCompactor$Reader", name := "number", desc := "()I" } : Jvm.MethodName)) ∈ lw_all := lw_g (lw_at lw_m4 225 rfl) rfl
theorem q1042 : (Jvm.Cond.privateMethod ({ cls := "LogCompactor$Reader", name := "number", desc := "()I" } : Jvm.MethodName)) ∈ lw_tbl := lw_at lw_m4 226 rfl
theorem q1043 : (Jvm.Cond.instanceMethod ({ cls := "LogCompactor$Reader", name := "number", desc := "()I" } : Jvm.MethodName)) ∈ lw_all := lw_g (lw_at lw_m4 227 rfl) rfl
theorem q1044 : (Jvm.Cond.code ({ cls := "LogCompactor$Reader", name := "number", desc := "()I" } : Jvm.MethodName) prog_8_method_6_code (4 : Nat) (Option.some Jvm.ClassFile.FieldType.int)) ∈ lw_all := lw_g (lw_at lw_m4 228 rfl) rfl
theorem q1045 : (Jvm.Cond.methodLink "LogCompactor$Reader" (43 : Nat) ({ cls := "LogCompactor$Reader", name := "isDigit", desc := "()Z" } : Jvm.MethodName)) ∈ lw_all := lw_g (lw_at lw_m4 229 rfl) rfl
theorem q1046 : (Jvm.Cond.privateMethod ({ cls := "LogCompactor$Reader", name := "isDigit", desc := "()Z" } : Jvm.MethodName)) ∈ lw_tbl := lw_at lw_m4 230 rfl
theorem q1047 : (Jvm.Cond.instanceMethod ({ cls := "LogCompactor$Reader", name := "isDigit", desc := "()Z" } : Jvm.MethodName)) ∈ lw_all := lw_g (lw_at lw_m4 231 rfl) rfl
theorem q1048 : (Jvm.Cond.code ({ cls := "LogCompactor$Reader", name := "isDigit", desc := "()Z" } : Jvm.MethodName) prog_8_method_5_code (1 : Nat) (Option.some Jvm.ClassFile.FieldType.boolean)) ∈ lw_all := lw_g (lw_at lw_m4 232 rfl) rfl
theorem q1049 : (Jvm.Cond.methodLinkNest "LogCompactor$Reader" (35 : Nat) ({ cls := "LogCompactor", name := "inRange", desc := "(III)Z" } : Jvm.MethodName) "LogCompactor") ∈ lw_tbl := lw_at lw_m4 233 rfl
theorem q1052 : (Jvm.Cond.methodLink "LogCompactor$Reader" (47 : Nat) ({ cls := "LogCompactor$Reader", name := "need", desc := "(Z)V" } : Jvm.MethodName)) ∈ lw_all := lw_g (lw_at lw_m4 236 rfl) rfl
theorem q1053 : (Jvm.Cond.privateMethod ({ cls := "LogCompactor$Reader", name := "need", desc := "(Z)V" } : Jvm.MethodName)) ∈ lw_tbl := lw_at lw_m4 237 rfl
theorem q1054 : (Jvm.Cond.instanceMethod ({ cls := "LogCompactor$Reader", name := "need", desc := "(Z)V" } : Jvm.MethodName)) ∈ lw_all := lw_g (lw_at lw_m4 238 rfl) rfl
theorem q1055 : (Jvm.Cond.code ({ cls := "LogCompactor$Reader", name := "need", desc := "(Z)V" } : Jvm.MethodName) prog_8_method_3_code (2 : Nat) (Option.none : Option Jvm.ClassFile.FieldType)) ∈ lw_all := lw_g (lw_at lw_m4 239 rfl) rfl
theorem q1056 : (Jvm.Cond.classLink "LogCompactor$Reader" (26 : Nat) "LogCompactor$TextException") ∈ lw_all := lw_g (lw_at lw_m5 0 rfl) rfl
theorem q1065 : (Jvm.Cond.methodLink "LogCompactor$Reader" (28 : Nat) ({ cls := "LogCompactor$TextException", name := "<init>", desc := "(I)V" } : Jvm.MethodName)) ∈ lw_all := lw_g (lw_at lw_m5 9 rfl) rfl
theorem q1075 : (Jvm.Cond.methodLink "LogCompactor$Reader" (67 : Nat) ({ cls := "LogCompactor$TemplateCondition", name := "<init>", desc := "(I)V" } : Jvm.MethodName)) ∈ lw_all := lw_g (lw_at lw_m5 19 rfl) rfl
theorem q1086 : (Jvm.Cond.classLink "LogCompactor$Reader" (68 : Nat) "LogCompactor$WordCondition") ∈ lw_all := lw_g (lw_at lw_m5 30 rfl) rfl
theorem q1088 : (Jvm.Cond.methodLink "LogCompactor$Reader" (70 : Nat) ({ cls := "LogCompactor$Reader", name := "word", desc := "()Ljava/lang/String;" } : Jvm.MethodName)) ∈ lw_all := lw_g (lw_at lw_m5 32 rfl) rfl
theorem q1089 : (Jvm.Cond.privateMethod ({ cls := "LogCompactor$Reader", name := "word", desc := "()Ljava/lang/String;" } : Jvm.MethodName)) ∈ lw_tbl := lw_at lw_m5 33 rfl
theorem q1090 : (Jvm.Cond.instanceMethod ({ cls := "LogCompactor$Reader", name := "word", desc := "()Ljava/lang/String;" } : Jvm.MethodName)) ∈ lw_all := lw_g (lw_at lw_m5 34 rfl) rfl
theorem q1091 : (Jvm.Cond.code ({ cls := "LogCompactor$Reader", name := "word", desc := "()Ljava/lang/String;" } : Jvm.MethodName) prog_8_method_7_code (2 : Nat) (Option.some (Jvm.ClassFile.FieldType.object "java/lang/String"))) ∈ lw_all := lw_g (lw_at lw_m5 35 rfl) rfl
theorem q1092 : (Jvm.Cond.methodLink "LogCompactor$Reader" (51 : Nat) ({ cls := "java/lang/String", name := "valueOf", desc := "([CII)Ljava/lang/String;" } : Jvm.MethodName)) ∈ lw_all := lw_g (lw_at lw_m5 36 rfl) rfl
theorem q1117 : (Jvm.Cond.methodLink "LogCompactor$Reader" (74 : Nat) ({ cls := "LogCompactor$WordCondition", name := "<init>", desc := "(Ljava/lang/String;)V" } : Jvm.MethodName)) ∈ lw_all := lw_g (lw_at lw_m5 61 rfl) rfl
theorem q1125 : (Jvm.Cond.methodLink "LogCompactor$Reader" (77 : Nat) ({ cls := "LogCompactor$Reader", name := "comparison", desc := "()LLogCompactor$ColumnCondition;" } : Jvm.MethodName)) ∈ lw_all := lw_g (lw_at lw_m5 69 rfl) rfl
theorem q1126 : (Jvm.Cond.privateMethod ({ cls := "LogCompactor$Reader", name := "comparison", desc := "()LLogCompactor$ColumnCondition;" } : Jvm.MethodName)) ∈ lw_tbl := lw_at lw_m5 70 rfl
theorem q1127 : (Jvm.Cond.instanceMethod ({ cls := "LogCompactor$Reader", name := "comparison", desc := "()LLogCompactor$ColumnCondition;" } : Jvm.MethodName)) ∈ lw_all := lw_g (lw_at lw_m5 71 rfl) rfl
theorem q1128 : (Jvm.Cond.code ({ cls := "LogCompactor$Reader", name := "comparison", desc := "()LLogCompactor$ColumnCondition;" } : Jvm.MethodName) prog_8_method_8_code (3 : Nat) (Option.some (Jvm.ClassFile.FieldType.object "LogCompactor$ColumnCondition"))) ∈ lw_all := lw_g (lw_at lw_m5 72 rfl) rfl
theorem q1129 : (Jvm.Cond.classLink "LogCompactor$Reader" (57 : Nat) "LogCompactor$ColumnCondition") ∈ lw_all := lw_g (lw_at lw_m5 73 rfl) rfl
theorem q1131 : (Jvm.Cond.methodLink "LogCompactor$Reader" (62 : Nat) ({ cls := "LogCompactor$ColumnCondition", name := "<init>", desc := "(ICI)V" } : Jvm.MethodName)) ∈ lw_all := lw_g (lw_at lw_m5 75 rfl) rfl
theorem q1145 : (Jvm.Cond.classLink "LogCompactor$Reader" (81 : Nat) "LogCompactor$NotCondition") ∈ lw_all := lw_g (lw_at lw_m5 89 rfl) rfl
theorem q1147 : (Jvm.Cond.methodLink "LogCompactor$Reader" (87 : Nat) ({ cls := "LogCompactor$NotCondition", name := "<init>", desc := "(LLogCompactor$Condition;)V" } : Jvm.MethodName)) ∈ lw_all := lw_g (lw_at lw_m5 91 rfl) rfl
theorem q1155 : (Jvm.Cond.methodLink "LogCompactor$Reader" (93 : Nat) ({ cls := "java/util/ArrayList", name := "add", desc := "(Ljava/lang/Object;)Z" } : Jvm.MethodName)) ∈ lw_all := lw_g (lw_at lw_m5 99 rfl) rfl
theorem q1218 : (Jvm.Cond.selects "LogCompactor$Reader" ({ cls := "java/lang/Object", name := "equals", desc := "(Ljava/lang/Object;)Z" } : Jvm.MethodName) ({ cls := "java/lang/Object", name := "equals", desc := "(Ljava/lang/Object;)Z" } : Jvm.MethodName)) ∈ lw_all := lw_g (lw_at lw_m5 162 rfl) rfl
theorem q2345 : (Jvm.Cond.castable "LogCompactor$Reader" "java/lang/Object") ∈ lw_tbl := lw_at lw_m10 89 rfl
theorem in_X10 : ∀ w ∈ wsX100, w ∈ lw_all := lw_in wsX100 [1016, 1018] (by decide +kernel) (by decide +kernel)
/-! LogCompactor$Condition -/
set_option maxRecDepth 100000
def RX11 : String := "LogCompactor$Condition"
abbrev cX11_init : ByteArray := prog_4_method_1_code
def yX11_init : MethodName := ⟨RX11, "<init>", "()V"⟩
theorem dX11_init_0 : decode cX11_init 0 = .ok (.aload_n 0, 1) := by decide +kernel
theorem dX11_init_1 : decode cX11_init 1 = .ok (.invokespecial 1, 3) := by decide +kernel
theorem dX11_init_4 : decode cX11_init 4 = .ok (.return_, 1) := by decide +kernel
theorem q135 : (Jvm.Cond.initialized "LogCompactor$Condition") ∈ lw_all := lw_g (lw_at lw_m1 39 rfl) rfl
theorem q1079 : (Jvm.Cond.instanceMethod ({ cls := "LogCompactor$Condition", name := "<init>", desc := "()V" } : Jvm.MethodName)) ∈ lw_all := lw_g (lw_at lw_m5 23 rfl) rfl
theorem q1080 : (Jvm.Cond.code ({ cls := "LogCompactor$Condition", name := "<init>", desc := "()V" } : Jvm.MethodName) prog_4_method_1_code (1 : Nat) (Option.none : Option Jvm.ClassFile.FieldType)) ∈ lw_all := lw_g (lw_at lw_m5 24 rfl) rfl
theorem q1081 : (Jvm.Cond.methodLink "LogCompactor$Condition" (1 : Nat) ({ cls := "java/lang/Object", name := "<init>", desc := "()V" } : Jvm.MethodName)) ∈ lw_all := lw_g (lw_at lw_m5 25 rfl) rfl
theorem q1167 : (Jvm.Cond.declares ({ cls := "LogCompactor$Condition", name := "holds", desc := "(LLogCompactor$Log;I)Z" } : Jvm.MethodName)) ∈ lw_tbl := lw_at lw_m5 111 rfl
theorem q1168 : (Jvm.Cond.sameMethod "LogCompactor$Condition" "LogCompactor$Condition" "holds" "(LLogCompactor$Log;I)Z") ∈ lw_all := lw_g (lw_at lw_m5 112 rfl) rfl
/-! LogCompactor$TemplateCondition -/
set_option maxRecDepth 100000
def RX12 : String := "LogCompactor$TemplateCondition"
def TX12 : u_T := fun k => match k with
  | _ => ("LogCompactor$TemplateCondition", "template", "I", true)
def tyX12 : Nat → FieldType := fun k => match k with
  | _ => .int
abbrev wsX120 : List Cond := u_ws RX12 TX12 1
theorem nmX12 : ∀ a, a < 1 → ∀ b, b < 1 → a ≠ b → (TX12 a).2.1 ≠ (TX12 b).2.1 := by decide +kernel
theorem tyX12_ok : ∀ k, k < 1 → parseFieldDescriptor (TX12 k).2.2.1 = some (tyX12 k) := by decide +kernel
abbrev cX12_init : ByteArray := prog_12_method_1_code
def yX12_init : MethodName := ⟨RX12, "<init>", "(I)V"⟩
def dkwX12_init_0 : List UInt8 := [42, 183, 0, 1, 42, 27, 181, 0, 7, 177]
abbrev dktX12_init_0 : List UInt8 := dkwX12_init_0 ++ []
theorem dksX12_init_0 : cX12_init.data.toList.drop 0 = dktX12_init_0 := by decide +kernel
theorem dX12_init_0 : decode cX12_init 0 = .ok (.aload_n 0, 1) := dk_42 (dk_at dksX12_init_0 0 rfl rfl)
theorem dX12_init_1 : decode cX12_init 1 = .ok (.invokespecial 1, 3) := dk_183 0 1 (dk_at dksX12_init_0 1 rfl rfl)
theorem dX12_init_4 : decode cX12_init 4 = .ok (.aload_n 0, 1) := dk_42 (dk_at dksX12_init_0 4 rfl rfl)
theorem dX12_init_5 : decode cX12_init 5 = .ok (.iload_n 1, 1) := dk_27 (dk_at dksX12_init_0 5 rfl rfl)
theorem dX12_init_6 : decode cX12_init 6 = .ok (.putfield 7, 3) := dk_181 0 7 (dk_at dksX12_init_0 6 rfl rfl)
theorem dX12_init_9 : decode cX12_init 9 = .ok (.return_, 1) := dk_177 (dk_at dksX12_init_0 9 rfl rfl)
abbrev cX12_holds : ByteArray := prog_12_method_2_code
def yX12_holds : MethodName := ⟨RX12, "holds", "(LLogCompactor$Log;I)Z"⟩
def dkwX12_holds_0 : List UInt8 := [43, 28, 182, 0, 13, 42, 180, 0, 7, 160, 0, 7, 4, 167, 0, 4, 3, 172]
abbrev dktX12_holds_0 : List UInt8 := dkwX12_holds_0 ++ []
theorem dksX12_holds_0 : cX12_holds.data.toList.drop 0 = dktX12_holds_0 := by decide +kernel
theorem dX12_holds_0 : decode cX12_holds 0 = .ok (.aload_n 1, 1) := dk_43 (dk_at dksX12_holds_0 0 rfl rfl)
theorem dX12_holds_1 : decode cX12_holds 1 = .ok (.iload_n 2, 1) := dk_28 (dk_at dksX12_holds_0 1 rfl rfl)
theorem dX12_holds_2 : decode cX12_holds 2 = .ok (.invokevirtual 13, 3) := dk_182 0 13 (dk_at dksX12_holds_0 2 rfl rfl)
theorem dX12_holds_5 : decode cX12_holds 5 = .ok (.aload_n 0, 1) := dk_42 (dk_at dksX12_holds_0 5 rfl rfl)
theorem dX12_holds_6 : decode cX12_holds 6 = .ok (.getfield 7, 3) := dk_180 0 7 (dk_at dksX12_holds_0 6 rfl rfl)
theorem dX12_holds_9 : decode cX12_holds 9 = .ok (.if_icmp .ne 7, 3) := dk_160 0 7 (dk_at dksX12_holds_0 9 rfl rfl)
theorem dX12_holds_12 : decode cX12_holds 12 = .ok (.iconst 1, 1) := dk_4 (dk_at dksX12_holds_0 12 rfl rfl)
theorem dX12_holds_13 : decode cX12_holds 13 = .ok (.goto 4, 3) := dk_167 0 4 (dk_at dksX12_holds_0 13 rfl rfl)
theorem dX12_holds_16 : decode cX12_holds 16 = .ok (.iconst 0, 1) := dk_3 (dk_at dksX12_holds_0 16 rfl rfl)
theorem dX12_holds_17 : decode cX12_holds 17 = .ok (.ireturn, 1) := dk_172 (dk_at dksX12_holds_0 17 rfl rfl)
theorem q136 : (Jvm.Cond.initialized "LogCompactor$TemplateCondition") ∈ lw_all := lw_g (lw_at lw_m1 40 rfl) rfl
theorem q420 : (Jvm.Cond.selects "LogCompactor$TemplateCondition" ({ cls := "java/lang/Object", name := "getClass", desc := "()Ljava/lang/Class;" } : Jvm.MethodName) ({ cls := "java/lang/Object", name := "getClass", desc := "()Ljava/lang/Class;" } : Jvm.MethodName)) ∈ lw_all := lw_g (lw_at lw_m2 84 rfl) rfl
theorem q1040 : (Jvm.Cond.instantiable "LogCompactor$TemplateCondition" (1 : Nat)) ∈ lw_all := lw_g (lw_at lw_m4 224 rfl) rfl
theorem q1076 : (Jvm.Cond.instanceMethod ({ cls := "LogCompactor$TemplateCondition", name := "<init>", desc := "(I)V" } : Jvm.MethodName)) ∈ lw_all := lw_g (lw_at lw_m5 20 rfl) rfl
theorem q1077 : (Jvm.Cond.code ({ cls := "LogCompactor$TemplateCondition", name := "<init>", desc := "(I)V" } : Jvm.MethodName) prog_12_method_1_code (2 : Nat) (Option.none : Option Jvm.ClassFile.FieldType)) ∈ lw_all := lw_g (lw_at lw_m5 21 rfl) rfl
theorem q1078 : (Jvm.Cond.methodLinkNest "LogCompactor$TemplateCondition" (1 : Nat) ({ cls := "LogCompactor$Condition", name := "<init>", desc := "()V" } : Jvm.MethodName) "LogCompactor") ∈ lw_tbl := lw_at lw_m5 22 rfl
theorem q1082 : (Jvm.Cond.fieldLink "LogCompactor$TemplateCondition" (7 : Nat) "LogCompactor$TemplateCondition" "template" "I") ∈ lw_all := lw_g (lw_at lw_m5 26 rfl) rfl
theorem q1083 : (Jvm.Cond.laysFinal "LogCompactor$TemplateCondition" "LogCompactor$TemplateCondition" "template" "I") ∈ lw_all := lw_g (lw_at lw_m5 27 rfl) rfl
theorem q1084 : (Jvm.Cond.soleField "LogCompactor$TemplateCondition" "template") ∈ lw_all := lw_g (lw_at lw_m5 28 rfl) rfl
theorem q1085 : (Jvm.Cond.superclass "LogCompactor$TemplateCondition" "LogCompactor$Condition") ∈ lw_all := lw_g (lw_at lw_m5 29 rfl) rfl
theorem q1222 : (Jvm.Cond.selects "LogCompactor$TemplateCondition" ({ cls := "java/lang/Object", name := "equals", desc := "(Ljava/lang/Object;)Z" } : Jvm.MethodName) ({ cls := "java/lang/Object", name := "equals", desc := "(Ljava/lang/Object;)Z" } : Jvm.MethodName)) ∈ lw_all := lw_g (lw_at lw_m5 166 rfl) rfl
theorem q1253 : (Jvm.Cond.instanceMethod ({ cls := "LogCompactor$TemplateCondition", name := "holds", desc := "(LLogCompactor$Log;I)Z" } : Jvm.MethodName)) ∈ lw_all := lw_g (lw_at lw_m5 197 rfl) rfl
theorem q1254 : (Jvm.Cond.code ({ cls := "LogCompactor$TemplateCondition", name := "holds", desc := "(LLogCompactor$Log;I)Z" } : Jvm.MethodName) prog_12_method_2_code (3 : Nat) (Option.some Jvm.ClassFile.FieldType.boolean)) ∈ lw_all := lw_g (lw_at lw_m5 198 rfl) rfl
theorem q1255 : (Jvm.Cond.methodLink "LogCompactor$TemplateCondition" (13 : Nat) ({ cls := "LogCompactor$Log", name := "templateOf", desc := "(I)I" } : Jvm.MethodName)) ∈ lw_all := lw_g (lw_at lw_m5 199 rfl) rfl
theorem q1268 : (Jvm.Cond.selects "LogCompactor$TemplateCondition" ({ cls := "LogCompactor$Condition", name := "holds", desc := "(LLogCompactor$Log;I)Z" } : Jvm.MethodName) ({ cls := "LogCompactor$TemplateCondition", name := "holds", desc := "(LLogCompactor$Log;I)Z" } : Jvm.MethodName)) ∈ lw_all := lw_g (lw_at lw_m5 212 rfl) rfl
theorem q2322 : (Jvm.Cond.castable "LogCompactor$TemplateCondition" "LogCompactor$Condition") ∈ lw_tbl := lw_at lw_m10 66 rfl
theorem q2346 : (Jvm.Cond.castable "LogCompactor$TemplateCondition" "java/lang/Object") ∈ lw_tbl := lw_at lw_m10 90 rfl
theorem in_X12 : ∀ w ∈ wsX120, w ∈ lw_all := lw_in wsX120 [1083] (by decide +kernel) (by decide +kernel)
/-! LogCompactor$TextException -/
set_option maxRecDepth 100000
def RX13 : String := "LogCompactor$TextException"
def TX13 : u_T := fun k => match k with
  | 0 => ("java/lang/Throwable", "cause", "Ljava/lang/Throwable;", false)
  | 1 => ("java/lang/Throwable", "stackTrace", "[Ljava/lang/StackTraceElement;", false)
  | 2 => ("java/lang/Throwable", "suppressedExceptions", "Ljava/util/List;", false)
  | 3 => ("java/lang/Throwable", "detailMessage", "Ljava/lang/String;", false)
  | 4 => ("java/lang/Throwable", "backtrace", "Ljava/lang/Object;", false)
  | 5 => ("java/lang/Throwable", "depth", "I", false)
  | _ => ("LogCompactor$TextException", "position", "I", true)
def tyX13 : Nat → FieldType := fun k => match k with
  | 0 => .object "java/lang/Throwable"
  | 1 => .array (.object "java/lang/StackTraceElement")
  | 2 => .object "java/util/List"
  | 3 => .object "java/lang/String"
  | 4 => .object "java/lang/Object"
  | 5 => .int
  | _ => .int
abbrev wsX130 : List Cond := u_ws RX13 TX13 7
theorem nmX13 : ∀ a, a < 7 → ∀ b, b < 7 → a ≠ b → (TX13 a).2.1 ≠ (TX13 b).2.1 := by decide +kernel
theorem tyX13_ok : ∀ k, k < 7 → parseFieldDescriptor (TX13 k).2.2.1 = some (tyX13 k) := by decide +kernel
abbrev cX13_init : ByteArray := prog_13_method_1_code
def yX13_init : MethodName := ⟨RX13, "<init>", "(I)V"⟩
def dkwX13_init_0 : List UInt8 := [42, 1, 1, 3, 3, 183, 0, 1, 42, 27, 181, 0, 7, 177]
abbrev dktX13_init_0 : List UInt8 := dkwX13_init_0 ++ []
theorem dksX13_init_0 : cX13_init.data.toList.drop 0 = dktX13_init_0 := by decide +kernel
theorem dX13_init_0 : decode cX13_init 0 = .ok (.aload_n 0, 1) := dk_42 (dk_at dksX13_init_0 0 rfl rfl)
theorem dX13_init_1 : decode cX13_init 1 = .ok (.aconst_null, 1) := dk_1 (dk_at dksX13_init_0 1 rfl rfl)
theorem dX13_init_2 : decode cX13_init 2 = .ok (.aconst_null, 1) := dk_1 (dk_at dksX13_init_0 2 rfl rfl)
theorem dX13_init_3 : decode cX13_init 3 = .ok (.iconst 0, 1) := dk_3 (dk_at dksX13_init_0 3 rfl rfl)
theorem dX13_init_4 : decode cX13_init 4 = .ok (.iconst 0, 1) := dk_3 (dk_at dksX13_init_0 4 rfl rfl)
theorem dX13_init_5 : decode cX13_init 5 = .ok (.invokespecial 1, 3) := dk_183 0 1 (dk_at dksX13_init_0 5 rfl rfl)
theorem dX13_init_8 : decode cX13_init 8 = .ok (.aload_n 0, 1) := dk_42 (dk_at dksX13_init_0 8 rfl rfl)
theorem dX13_init_9 : decode cX13_init 9 = .ok (.iload_n 1, 1) := dk_27 (dk_at dksX13_init_0 9 rfl rfl)
theorem dX13_init_10 : decode cX13_init 10 = .ok (.putfield 7, 3) := dk_181 0 7 (dk_at dksX13_init_0 10 rfl rfl)
theorem dX13_init_13 : decode cX13_init 13 = .ok (.return_, 1) := dk_177 (dk_at dksX13_init_0 13 rfl rfl)
theorem q137 : (Jvm.Cond.initialized "LogCompactor$TextException") ∈ lw_all := lw_g (lw_at lw_m1 41 rfl) rfl
theorem q341 : (Jvm.Cond.selects "LogCompactor$TextException" ({ cls := "java/lang/Throwable", name := "fillInStackTrace", desc := "()Ljava/lang/Throwable;" } : Jvm.MethodName) ({ cls := "java/lang/Throwable", name := "fillInStackTrace", desc := "()Ljava/lang/Throwable;" } : Jvm.MethodName)) ∈ lw_all := lw_g (lw_at lw_m2 5 rfl) rfl
theorem q421 : (Jvm.Cond.selects "LogCompactor$TextException" ({ cls := "java/lang/Object", name := "getClass", desc := "()Ljava/lang/Class;" } : Jvm.MethodName) ({ cls := "java/lang/Object", name := "getClass", desc := "()Ljava/lang/Class;" } : Jvm.MethodName)) ∈ lw_all := lw_g (lw_at lw_m2 85 rfl) rfl
theorem q1057 : (Jvm.Cond.instantiable "LogCompactor$TextException" (7 : Nat)) ∈ lw_all := lw_g (lw_at lw_m5 1 rfl) rfl
theorem q1058 : (Jvm.Cond.castable "LogCompactor$TextException" "LogCompactor$TextException") ∈ lw_tbl := lw_at lw_m5 2 rfl
theorem q1059 : (Jvm.Cond.selects "LogCompactor$TextException" ({ cls := "java/lang/Throwable", name := "fillInStackTrace", desc := "(I)Ljava/lang/Throwable;" } : Jvm.MethodName) ({ cls := "java/lang/Throwable", name := "fillInStackTrace", desc := "(I)Ljava/lang/Throwable;" } : Jvm.MethodName)) ∈ lw_all := lw_g (lw_at lw_m5 3 rfl) rfl
theorem q1060 : (Jvm.Cond.lays "LogCompactor$TextException" "java/lang/Throwable" "cause" "Ljava/lang/Throwable;") ∈ lw_all := lw_g (lw_at lw_m5 4 rfl) rfl
theorem q1061 : (Jvm.Cond.lays "LogCompactor$TextException" "java/lang/Throwable" "stackTrace" "[Ljava/lang/StackTraceElement;") ∈ lw_all := lw_g (lw_at lw_m5 5 rfl) rfl
theorem q1062 : (Jvm.Cond.lays "LogCompactor$TextException" "java/lang/Throwable" "suppressedExceptions" "Ljava/util/List;") ∈ lw_all := lw_g (lw_at lw_m5 6 rfl) rfl
theorem q1063 : (Jvm.Cond.lays "LogCompactor$TextException" "java/lang/Throwable" "detailMessage" "Ljava/lang/String;") ∈ lw_all := lw_g (lw_at lw_m5 7 rfl) rfl
theorem q1064 : (Jvm.Cond.lays "LogCompactor$TextException" "java/lang/Throwable" "backtrace" "Ljava/lang/Object;") ∈ lw_all := lw_g (lw_at lw_m5 8 rfl) rfl
theorem q1066 : (Jvm.Cond.instanceMethod ({ cls := "LogCompactor$TextException", name := "<init>", desc := "(I)V" } : Jvm.MethodName)) ∈ lw_all := lw_g (lw_at lw_m5 10 rfl) rfl
theorem q1067 : (Jvm.Cond.code ({ cls := "LogCompactor$TextException", name := "<init>", desc := "(I)V" } : Jvm.MethodName) prog_13_method_1_code (2 : Nat) (Option.none : Option Jvm.ClassFile.FieldType)) ∈ lw_all := lw_g (lw_at lw_m5 11 rfl) rfl
theorem q1068 : (Jvm.Cond.methodLink "LogCompactor$TextException" (1 : Nat) ({ cls := "java/lang/Exception", name := "<init>", desc := "(Ljava/lang/String;Ljava/lang/Throwable;ZZ)V" } : Jvm.MethodName)) ∈ lw_all := lw_g (lw_at lw_m5 12 rfl) rfl
theorem q1069 : (Jvm.Cond.fieldLink "LogCompactor$TextException" (7 : Nat) "LogCompactor$TextException" "position" "I") ∈ lw_all := lw_g (lw_at lw_m5 13 rfl) rfl
theorem q1071 : (Jvm.Cond.laysFinal "LogCompactor$TextException" "LogCompactor$TextException" "position" "I") ∈ lw_all := lw_g (lw_at lw_m5 15 rfl) rfl
theorem q1072 : (Jvm.Cond.soleField "LogCompactor$TextException" "position") ∈ lw_all := lw_g (lw_at lw_m5 16 rfl) rfl
theorem q1073 : (Jvm.Cond.lays "LogCompactor$TextException" "java/lang/Throwable" "depth" "I") ∈ lw_all := lw_g (lw_at lw_m5 17 rfl) rfl
theorem q1074 : (Jvm.Cond.superclass "LogCompactor$TextException" "java/lang/Exception") ∈ lw_all := lw_g (lw_at lw_m5 18 rfl) rfl
theorem q1223 : (Jvm.Cond.selects "LogCompactor$TextException" ({ cls := "java/lang/Object", name := "equals", desc := "(Ljava/lang/Object;)Z" } : Jvm.MethodName) ({ cls := "java/lang/Object", name := "equals", desc := "(Ljava/lang/Object;)Z" } : Jvm.MethodName)) ∈ lw_all := lw_g (lw_at lw_m5 167 rfl) rfl
theorem q1826 : (Jvm.Cond.selects "LogCompactor$TextException" ({ cls := "java/lang/Throwable", name := "getCause", desc := "()Ljava/lang/Throwable;" } : Jvm.MethodName) ({ cls := "java/lang/Throwable", name := "getCause", desc := "()Ljava/lang/Throwable;" } : Jvm.MethodName)) ∈ lw_all := lw_g (lw_at lw_m8 50 rfl) rfl
theorem q2347 : (Jvm.Cond.castable "LogCompactor$TextException" "java/lang/Object") ∈ lw_tbl := lw_at lw_m10 91 rfl
theorem in_X13 : ∀ w ∈ wsX130, w ∈ lw_all := lw_in wsX130 [1060, 1061, 1062, 1063, 1064, 1073, 1071] (by decide +kernel) (by decide +kernel)
/-! LogCompactor$WordCondition -/
set_option maxRecDepth 100000
def RX14 : String := "LogCompactor$WordCondition"
def TX14 : u_T := fun k => match k with
  | _ => ("LogCompactor$WordCondition", "word", "Ljava/lang/String;", true)
def tyX14 : Nat → FieldType := fun k => match k with
  | _ => .object "java/lang/String"
abbrev wsX140 : List Cond := u_ws RX14 TX14 1
theorem nmX14 : ∀ a, a < 1 → ∀ b, b < 1 → a ≠ b → (TX14 a).2.1 ≠ (TX14 b).2.1 := by decide +kernel
theorem tyX14_ok : ∀ k, k < 1 → parseFieldDescriptor (TX14 k).2.2.1 = some (tyX14 k) := by decide +kernel
abbrev cX14_init : ByteArray := prog_15_method_1_code
def yX14_init : MethodName := ⟨RX14, "<init>", "(Ljava/lang/String;)V"⟩
def dkwX14_init_0 : List UInt8 := [42, 183, 0, 1, 42, 43, 181, 0, 7, 177]
abbrev dktX14_init_0 : List UInt8 := dkwX14_init_0 ++ []
theorem dksX14_init_0 : cX14_init.data.toList.drop 0 = dktX14_init_0 := by decide +kernel
theorem dX14_init_0 : decode cX14_init 0 = .ok (.aload_n 0, 1) := dk_42 (dk_at dksX14_init_0 0 rfl rfl)
theorem dX14_init_1 : decode cX14_init 1 = .ok (.invokespecial 1, 3) := dk_183 0 1 (dk_at dksX14_init_0 1 rfl rfl)
theorem dX14_init_4 : decode cX14_init 4 = .ok (.aload_n 0, 1) := dk_42 (dk_at dksX14_init_0 4 rfl rfl)
theorem dX14_init_5 : decode cX14_init 5 = .ok (.aload_n 1, 1) := dk_43 (dk_at dksX14_init_0 5 rfl rfl)
theorem dX14_init_6 : decode cX14_init 6 = .ok (.putfield 7, 3) := dk_181 0 7 (dk_at dksX14_init_0 6 rfl rfl)
theorem dX14_init_9 : decode cX14_init 9 = .ok (.return_, 1) := dk_177 (dk_at dksX14_init_0 9 rfl rfl)
abbrev cX14_holds : ByteArray := prog_15_method_2_code
def yX14_holds : MethodName := ⟨RX14, "holds", "(LLogCompactor$Log;I)Z"⟩
def dkwX14_holds_0 : List UInt8 := [43, 180, 0, 13, 28, 182, 0, 19, 192, 0, 25, 42, 180, 0, 7, 182, 0, 27, 172]
abbrev dktX14_holds_0 : List UInt8 := dkwX14_holds_0 ++ []
theorem dksX14_holds_0 : cX14_holds.data.toList.drop 0 = dktX14_holds_0 := by decide +kernel
theorem dX14_holds_0 : decode cX14_holds 0 = .ok (.aload_n 1, 1) := dk_43 (dk_at dksX14_holds_0 0 rfl rfl)
theorem dX14_holds_1 : decode cX14_holds 1 = .ok (.getfield 13, 3) := dk_180 0 13 (dk_at dksX14_holds_0 1 rfl rfl)
theorem dX14_holds_4 : decode cX14_holds 4 = .ok (.iload_n 2, 1) := dk_28 (dk_at dksX14_holds_0 4 rfl rfl)
theorem dX14_holds_5 : decode cX14_holds 5 = .ok (.invokevirtual 19, 3) := dk_182 0 19 (dk_at dksX14_holds_0 5 rfl rfl)
theorem dX14_holds_8 : decode cX14_holds 8 = .ok (.checkcast 25, 3) := dk_192 0 25 (dk_at dksX14_holds_0 8 rfl rfl)
theorem dX14_holds_11 : decode cX14_holds 11 = .ok (.aload_n 0, 1) := dk_42 (dk_at dksX14_holds_0 11 rfl rfl)
theorem dX14_holds_12 : decode cX14_holds 12 = .ok (.getfield 7, 3) := dk_180 0 7 (dk_at dksX14_holds_0 12 rfl rfl)
theorem dX14_holds_15 : decode cX14_holds 15 = .ok (.invokevirtual 27, 3) := dk_182 0 27 (dk_at dksX14_holds_0 15 rfl rfl)
theorem dX14_holds_18 : decode cX14_holds 18 = .ok (.ireturn, 1) := dk_172 (dk_at dksX14_holds_0 18 rfl rfl)
theorem q138 : (Jvm.Cond.initialized "LogCompactor$WordCondition") ∈ lw_all := lw_g (lw_at lw_m1 42 rfl) rfl
theorem q204 : (Jvm.Cond.fieldLinkNest "LogCompactor$WordCondition" (13 : Nat) "LogCompactor$Log" "lines" "Ljava/util/ArrayList;" "LogCompactor") ∈ lw_tbl := lw_at lw_m1 108 rfl
theorem q423 : (Jvm.Cond.selects "LogCompactor$WordCondition" ({ cls := "java/lang/Object", name := "getClass", desc := "()Ljava/lang/Class;" } : Jvm.MethodName) ({ cls := "java/lang/Object", name := "getClass", desc := "()Ljava/lang/Class;" } : Jvm.MethodName)) ∈ lw_all := lw_g (lw_at lw_m2 87 rfl) rfl
theorem q1087 : (Jvm.Cond.instantiable "LogCompactor$WordCondition" (1 : Nat)) ∈ lw_all := lw_g (lw_at lw_m5 31 rfl) rfl
theorem q1118 : (Jvm.Cond.instanceMethod ({ cls := "LogCompactor$WordCondition", name := "<init>", desc := "(Ljava/lang/String;)V" } : Jvm.MethodName)) ∈ lw_all := lw_g (lw_at lw_m5 62 rfl) rfl
theorem q1119 : (Jvm.Cond.code ({ cls := "LogCompactor$WordCondition", name := "<init>", desc := "(Ljava/lang/String;)V" } : Jvm.MethodName) prog_15_method_1_code (2 : Nat) (Option.none : Option Jvm.ClassFile.FieldType)) ∈ lw_all := lw_g (lw_at lw_m5 63 rfl) rfl
theorem q1120 : (Jvm.Cond.methodLinkNest "LogCompactor$WordCondition" (1 : Nat) ({ cls := "LogCompactor$Condition", name := "<init>", desc := "()V" } : Jvm.MethodName) "LogCompactor") ∈ lw_tbl := lw_at lw_m5 64 rfl
theorem q1121 : (Jvm.Cond.fieldLink "LogCompactor$WordCondition" (7 : Nat) "LogCompactor$WordCondition" "word" "Ljava/lang/String;") ∈ lw_all := lw_g (lw_at lw_m5 65 rfl) rfl
theorem q1122 : (Jvm.Cond.laysFinal "LogCompactor$WordCondition" "LogCompactor$WordCondition" "word" "Ljava/lang/String;") ∈ lw_all := lw_g (lw_at lw_m5 66 rfl) rfl
theorem q1123 : (Jvm.Cond.soleField "LogCompactor$WordCondition" "word") ∈ lw_all := lw_g (lw_at lw_m5 67 rfl) rfl
theorem q1124 : (Jvm.Cond.superclass "LogCompactor$WordCondition" "LogCompactor$Condition") ∈ lw_all := lw_g (lw_at lw_m5 68 rfl) rfl
theorem q1225 : (Jvm.Cond.selects "LogCompactor$WordCondition" ({ cls := "java/lang/Object", name := "equals", desc := "(Ljava/lang/Object;)Z" } : Jvm.MethodName) ({ cls := "java/lang/Object", name := "equals", desc := "(Ljava/lang/Object;)Z" } : Jvm.MethodName)) ∈ lw_all := lw_g (lw_at lw_m5 169 rfl) rfl
theorem q1256 : (Jvm.Cond.instanceMethod ({ cls := "LogCompactor$WordCondition", name := "holds", desc := "(LLogCompactor$Log;I)Z" } : Jvm.MethodName)) ∈ lw_all := lw_g (lw_at lw_m5 200 rfl) rfl
theorem q1257 : (Jvm.Cond.code ({ cls := "LogCompactor$WordCondition", name := "holds", desc := "(LLogCompactor$Log;I)Z" } : Jvm.MethodName) prog_15_method_2_code (3 : Nat) (Option.some Jvm.ClassFile.FieldType.boolean)) ∈ lw_all := lw_g (lw_at lw_m5 201 rfl) rfl
theorem q1258 : (Jvm.Cond.methodLink "LogCompactor$WordCondition" (19 : Nat) ({ cls := "java/util/ArrayList", name := "get", desc := "(I)Ljava/lang/Object;" } : Jvm.MethodName)) ∈ lw_all := lw_g (lw_at lw_m5 202 rfl) rfl
theorem q1259 : (Jvm.Cond.classLink "LogCompactor$WordCondition" (25 : Nat) "LogCompactor$Line") ∈ lw_all := lw_g (lw_at lw_m5 203 rfl) rfl
theorem q1260 : (Jvm.Cond.methodLink "LogCompactor$WordCondition" (27 : Nat) ({ cls := "LogCompactor$Line", name := "hasToken", desc := "(Ljava/lang/String;)Z" } : Jvm.MethodName)) ∈ lw_all := lw_g (lw_at lw_m5 204 rfl) rfl
theorem q1269 : (Jvm.Cond.selects "LogCompactor$WordCondition" ({ cls := "LogCompactor$Condition", name := "holds", desc := "(LLogCompactor$Log;I)Z" } : Jvm.MethodName) ({ cls := "LogCompactor$WordCondition", name := "holds", desc := "(LLogCompactor$Log;I)Z" } : Jvm.MethodName)) ∈ lw_all := lw_g (lw_at lw_m5 213 rfl) rfl
theorem q2323 : (Jvm.Cond.castable "LogCompactor$WordCondition" "LogCompactor$Condition") ∈ lw_tbl := lw_at lw_m10 67 rfl
theorem q2348 : (Jvm.Cond.castable "LogCompactor$WordCondition" "java/lang/Object") ∈ lw_tbl := lw_at lw_m10 92 rfl
theorem in_X14 : ∀ w ∈ wsX140, w ∈ lw_all := lw_in wsX140 [1122] (by decide +kernel) (by decide +kernel)
/-! LogCompactor$ColumnCondition -/
set_option maxRecDepth 100000
def RX15 : String := "LogCompactor$ColumnCondition"
def TX15 : u_T := fun k => match k with
  | 0 => ("LogCompactor$ColumnCondition", "column", "I", true)
  | 1 => ("LogCompactor$ColumnCondition", "comparison", "C", true)
  | _ => ("LogCompactor$ColumnCondition", "number", "I", true)
def tyX15 : Nat → FieldType := fun k => match k with
  | 0 => .int
  | 1 => .char
  | _ => .int
abbrev wsX150 : List Cond := u_ws RX15 TX15 3
theorem nmX15 : ∀ a, a < 3 → ∀ b, b < 3 → a ≠ b → (TX15 a).2.1 ≠ (TX15 b).2.1 := by decide +kernel
theorem tyX15_ok : ∀ k, k < 3 → parseFieldDescriptor (TX15 k).2.2.1 = some (tyX15 k) := by decide +kernel
abbrev cX15_init : ByteArray := prog_3_method_1_code
def yX15_init : MethodName := ⟨RX15, "<init>", "(ICI)V"⟩
def dkwX15_init_0 : List UInt8 := [42, 183, 0, 3, 42, 27, 181, 0, 9, 42, 28, 181, 0, 15, 42, 29, 181, 0, 19, 177]
abbrev dktX15_init_0 : List UInt8 := dkwX15_init_0 ++ []
theorem dksX15_init_0 : cX15_init.data.toList.drop 0 = dktX15_init_0 := by decide +kernel
theorem dX15_init_0 : decode cX15_init 0 = .ok (.aload_n 0, 1) := dk_42 (dk_at dksX15_init_0 0 rfl rfl)
theorem dX15_init_1 : decode cX15_init 1 = .ok (.invokespecial 3, 3) := dk_183 0 3 (dk_at dksX15_init_0 1 rfl rfl)
theorem dX15_init_4 : decode cX15_init 4 = .ok (.aload_n 0, 1) := dk_42 (dk_at dksX15_init_0 4 rfl rfl)
theorem dX15_init_5 : decode cX15_init 5 = .ok (.iload_n 1, 1) := dk_27 (dk_at dksX15_init_0 5 rfl rfl)
theorem dX15_init_6 : decode cX15_init 6 = .ok (.putfield 9, 3) := dk_181 0 9 (dk_at dksX15_init_0 6 rfl rfl)
theorem dX15_init_9 : decode cX15_init 9 = .ok (.aload_n 0, 1) := dk_42 (dk_at dksX15_init_0 9 rfl rfl)
theorem dX15_init_10 : decode cX15_init 10 = .ok (.iload_n 2, 1) := dk_28 (dk_at dksX15_init_0 10 rfl rfl)
theorem dX15_init_11 : decode cX15_init 11 = .ok (.putfield 15, 3) := dk_181 0 15 (dk_at dksX15_init_0 11 rfl rfl)
theorem dX15_init_14 : decode cX15_init 14 = .ok (.aload_n 0, 1) := dk_42 (dk_at dksX15_init_0 14 rfl rfl)
theorem dX15_init_15 : decode cX15_init 15 = .ok (.iload_n 3, 1) := dk_29 (dk_at dksX15_init_0 15 rfl rfl)
theorem dX15_init_16 : decode cX15_init 16 = .ok (.putfield 19, 3) := dk_181 0 19 (dk_at dksX15_init_0 16 rfl rfl)
theorem dX15_init_19 : decode cX15_init 19 = .ok (.return_, 1) := dk_177 (dk_at dksX15_init_0 19 rfl rfl)
abbrev cX15_holds : ByteArray := prog_3_method_2_code
def yX15_holds : MethodName := ⟨RX15, "holds", "(LLogCompactor$Log;I)Z"⟩
def dkwX15_holds_6 : List UInt8 := [167, 0, 4, 3, 172]
abbrev dktX15_holds_6 : List UInt8 := dkwX15_holds_6 ++ []
def dkwX15_holds_5 : List UInt8 := [180, 0, 19, 160, 0, 7, 4, 167, 0, 21, 3, 167, 0, 17, 21, 4, 42, 180, 0, 19, 164, 0, 7, 4]
abbrev dktX15_holds_5 : List UInt8 := dkwX15_holds_5 ++ dktX15_holds_6
def dkwX15_holds_4 : List UInt8 := [162, 0, 7, 4, 167, 0, 47, 3, 167, 0, 43, 42, 180, 0, 15, 16, 61, 160, 0, 20, 21, 4, 42]
abbrev dktX15_holds_4 : List UInt8 := dkwX15_holds_4 ++ dktX15_holds_5
def dkwX15_holds_3 : List UInt8 := [192, 0, 52, 182, 0, 57, 54, 4, 42, 180, 0, 15, 16, 60, 160, 0, 20, 21, 4, 42, 180, 0, 19]
abbrev dktX15_holds_3 : List UInt8 := dkwX15_holds_3 ++ dktX15_holds_4
def dkwX15_holds_2 : List UInt8 := [159, 0, 5, 3, 172, 43, 180, 0, 37, 28, 182, 0, 41, 192, 0, 47, 180, 0, 49, 29, 182, 0, 41]
abbrev dktX15_holds_2 : List UInt8 := dkwX15_holds_2 ++ dktX15_holds_3
def dkwX15_holds_1 : List UInt8 := [180, 0, 37, 28, 182, 0, 41, 192, 0, 47, 180, 0, 49, 29, 182, 0, 41, 192, 0, 52, 180, 0, 54, 5]
abbrev dktX15_holds_1 : List UInt8 := dkwX15_holds_1 ++ dktX15_holds_2
def dkwX15_holds_0 : List UInt8 := [43, 180, 0, 22, 43, 28, 182, 0, 28, 50, 42, 180, 0, 9, 182, 0, 32, 62, 29, 2, 159, 0, 31, 43]
abbrev dktX15_holds_0 : List UInt8 := dkwX15_holds_0 ++ dktX15_holds_1
theorem dksX15_holds_0 : cX15_holds.data.toList.drop 0 = dktX15_holds_0 := by decide +kernel
theorem dksX15_holds_1 : cX15_holds.data.toList.drop 24 = dktX15_holds_1 := dk_seg dksX15_holds_0 24 rfl rfl
theorem dksX15_holds_2 : cX15_holds.data.toList.drop 48 = dktX15_holds_2 := dk_seg dksX15_holds_1 24 rfl rfl
theorem dksX15_holds_3 : cX15_holds.data.toList.drop 71 = dktX15_holds_3 := dk_seg dksX15_holds_2 23 rfl rfl
theorem dksX15_holds_4 : cX15_holds.data.toList.drop 94 = dktX15_holds_4 := dk_seg dksX15_holds_3 23 rfl rfl
theorem dksX15_holds_5 : cX15_holds.data.toList.drop 117 = dktX15_holds_5 := dk_seg dksX15_holds_4 23 rfl rfl
theorem dksX15_holds_6 : cX15_holds.data.toList.drop 141 = dktX15_holds_6 := dk_seg dksX15_holds_5 24 rfl rfl
theorem dX15_holds_0 : decode cX15_holds 0 = .ok (.aload_n 1, 1) := dk_43 (dk_at dksX15_holds_0 0 rfl rfl)
theorem dX15_holds_1 : decode cX15_holds 1 = .ok (.getfield 22, 3) := dk_180 0 22 (dk_at dksX15_holds_0 1 rfl rfl)
theorem dX15_holds_4 : decode cX15_holds 4 = .ok (.aload_n 1, 1) := dk_43 (dk_at dksX15_holds_0 4 rfl rfl)
theorem dX15_holds_5 : decode cX15_holds 5 = .ok (.iload_n 2, 1) := dk_28 (dk_at dksX15_holds_0 5 rfl rfl)
theorem dX15_holds_6 : decode cX15_holds 6 = .ok (.invokevirtual 28, 3) := dk_182 0 28 (dk_at dksX15_holds_0 6 rfl rfl)
theorem dX15_holds_9 : decode cX15_holds 9 = .ok (.aaload, 1) := dk_50 (dk_at dksX15_holds_0 9 rfl rfl)
theorem dX15_holds_10 : decode cX15_holds 10 = .ok (.aload_n 0, 1) := dk_42 (dk_at dksX15_holds_0 10 rfl rfl)
theorem dX15_holds_11 : decode cX15_holds 11 = .ok (.getfield 9, 3) := dk_180 0 9 (dk_at dksX15_holds_0 11 rfl rfl)
theorem dX15_holds_14 : decode cX15_holds 14 = .ok (.invokevirtual 32, 3) := dk_182 0 32 (dk_at dksX15_holds_0 14 rfl rfl)
theorem dX15_holds_17 : decode cX15_holds 17 = .ok (.istore_n 3, 1) := dk_62 (dk_at dksX15_holds_0 17 rfl rfl)
theorem dX15_holds_18 : decode cX15_holds 18 = .ok (.iload_n 3, 1) := dk_29 (dk_at dksX15_holds_0 18 rfl rfl)
theorem dX15_holds_19 : decode cX15_holds 19 = .ok (.iconst (-1), 1) := dk_2 (dk_at dksX15_holds_0 19 rfl rfl)
theorem dX15_holds_20 : decode cX15_holds 20 = .ok (.if_icmp .eq 31, 3) := dk_159 0 31 (dk_at dksX15_holds_0 20 rfl rfl)
theorem dX15_holds_23 : decode cX15_holds 23 = .ok (.aload_n 1, 1) := dk_43 (dk_at dksX15_holds_0 23 rfl rfl)
theorem dX15_holds_24 : decode cX15_holds 24 = .ok (.getfield 37, 3) := dk_180 0 37 (dk_at dksX15_holds_1 0 rfl rfl)
theorem dX15_holds_27 : decode cX15_holds 27 = .ok (.iload_n 2, 1) := dk_28 (dk_at dksX15_holds_1 3 rfl rfl)
theorem dX15_holds_28 : decode cX15_holds 28 = .ok (.invokevirtual 41, 3) := dk_182 0 41 (dk_at dksX15_holds_1 4 rfl rfl)
theorem dX15_holds_31 : decode cX15_holds 31 = .ok (.checkcast 47, 3) := dk_192 0 47 (dk_at dksX15_holds_1 7 rfl rfl)
theorem dX15_holds_34 : decode cX15_holds 34 = .ok (.getfield 49, 3) := dk_180 0 49 (dk_at dksX15_holds_1 10 rfl rfl)
theorem dX15_holds_37 : decode cX15_holds 37 = .ok (.iload_n 3, 1) := dk_29 (dk_at dksX15_holds_1 13 rfl rfl)
theorem dX15_holds_38 : decode cX15_holds 38 = .ok (.invokevirtual 41, 3) := dk_182 0 41 (dk_at dksX15_holds_1 14 rfl rfl)
theorem dX15_holds_41 : decode cX15_holds 41 = .ok (.checkcast 52, 3) := dk_192 0 52 (dk_at dksX15_holds_1 17 rfl rfl)
theorem dX15_holds_44 : decode cX15_holds 44 = .ok (.getfield 54, 3) := dk_180 0 54 (dk_at dksX15_holds_1 20 rfl rfl)
theorem dX15_holds_47 : decode cX15_holds 47 = .ok (.iconst 2, 1) := dk_5 (dk_at dksX15_holds_1 23 rfl rfl)
theorem dX15_holds_48 : decode cX15_holds 48 = .ok (.if_icmp .eq 5, 3) := dk_159 0 5 (dk_at dksX15_holds_2 0 rfl rfl)
theorem dX15_holds_51 : decode cX15_holds 51 = .ok (.iconst 0, 1) := dk_3 (dk_at dksX15_holds_2 3 rfl rfl)
theorem dX15_holds_52 : decode cX15_holds 52 = .ok (.ireturn, 1) := dk_172 (dk_at dksX15_holds_2 4 rfl rfl)
theorem dX15_holds_53 : decode cX15_holds 53 = .ok (.aload_n 1, 1) := dk_43 (dk_at dksX15_holds_2 5 rfl rfl)
theorem dX15_holds_54 : decode cX15_holds 54 = .ok (.getfield 37, 3) := dk_180 0 37 (dk_at dksX15_holds_2 6 rfl rfl)
theorem dX15_holds_57 : decode cX15_holds 57 = .ok (.iload_n 2, 1) := dk_28 (dk_at dksX15_holds_2 9 rfl rfl)
theorem dX15_holds_58 : decode cX15_holds 58 = .ok (.invokevirtual 41, 3) := dk_182 0 41 (dk_at dksX15_holds_2 10 rfl rfl)
theorem dX15_holds_61 : decode cX15_holds 61 = .ok (.checkcast 47, 3) := dk_192 0 47 (dk_at dksX15_holds_2 13 rfl rfl)
theorem dX15_holds_64 : decode cX15_holds 64 = .ok (.getfield 49, 3) := dk_180 0 49 (dk_at dksX15_holds_2 16 rfl rfl)
theorem dX15_holds_67 : decode cX15_holds 67 = .ok (.iload_n 3, 1) := dk_29 (dk_at dksX15_holds_2 19 rfl rfl)
theorem dX15_holds_68 : decode cX15_holds 68 = .ok (.invokevirtual 41, 3) := dk_182 0 41 (dk_at dksX15_holds_2 20 rfl rfl)
theorem dX15_holds_71 : decode cX15_holds 71 = .ok (.checkcast 52, 3) := dk_192 0 52 (dk_at dksX15_holds_3 0 rfl rfl)
theorem dX15_holds_74 : decode cX15_holds 74 = .ok (.invokevirtual 57, 3) := dk_182 0 57 (dk_at dksX15_holds_3 3 rfl rfl)
theorem dX15_holds_77 : decode cX15_holds 77 = .ok (.istore 4, 2) := dk_54 4 (dk_at dksX15_holds_3 6 rfl rfl)
theorem dX15_holds_79 : decode cX15_holds 79 = .ok (.aload_n 0, 1) := dk_42 (dk_at dksX15_holds_3 8 rfl rfl)
theorem dX15_holds_80 : decode cX15_holds 80 = .ok (.getfield 15, 3) := dk_180 0 15 (dk_at dksX15_holds_3 9 rfl rfl)
theorem dX15_holds_83 : decode cX15_holds 83 = .ok (.bipush 60, 2) := dk_16 60 (dk_at dksX15_holds_3 12 rfl rfl)
theorem dX15_holds_85 : decode cX15_holds 85 = .ok (.if_icmp .ne 20, 3) := dk_160 0 20 (dk_at dksX15_holds_3 14 rfl rfl)
theorem dX15_holds_88 : decode cX15_holds 88 = .ok (.iload 4, 2) := dk_21 4 (dk_at dksX15_holds_3 17 rfl rfl)
theorem dX15_holds_90 : decode cX15_holds 90 = .ok (.aload_n 0, 1) := dk_42 (dk_at dksX15_holds_3 19 rfl rfl)
theorem dX15_holds_91 : decode cX15_holds 91 = .ok (.getfield 19, 3) := dk_180 0 19 (dk_at dksX15_holds_3 20 rfl rfl)
theorem dX15_holds_94 : decode cX15_holds 94 = .ok (.if_icmp .ge 7, 3) := dk_162 0 7 (dk_at dksX15_holds_4 0 rfl rfl)
theorem dX15_holds_97 : decode cX15_holds 97 = .ok (.iconst 1, 1) := dk_4 (dk_at dksX15_holds_4 3 rfl rfl)
theorem dX15_holds_98 : decode cX15_holds 98 = .ok (.goto 47, 3) := dk_167 0 47 (dk_at dksX15_holds_4 4 rfl rfl)
theorem dX15_holds_101 : decode cX15_holds 101 = .ok (.iconst 0, 1) := dk_3 (dk_at dksX15_holds_4 7 rfl rfl)
theorem dX15_holds_102 : decode cX15_holds 102 = .ok (.goto 43, 3) := dk_167 0 43 (dk_at dksX15_holds_4 8 rfl rfl)
theorem dX15_holds_105 : decode cX15_holds 105 = .ok (.aload_n 0, 1) := dk_42 (dk_at dksX15_holds_4 11 rfl rfl)
theorem dX15_holds_106 : decode cX15_holds 106 = .ok (.getfield 15, 3) := dk_180 0 15 (dk_at dksX15_holds_4 12 rfl rfl)
theorem dX15_holds_109 : decode cX15_holds 109 = .ok (.bipush 61, 2) := dk_16 61 (dk_at dksX15_holds_4 15 rfl rfl)
theorem dX15_holds_111 : decode cX15_holds 111 = .ok (.if_icmp .ne 20, 3) := dk_160 0 20 (dk_at dksX15_holds_4 17 rfl rfl)
theorem dX15_holds_114 : decode cX15_holds 114 = .ok (.iload 4, 2) := dk_21 4 (dk_at dksX15_holds_4 20 rfl rfl)
theorem dX15_holds_116 : decode cX15_holds 116 = .ok (.aload_n 0, 1) := dk_42 (dk_at dksX15_holds_4 22 rfl rfl)
theorem dX15_holds_117 : decode cX15_holds 117 = .ok (.getfield 19, 3) := dk_180 0 19 (dk_at dksX15_holds_5 0 rfl rfl)
theorem dX15_holds_120 : decode cX15_holds 120 = .ok (.if_icmp .ne 7, 3) := dk_160 0 7 (dk_at dksX15_holds_5 3 rfl rfl)
theorem dX15_holds_123 : decode cX15_holds 123 = .ok (.iconst 1, 1) := dk_4 (dk_at dksX15_holds_5 6 rfl rfl)
theorem dX15_holds_124 : decode cX15_holds 124 = .ok (.goto 21, 3) := dk_167 0 21 (dk_at dksX15_holds_5 7 rfl rfl)
theorem dX15_holds_127 : decode cX15_holds 127 = .ok (.iconst 0, 1) := dk_3 (dk_at dksX15_holds_5 10 rfl rfl)
theorem dX15_holds_128 : decode cX15_holds 128 = .ok (.goto 17, 3) := dk_167 0 17 (dk_at dksX15_holds_5 11 rfl rfl)
theorem dX15_holds_131 : decode cX15_holds 131 = .ok (.iload 4, 2) := dk_21 4 (dk_at dksX15_holds_5 14 rfl rfl)
theorem dX15_holds_133 : decode cX15_holds 133 = .ok (.aload_n 0, 1) := dk_42 (dk_at dksX15_holds_5 16 rfl rfl)
theorem dX15_holds_134 : decode cX15_holds 134 = .ok (.getfield 19, 3) := dk_180 0 19 (dk_at dksX15_holds_5 17 rfl rfl)
theorem dX15_holds_137 : decode cX15_holds 137 = .ok (.if_icmp .le 7, 3) := dk_164 0 7 (dk_at dksX15_holds_5 20 rfl rfl)
theorem dX15_holds_140 : decode cX15_holds 140 = .ok (.iconst 1, 1) := dk_4 (dk_at dksX15_holds_5 23 rfl rfl)
theorem dX15_holds_141 : decode cX15_holds 141 = .ok (.goto 4, 3) := dk_167 0 4 (dk_at dksX15_holds_6 0 rfl rfl)
theorem dX15_holds_144 : decode cX15_holds 144 = .ok (.iconst 0, 1) := dk_3 (dk_at dksX15_holds_6 3 rfl rfl)
theorem dX15_holds_145 : decode cX15_holds 145 = .ok (.ireturn, 1) := dk_172 (dk_at dksX15_holds_6 4 rfl rfl)
theorem q139 : (Jvm.Cond.initialized "LogCompactor$ColumnCondition") ∈ lw_all := lw_g (lw_at lw_m1 43 rfl) rfl
theorem q205 : (Jvm.Cond.fieldLinkNest "LogCompactor$ColumnCondition" (37 : Nat) "LogCompactor$Log" "lines" "Ljava/util/ArrayList;" "LogCompactor") ∈ lw_tbl := lw_at lw_m1 109 rfl
theorem q208 : (Jvm.Cond.fieldLinkNest "LogCompactor$ColumnCondition" (22 : Nat) "LogCompactor$Log" "templates" "[LLogCompactor$Template;" "LogCompactor") ∈ lw_tbl := lw_at lw_m1 112 rfl
theorem q412 : (Jvm.Cond.selects "LogCompactor$ColumnCondition" ({ cls := "java/lang/Object", name := "getClass", desc := "()Ljava/lang/Class;" } : Jvm.MethodName) ({ cls := "java/lang/Object", name := "getClass", desc := "()Ljava/lang/Class;" } : Jvm.MethodName)) ∈ lw_all := lw_g (lw_at lw_m2 76 rfl) rfl
theorem q1130 : (Jvm.Cond.instantiable "LogCompactor$ColumnCondition" (3 : Nat)) ∈ lw_all := lw_g (lw_at lw_m5 74 rfl) rfl
theorem q1132 : (Jvm.Cond.instanceMethod ({ cls := "LogCompactor$ColumnCondition", name := "<init>", desc := "(ICI)V" } : Jvm.MethodName)) ∈ lw_all := lw_g (lw_at lw_m5 76 rfl) rfl
theorem q1133 : (Jvm.Cond.code ({ cls := "LogCompactor$ColumnCondition", name := "<init>", desc := "(ICI)V" } : Jvm.MethodName) prog_3_method_1_code (4 : Nat) (Option.none : Option Jvm.ClassFile.FieldType)) ∈ lw_all := lw_g (lw_at lw_m5 77 rfl) rfl
theorem q1134 : (Jvm.Cond.methodLinkNest "LogCompactor$ColumnCondition" (3 : Nat) ({ cls := "LogCompactor$Condition", name := "<init>", desc := "()V" } : Jvm.MethodName) "LogCompactor") ∈ lw_tbl := lw_at lw_m5 78 rfl
theorem q1135 : (Jvm.Cond.fieldLink "LogCompactor$ColumnCondition" (9 : Nat) "LogCompactor$ColumnCondition" "column" "I") ∈ lw_all := lw_g (lw_at lw_m5 79 rfl) rfl
theorem q1136 : (Jvm.Cond.fieldLink "LogCompactor$ColumnCondition" (15 : Nat) "LogCompactor$ColumnCondition" "comparison" "C") ∈ lw_all := lw_g (lw_at lw_m5 80 rfl) rfl
theorem q1137 : (Jvm.Cond.fieldLink "LogCompactor$ColumnCondition" (19 : Nat) "LogCompactor$ColumnCondition" "number" "I") ∈ lw_all := lw_g (lw_at lw_m5 81 rfl) rfl
theorem q1138 : (Jvm.Cond.laysFinal "LogCompactor$ColumnCondition" "LogCompactor$ColumnCondition" "column" "I") ∈ lw_all := lw_g (lw_at lw_m5 82 rfl) rfl
theorem q1139 : (Jvm.Cond.soleField "LogCompactor$ColumnCondition" "column") ∈ lw_all := lw_g (lw_at lw_m5 83 rfl) rfl
theorem q1140 : (Jvm.Cond.laysFinal "LogCompactor$ColumnCondition" "LogCompactor$ColumnCondition" "comparison" "C") ∈ lw_all := lw_g (lw_at lw_m5 84 rfl) rfl
theorem q1141 : (Jvm.Cond.soleField "LogCompactor$ColumnCondition" "comparison") ∈ lw_all := lw_g (lw_at lw_m5 85 rfl) rfl
theorem q1142 : (Jvm.Cond.laysFinal "LogCompactor$ColumnCondition" "LogCompactor$ColumnCondition" "number" "I") ∈ lw_all := lw_g (lw_at lw_m5 86 rfl) rfl
theorem q1143 : (Jvm.Cond.soleField "LogCompactor$ColumnCondition" "number") ∈ lw_all := lw_g (lw_at lw_m5 87 rfl) rfl
theorem q1144 : (Jvm.Cond.superclass "LogCompactor$ColumnCondition" "LogCompactor$Condition") ∈ lw_all := lw_g (lw_at lw_m5 88 rfl) rfl
theorem q1169 : (Jvm.Cond.selects "LogCompactor$ColumnCondition" ({ cls := "LogCompactor$Condition", name := "holds", desc := "(LLogCompactor$Log;I)Z" } : Jvm.MethodName) ({ cls := "LogCompactor$ColumnCondition", name := "holds", desc := "(LLogCompactor$Log;I)Z" } : Jvm.MethodName)) ∈ lw_all := lw_g (lw_at lw_m5 113 rfl) rfl
theorem q1170 : (Jvm.Cond.instanceMethod ({ cls := "LogCompactor$ColumnCondition", name := "holds", desc := "(LLogCompactor$Log;I)Z" } : Jvm.MethodName)) ∈ lw_all := lw_g (lw_at lw_m5 114 rfl) rfl
theorem q1171 : (Jvm.Cond.code ({ cls := "LogCompactor$ColumnCondition", name := "holds", desc := "(LLogCompactor$Log;I)Z" } : Jvm.MethodName) prog_3_method_2_code (5 : Nat) (Option.some Jvm.ClassFile.FieldType.boolean)) ∈ lw_all := lw_g (lw_at lw_m5 115 rfl) rfl
theorem q1172 : (Jvm.Cond.methodLink "LogCompactor$ColumnCondition" (28 : Nat) ({ cls := "LogCompactor$Log", name := "templateOf", desc := "(I)I" } : Jvm.MethodName)) ∈ lw_all := lw_g (lw_at lw_m5 116 rfl) rfl
theorem q1214 : (Jvm.Cond.selects "LogCompactor$ColumnCondition" ({ cls := "java/lang/Object", name := "equals", desc := "(Ljava/lang/Object;)Z" } : Jvm.MethodName) ({ cls := "java/lang/Object", name := "equals", desc := "(Ljava/lang/Object;)Z" } : Jvm.MethodName)) ∈ lw_all := lw_g (lw_at lw_m5 158 rfl) rfl
theorem q1240 : (Jvm.Cond.methodLink "LogCompactor$ColumnCondition" (32 : Nat) ({ cls := "LogCompactor$Template", name := "tokenOf", desc := "(I)I" } : Jvm.MethodName)) ∈ lw_all := lw_g (lw_at lw_m5 184 rfl) rfl
theorem q1245 : (Jvm.Cond.methodLink "LogCompactor$ColumnCondition" (41 : Nat) ({ cls := "java/util/ArrayList", name := "get", desc := "(I)Ljava/lang/Object;" } : Jvm.MethodName)) ∈ lw_all := lw_g (lw_at lw_m5 189 rfl) rfl
theorem q1246 : (Jvm.Cond.classLink "LogCompactor$ColumnCondition" (47 : Nat) "LogCompactor$Line") ∈ lw_all := lw_g (lw_at lw_m5 190 rfl) rfl
theorem q1247 : (Jvm.Cond.classLink "LogCompactor$ColumnCondition" (52 : Nat) "LogCompactor$Token") ∈ lw_all := lw_g (lw_at lw_m5 191 rfl) rfl
theorem q1248 : (Jvm.Cond.methodLink "LogCompactor$ColumnCondition" (57 : Nat) ({ cls := "LogCompactor$Token", name := "number", desc := "()I" } : Jvm.MethodName)) ∈ lw_all := lw_g (lw_at lw_m5 192 rfl) rfl
theorem q1388 : (Jvm.Cond.fieldLinkNest "LogCompactor$ColumnCondition" (54 : Nat) "LogCompactor$Token" "type" "I" "LogCompactor") ∈ lw_tbl := lw_at lw_m6 92 rfl
theorem q1398 : (Jvm.Cond.fieldLinkNest "LogCompactor$ColumnCondition" (49 : Nat) "LogCompactor$Line" "tokens" "Ljava/util/ArrayList;" "LogCompactor") ∈ lw_tbl := lw_at lw_m6 102 rfl
theorem q2320 : (Jvm.Cond.castable "LogCompactor$ColumnCondition" "LogCompactor$Condition") ∈ lw_tbl := lw_at lw_m10 64 rfl
theorem q2349 : (Jvm.Cond.castable "LogCompactor$ColumnCondition" "java/lang/Object") ∈ lw_tbl := lw_at lw_m10 93 rfl
theorem in_X15 : ∀ w ∈ wsX150, w ∈ lw_all := lw_in wsX150 [1138, 1140, 1142] (by decide +kernel) (by decide +kernel)
/-! LogCompactor$NotCondition -/
set_option maxRecDepth 100000
def RX16 : String := "LogCompactor$NotCondition"
def TX16 : u_T := fun k => match k with
  | _ => ("LogCompactor$NotCondition", "inner", "LLogCompactor$Condition;", true)
def tyX16 : Nat → FieldType := fun k => match k with
  | _ => .object "LogCompactor$Condition"
abbrev wsX160 : List Cond := u_ws RX16 TX16 1
theorem nmX16 : ∀ a, a < 1 → ∀ b, b < 1 → a ≠ b → (TX16 a).2.1 ≠ (TX16 b).2.1 := by decide +kernel
theorem tyX16_ok : ∀ k, k < 1 → parseFieldDescriptor (TX16 k).2.2.1 = some (tyX16 k) := by decide +kernel
abbrev cX16_init : ByteArray := prog_7_method_1_code
def yX16_init : MethodName := ⟨RX16, "<init>", "(LLogCompactor$Condition;)V"⟩
def dkwX16_init_0 : List UInt8 := [42, 183, 0, 1, 42, 43, 181, 0, 7, 177]
abbrev dktX16_init_0 : List UInt8 := dkwX16_init_0 ++ []
theorem dksX16_init_0 : cX16_init.data.toList.drop 0 = dktX16_init_0 := by decide +kernel
theorem dX16_init_0 : decode cX16_init 0 = .ok (.aload_n 0, 1) := dk_42 (dk_at dksX16_init_0 0 rfl rfl)
theorem dX16_init_1 : decode cX16_init 1 = .ok (.invokespecial 1, 3) := dk_183 0 1 (dk_at dksX16_init_0 1 rfl rfl)
theorem dX16_init_4 : decode cX16_init 4 = .ok (.aload_n 0, 1) := dk_42 (dk_at dksX16_init_0 4 rfl rfl)
theorem dX16_init_5 : decode cX16_init 5 = .ok (.aload_n 1, 1) := dk_43 (dk_at dksX16_init_0 5 rfl rfl)
theorem dX16_init_6 : decode cX16_init 6 = .ok (.putfield 7, 3) := dk_181 0 7 (dk_at dksX16_init_0 6 rfl rfl)
theorem dX16_init_9 : decode cX16_init 9 = .ok (.return_, 1) := dk_177 (dk_at dksX16_init_0 9 rfl rfl)
abbrev cX16_holds : ByteArray := prog_7_method_2_code
def yX16_holds : MethodName := ⟨RX16, "holds", "(LLogCompactor$Log;I)Z"⟩
def dkwX16_holds_0 : List UInt8 := [42, 180, 0, 7, 43, 28, 182, 0, 13, 154, 0, 7, 4, 167, 0, 4, 3, 172]
abbrev dktX16_holds_0 : List UInt8 := dkwX16_holds_0 ++ []
theorem dksX16_holds_0 : cX16_holds.data.toList.drop 0 = dktX16_holds_0 := by decide +kernel
theorem dX16_holds_0 : decode cX16_holds 0 = .ok (.aload_n 0, 1) := dk_42 (dk_at dksX16_holds_0 0 rfl rfl)
theorem dX16_holds_1 : decode cX16_holds 1 = .ok (.getfield 7, 3) := dk_180 0 7 (dk_at dksX16_holds_0 1 rfl rfl)
theorem dX16_holds_4 : decode cX16_holds 4 = .ok (.aload_n 1, 1) := dk_43 (dk_at dksX16_holds_0 4 rfl rfl)
theorem dX16_holds_5 : decode cX16_holds 5 = .ok (.iload_n 2, 1) := dk_28 (dk_at dksX16_holds_0 5 rfl rfl)
theorem dX16_holds_6 : decode cX16_holds 6 = .ok (.invokevirtual 13, 3) := dk_182 0 13 (dk_at dksX16_holds_0 6 rfl rfl)
theorem dX16_holds_9 : decode cX16_holds 9 = .ok (.ifCond .ne 7, 3) := dk_154 0 7 (dk_at dksX16_holds_0 9 rfl rfl)
theorem dX16_holds_12 : decode cX16_holds 12 = .ok (.iconst 1, 1) := dk_4 (dk_at dksX16_holds_0 12 rfl rfl)
theorem dX16_holds_13 : decode cX16_holds 13 = .ok (.goto 4, 3) := dk_167 0 4 (dk_at dksX16_holds_0 13 rfl rfl)
theorem dX16_holds_16 : decode cX16_holds 16 = .ok (.iconst 0, 1) := dk_3 (dk_at dksX16_holds_0 16 rfl rfl)
theorem dX16_holds_17 : decode cX16_holds 17 = .ok (.ireturn, 1) := dk_172 (dk_at dksX16_holds_0 17 rfl rfl)
theorem q140 : (Jvm.Cond.initialized "LogCompactor$NotCondition") ∈ lw_all := lw_g (lw_at lw_m1 44 rfl) rfl
theorem q415 : (Jvm.Cond.selects "LogCompactor$NotCondition" ({ cls := "java/lang/Object", name := "getClass", desc := "()Ljava/lang/Class;" } : Jvm.MethodName) ({ cls := "java/lang/Object", name := "getClass", desc := "()Ljava/lang/Class;" } : Jvm.MethodName)) ∈ lw_all := lw_g (lw_at lw_m2 79 rfl) rfl
theorem q1146 : (Jvm.Cond.instantiable "LogCompactor$NotCondition" (1 : Nat)) ∈ lw_all := lw_g (lw_at lw_m5 90 rfl) rfl
theorem q1148 : (Jvm.Cond.instanceMethod ({ cls := "LogCompactor$NotCondition", name := "<init>", desc := "(LLogCompactor$Condition;)V" } : Jvm.MethodName)) ∈ lw_all := lw_g (lw_at lw_m5 92 rfl) rfl
theorem q1149 : (Jvm.Cond.code ({ cls := "LogCompactor$NotCondition", name := "<init>", desc := "(LLogCompactor$Condition;)V" } : Jvm.MethodName) prog_7_method_1_code (2 : Nat) (Option.none : Option Jvm.ClassFile.FieldType)) ∈ lw_all := lw_g (lw_at lw_m5 93 rfl) rfl
theorem q1150 : (Jvm.Cond.methodLinkNest "LogCompactor$NotCondition" (1 : Nat) ({ cls := "LogCompactor$Condition", name := "<init>", desc := "()V" } : Jvm.MethodName) "LogCompactor") ∈ lw_tbl := lw_at lw_m5 94 rfl
theorem q1151 : (Jvm.Cond.fieldLink "LogCompactor$NotCondition" (7 : Nat) "LogCompactor$NotCondition" "inner" "LLogCompactor$Condition;") ∈ lw_all := lw_g (lw_at lw_m5 95 rfl) rfl
theorem q1152 : (Jvm.Cond.laysFinal "LogCompactor$NotCondition" "LogCompactor$NotCondition" "inner" "LLogCompactor$Condition;") ∈ lw_all := lw_g (lw_at lw_m5 96 rfl) rfl
theorem q1153 : (Jvm.Cond.soleField "LogCompactor$NotCondition" "inner") ∈ lw_all := lw_g (lw_at lw_m5 97 rfl) rfl
theorem q1154 : (Jvm.Cond.superclass "LogCompactor$NotCondition" "LogCompactor$Condition") ∈ lw_all := lw_g (lw_at lw_m5 98 rfl) rfl
theorem q1217 : (Jvm.Cond.selects "LogCompactor$NotCondition" ({ cls := "java/lang/Object", name := "equals", desc := "(Ljava/lang/Object;)Z" } : Jvm.MethodName) ({ cls := "java/lang/Object", name := "equals", desc := "(Ljava/lang/Object;)Z" } : Jvm.MethodName)) ∈ lw_all := lw_g (lw_at lw_m5 161 rfl) rfl
theorem q1249 : (Jvm.Cond.selects "LogCompactor$NotCondition" ({ cls := "LogCompactor$Condition", name := "holds", desc := "(LLogCompactor$Log;I)Z" } : Jvm.MethodName) ({ cls := "LogCompactor$NotCondition", name := "holds", desc := "(LLogCompactor$Log;I)Z" } : Jvm.MethodName)) ∈ lw_all := lw_g (lw_at lw_m5 193 rfl) rfl
theorem q1250 : (Jvm.Cond.instanceMethod ({ cls := "LogCompactor$NotCondition", name := "holds", desc := "(LLogCompactor$Log;I)Z" } : Jvm.MethodName)) ∈ lw_all := lw_g (lw_at lw_m5 194 rfl) rfl
theorem q1251 : (Jvm.Cond.code ({ cls := "LogCompactor$NotCondition", name := "holds", desc := "(LLogCompactor$Log;I)Z" } : Jvm.MethodName) prog_7_method_2_code (3 : Nat) (Option.some Jvm.ClassFile.FieldType.boolean)) ∈ lw_all := lw_g (lw_at lw_m5 195 rfl) rfl
theorem q1252 : (Jvm.Cond.methodLink "LogCompactor$NotCondition" (13 : Nat) ({ cls := "LogCompactor$Condition", name := "holds", desc := "(LLogCompactor$Log;I)Z" } : Jvm.MethodName)) ∈ lw_all := lw_g (lw_at lw_m5 196 rfl) rfl
theorem q2321 : (Jvm.Cond.castable "LogCompactor$NotCondition" "LogCompactor$Condition") ∈ lw_tbl := lw_at lw_m10 65 rfl
theorem q2350 : (Jvm.Cond.castable "LogCompactor$NotCondition" "java/lang/Object") ∈ lw_tbl := lw_at lw_m10 94 rfl
theorem in_X16 : ∀ w ∈ wsX160, w ∈ lw_all := lw_in wsX160 [1152] (by decide +kernel) (by decide +kernel)
/-! LogCompactorLaw -/
set_option maxRecDepth 100000
def RX0 : String := "LogCompactorLaw"
abbrev cX0_feed : ByteArray := method_3_code
def yX0_feed : MethodName := ⟨RX0, "feed", "(LLogCompactor;C[J)I"⟩
def dkwX0_feed_0 : List UInt8 := [44, 3, 42, 27, 182, 0, 7, 133, 80, 167, 0, 6, 78, 4, 172, 3, 172]
abbrev dktX0_feed_0 : List UInt8 := dkwX0_feed_0 ++ []
theorem dksX0_feed_0 : cX0_feed.data.toList.drop 0 = dktX0_feed_0 := by decide +kernel
theorem dX0_feed_0 : decode cX0_feed 0 = .ok (.aload_n 2, 1) := dk_44 (dk_at dksX0_feed_0 0 rfl rfl)
theorem dX0_feed_1 : decode cX0_feed 1 = .ok (.iconst 0, 1) := dk_3 (dk_at dksX0_feed_0 1 rfl rfl)
theorem dX0_feed_2 : decode cX0_feed 2 = .ok (.aload_n 0, 1) := dk_42 (dk_at dksX0_feed_0 2 rfl rfl)
theorem dX0_feed_3 : decode cX0_feed 3 = .ok (.iload_n 1, 1) := dk_27 (dk_at dksX0_feed_0 3 rfl rfl)
theorem dX0_feed_4 : decode cX0_feed 4 = .ok (.invokevirtual 7, 3) := dk_182 0 7 (dk_at dksX0_feed_0 4 rfl rfl)
theorem dX0_feed_7 : decode cX0_feed 7 = .ok (.i2l, 1) := dk_133 (dk_at dksX0_feed_0 7 rfl rfl)
theorem dX0_feed_8 : decode cX0_feed 8 = .ok (.lastore, 1) := dk_80 (dk_at dksX0_feed_0 8 rfl rfl)
theorem dX0_feed_9 : decode cX0_feed 9 = .ok (.goto 6, 3) := dk_167 0 6 (dk_at dksX0_feed_0 9 rfl rfl)
theorem dX0_feed_12 : decode cX0_feed 12 = .ok (.astore_n 3, 1) := dk_78 (dk_at dksX0_feed_0 12 rfl rfl)
theorem dX0_feed_13 : decode cX0_feed 13 = .ok (.iconst 1, 1) := dk_4 (dk_at dksX0_feed_0 13 rfl rfl)
theorem dX0_feed_14 : decode cX0_feed 14 = .ok (.ireturn, 1) := dk_172 (dk_at dksX0_feed_0 14 rfl rfl)
theorem dX0_feed_15 : decode cX0_feed 15 = .ok (.iconst 0, 1) := dk_3 (dk_at dksX0_feed_0 15 rfl rfl)
theorem dX0_feed_16 : decode cX0_feed 16 = .ok (.ireturn, 1) := dk_172 (dk_at dksX0_feed_0 16 rfl rfl)
abbrev cX0_add : ByteArray := method_4_code
def yX0_add : MethodName := ⟨RX0, "add", "(LLogCompactor;[J)I"⟩
def dkwX0_add_0 : List UInt8 := [43, 3, 42, 182, 0, 15, 133, 80, 167, 0, 12, 77, 4, 172, 77, 5, 172, 77, 6, 172, 3, 172]
abbrev dktX0_add_0 : List UInt8 := dkwX0_add_0 ++ []
theorem dksX0_add_0 : cX0_add.data.toList.drop 0 = dktX0_add_0 := by decide +kernel
theorem dX0_add_0 : decode cX0_add 0 = .ok (.aload_n 1, 1) := dk_43 (dk_at dksX0_add_0 0 rfl rfl)
theorem dX0_add_1 : decode cX0_add 1 = .ok (.iconst 0, 1) := dk_3 (dk_at dksX0_add_0 1 rfl rfl)
theorem dX0_add_2 : decode cX0_add 2 = .ok (.aload_n 0, 1) := dk_42 (dk_at dksX0_add_0 2 rfl rfl)
theorem dX0_add_3 : decode cX0_add 3 = .ok (.invokevirtual 15, 3) := dk_182 0 15 (dk_at dksX0_add_0 3 rfl rfl)
theorem dX0_add_6 : decode cX0_add 6 = .ok (.i2l, 1) := dk_133 (dk_at dksX0_add_0 6 rfl rfl)
theorem dX0_add_7 : decode cX0_add 7 = .ok (.lastore, 1) := dk_80 (dk_at dksX0_add_0 7 rfl rfl)
theorem dX0_add_8 : decode cX0_add 8 = .ok (.goto 12, 3) := dk_167 0 12 (dk_at dksX0_add_0 8 rfl rfl)
theorem dX0_add_11 : decode cX0_add 11 = .ok (.astore_n 2, 1) := dk_77 (dk_at dksX0_add_0 11 rfl rfl)
theorem dX0_add_12 : decode cX0_add 12 = .ok (.iconst 1, 1) := dk_4 (dk_at dksX0_add_0 12 rfl rfl)
theorem dX0_add_13 : decode cX0_add 13 = .ok (.ireturn, 1) := dk_172 (dk_at dksX0_add_0 13 rfl rfl)
theorem dX0_add_14 : decode cX0_add 14 = .ok (.astore_n 2, 1) := dk_77 (dk_at dksX0_add_0 14 rfl rfl)
theorem dX0_add_15 : decode cX0_add 15 = .ok (.iconst 2, 1) := dk_5 (dk_at dksX0_add_0 15 rfl rfl)
theorem dX0_add_16 : decode cX0_add 16 = .ok (.ireturn, 1) := dk_172 (dk_at dksX0_add_0 16 rfl rfl)
theorem dX0_add_17 : decode cX0_add 17 = .ok (.astore_n 2, 1) := dk_77 (dk_at dksX0_add_0 17 rfl rfl)
theorem dX0_add_18 : decode cX0_add 18 = .ok (.iconst 3, 1) := dk_6 (dk_at dksX0_add_0 18 rfl rfl)
theorem dX0_add_19 : decode cX0_add 19 = .ok (.ireturn, 1) := dk_172 (dk_at dksX0_add_0 19 rfl rfl)
theorem dX0_add_20 : decode cX0_add 20 = .ok (.iconst 0, 1) := dk_3 (dk_at dksX0_add_0 20 rfl rfl)
theorem dX0_add_21 : decode cX0_add 21 = .ok (.ireturn, 1) := dk_172 (dk_at dksX0_add_0 21 rfl rfl)
abbrev cX0_count : ByteArray := method_5_code
def yX0_count : MethodName := ⟨RX0, "count", "(LLogCompactor;I[J)I"⟩
def dkwX0_count_0 : List UInt8 := [44, 3, 42, 27, 182, 0, 23, 133, 80, 167, 0, 6, 78, 4, 172, 3, 172]
abbrev dktX0_count_0 : List UInt8 := dkwX0_count_0 ++ []
theorem dksX0_count_0 : cX0_count.data.toList.drop 0 = dktX0_count_0 := by decide +kernel
theorem dX0_count_0 : decode cX0_count 0 = .ok (.aload_n 2, 1) := dk_44 (dk_at dksX0_count_0 0 rfl rfl)
theorem dX0_count_1 : decode cX0_count 1 = .ok (.iconst 0, 1) := dk_3 (dk_at dksX0_count_0 1 rfl rfl)
theorem dX0_count_2 : decode cX0_count 2 = .ok (.aload_n 0, 1) := dk_42 (dk_at dksX0_count_0 2 rfl rfl)
theorem dX0_count_3 : decode cX0_count 3 = .ok (.iload_n 1, 1) := dk_27 (dk_at dksX0_count_0 3 rfl rfl)
theorem dX0_count_4 : decode cX0_count 4 = .ok (.invokevirtual 23, 3) := dk_182 0 23 (dk_at dksX0_count_0 4 rfl rfl)
theorem dX0_count_7 : decode cX0_count 7 = .ok (.i2l, 1) := dk_133 (dk_at dksX0_count_0 7 rfl rfl)
theorem dX0_count_8 : decode cX0_count 8 = .ok (.lastore, 1) := dk_80 (dk_at dksX0_count_0 8 rfl rfl)
theorem dX0_count_9 : decode cX0_count 9 = .ok (.goto 6, 3) := dk_167 0 6 (dk_at dksX0_count_0 9 rfl rfl)
theorem dX0_count_12 : decode cX0_count 12 = .ok (.astore_n 3, 1) := dk_78 (dk_at dksX0_count_0 12 rfl rfl)
theorem dX0_count_13 : decode cX0_count 13 = .ok (.iconst 1, 1) := dk_4 (dk_at dksX0_count_0 13 rfl rfl)
theorem dX0_count_14 : decode cX0_count 14 = .ok (.ireturn, 1) := dk_172 (dk_at dksX0_count_0 14 rfl rfl)
theorem dX0_count_15 : decode cX0_count 15 = .ok (.iconst 0, 1) := dk_3 (dk_at dksX0_count_0 15 rfl rfl)
theorem dX0_count_16 : decode cX0_count 16 = .ok (.ireturn, 1) := dk_172 (dk_at dksX0_count_0 16 rfl rfl)
abbrev cX0_line : ByteArray := method_6_code
def yX0_line : MethodName := ⟨RX0, "line", "(LLogCompactor;II[J)I"⟩
def dkwX0_line_0 : List UInt8 := [45, 3, 42, 27, 28, 182, 0, 27, 133, 80, 167, 0, 7, 58, 4, 4, 172, 3, 172]
abbrev dktX0_line_0 : List UInt8 := dkwX0_line_0 ++ []
theorem dksX0_line_0 : cX0_line.data.toList.drop 0 = dktX0_line_0 := by decide +kernel
theorem dX0_line_0 : decode cX0_line 0 = .ok (.aload_n 3, 1) := dk_45 (dk_at dksX0_line_0 0 rfl rfl)
theorem dX0_line_1 : decode cX0_line 1 = .ok (.iconst 0, 1) := dk_3 (dk_at dksX0_line_0 1 rfl rfl)
theorem dX0_line_2 : decode cX0_line 2 = .ok (.aload_n 0, 1) := dk_42 (dk_at dksX0_line_0 2 rfl rfl)
theorem dX0_line_3 : decode cX0_line 3 = .ok (.iload_n 1, 1) := dk_27 (dk_at dksX0_line_0 3 rfl rfl)
theorem dX0_line_4 : decode cX0_line 4 = .ok (.iload_n 2, 1) := dk_28 (dk_at dksX0_line_0 4 rfl rfl)
theorem dX0_line_5 : decode cX0_line 5 = .ok (.invokevirtual 27, 3) := dk_182 0 27 (dk_at dksX0_line_0 5 rfl rfl)
theorem dX0_line_8 : decode cX0_line 8 = .ok (.i2l, 1) := dk_133 (dk_at dksX0_line_0 8 rfl rfl)
theorem dX0_line_9 : decode cX0_line 9 = .ok (.lastore, 1) := dk_80 (dk_at dksX0_line_0 9 rfl rfl)
theorem dX0_line_10 : decode cX0_line 10 = .ok (.goto 7, 3) := dk_167 0 7 (dk_at dksX0_line_0 10 rfl rfl)
theorem dX0_line_13 : decode cX0_line 13 = .ok (.astore 4, 2) := dk_58 4 (dk_at dksX0_line_0 13 rfl rfl)
theorem dX0_line_15 : decode cX0_line 15 = .ok (.iconst 1, 1) := dk_4 (dk_at dksX0_line_0 15 rfl rfl)
theorem dX0_line_16 : decode cX0_line 16 = .ok (.ireturn, 1) := dk_172 (dk_at dksX0_line_0 16 rfl rfl)
theorem dX0_line_17 : decode cX0_line 17 = .ok (.iconst 0, 1) := dk_3 (dk_at dksX0_line_0 17 rfl rfl)
theorem dX0_line_18 : decode cX0_line 18 = .ok (.ireturn, 1) := dk_172 (dk_at dksX0_line_0 18 rfl rfl)
abbrev cX0_place : ByteArray := method_7_code
def yX0_place : MethodName := ⟨RX0, "place", "(LLogCompactor;II[J)I"⟩
def dkwX0_place_0 : List UInt8 := [45, 3, 42, 27, 28, 182, 0, 33, 133, 80, 167, 0, 11, 58, 4, 4, 172, 58, 4, 5, 172, 3, 172]
abbrev dktX0_place_0 : List UInt8 := dkwX0_place_0 ++ []
theorem dksX0_place_0 : cX0_place.data.toList.drop 0 = dktX0_place_0 := by decide +kernel
theorem dX0_place_0 : decode cX0_place 0 = .ok (.aload_n 3, 1) := dk_45 (dk_at dksX0_place_0 0 rfl rfl)
theorem dX0_place_1 : decode cX0_place 1 = .ok (.iconst 0, 1) := dk_3 (dk_at dksX0_place_0 1 rfl rfl)
theorem dX0_place_2 : decode cX0_place 2 = .ok (.aload_n 0, 1) := dk_42 (dk_at dksX0_place_0 2 rfl rfl)
theorem dX0_place_3 : decode cX0_place 3 = .ok (.iload_n 1, 1) := dk_27 (dk_at dksX0_place_0 3 rfl rfl)
theorem dX0_place_4 : decode cX0_place 4 = .ok (.iload_n 2, 1) := dk_28 (dk_at dksX0_place_0 4 rfl rfl)
theorem dX0_place_5 : decode cX0_place 5 = .ok (.invokevirtual 33, 3) := dk_182 0 33 (dk_at dksX0_place_0 5 rfl rfl)
theorem dX0_place_8 : decode cX0_place 8 = .ok (.i2l, 1) := dk_133 (dk_at dksX0_place_0 8 rfl rfl)
theorem dX0_place_9 : decode cX0_place 9 = .ok (.lastore, 1) := dk_80 (dk_at dksX0_place_0 9 rfl rfl)
theorem dX0_place_10 : decode cX0_place 10 = .ok (.goto 11, 3) := dk_167 0 11 (dk_at dksX0_place_0 10 rfl rfl)
theorem dX0_place_13 : decode cX0_place 13 = .ok (.astore 4, 2) := dk_58 4 (dk_at dksX0_place_0 13 rfl rfl)
theorem dX0_place_15 : decode cX0_place 15 = .ok (.iconst 1, 1) := dk_4 (dk_at dksX0_place_0 15 rfl rfl)
theorem dX0_place_16 : decode cX0_place 16 = .ok (.ireturn, 1) := dk_172 (dk_at dksX0_place_0 16 rfl rfl)
theorem dX0_place_17 : decode cX0_place 17 = .ok (.astore 4, 2) := dk_58 4 (dk_at dksX0_place_0 17 rfl rfl)
theorem dX0_place_19 : decode cX0_place 19 = .ok (.iconst 2, 1) := dk_5 (dk_at dksX0_place_0 19 rfl rfl)
theorem dX0_place_20 : decode cX0_place 20 = .ok (.ireturn, 1) := dk_172 (dk_at dksX0_place_0 20 rfl rfl)
theorem dX0_place_21 : decode cX0_place 21 = .ok (.iconst 0, 1) := dk_3 (dk_at dksX0_place_0 21 rfl rfl)
theorem dX0_place_22 : decode cX0_place 22 = .ok (.ireturn, 1) := dk_172 (dk_at dksX0_place_0 22 rfl rfl)
abbrev cX0_cut : ByteArray := method_8_code
def yX0_cut : MethodName := ⟨RX0, "cut", "(LLogCompactor;I[J)I"⟩
def dkwX0_cut_0 : List UInt8 := [44, 3, 42, 27, 182, 0, 36, 133, 80, 167, 0, 6, 78, 4, 172, 3, 172]
abbrev dktX0_cut_0 : List UInt8 := dkwX0_cut_0 ++ []
theorem dksX0_cut_0 : cX0_cut.data.toList.drop 0 = dktX0_cut_0 := by decide +kernel
theorem dX0_cut_0 : decode cX0_cut 0 = .ok (.aload_n 2, 1) := dk_44 (dk_at dksX0_cut_0 0 rfl rfl)
theorem dX0_cut_1 : decode cX0_cut 1 = .ok (.iconst 0, 1) := dk_3 (dk_at dksX0_cut_0 1 rfl rfl)
theorem dX0_cut_2 : decode cX0_cut 2 = .ok (.aload_n 0, 1) := dk_42 (dk_at dksX0_cut_0 2 rfl rfl)
theorem dX0_cut_3 : decode cX0_cut 3 = .ok (.iload_n 1, 1) := dk_27 (dk_at dksX0_cut_0 3 rfl rfl)
theorem dX0_cut_4 : decode cX0_cut 4 = .ok (.invokevirtual 36, 3) := dk_182 0 36 (dk_at dksX0_cut_0 4 rfl rfl)
theorem dX0_cut_7 : decode cX0_cut 7 = .ok (.i2l, 1) := dk_133 (dk_at dksX0_cut_0 7 rfl rfl)
theorem dX0_cut_8 : decode cX0_cut 8 = .ok (.lastore, 1) := dk_80 (dk_at dksX0_cut_0 8 rfl rfl)
theorem dX0_cut_9 : decode cX0_cut 9 = .ok (.goto 6, 3) := dk_167 0 6 (dk_at dksX0_cut_0 9 rfl rfl)
theorem dX0_cut_12 : decode cX0_cut 12 = .ok (.astore_n 3, 1) := dk_78 (dk_at dksX0_cut_0 12 rfl rfl)
theorem dX0_cut_13 : decode cX0_cut 13 = .ok (.iconst 1, 1) := dk_4 (dk_at dksX0_cut_0 13 rfl rfl)
theorem dX0_cut_14 : decode cX0_cut 14 = .ok (.ireturn, 1) := dk_172 (dk_at dksX0_cut_0 14 rfl rfl)
theorem dX0_cut_15 : decode cX0_cut 15 = .ok (.iconst 0, 1) := dk_3 (dk_at dksX0_cut_0 15 rfl rfl)
theorem dX0_cut_16 : decode cX0_cut 16 = .ok (.ireturn, 1) := dk_172 (dk_at dksX0_cut_0 16 rfl rfl)
abbrev cX0_setThreshold : ByteArray := method_9_code
def yX0_setThreshold : MethodName := ⟨RX0, "setThreshold", "(LLogCompactor;I[J)I"⟩
def dkwX0_setThreshold_0 : List UInt8 := [44, 3, 42, 27, 182, 0, 39, 133, 80, 167, 0, 6, 78, 4, 172, 3, 172]
abbrev dktX0_setThreshold_0 : List UInt8 := dkwX0_setThreshold_0 ++ []
theorem dksX0_setThreshold_0 : cX0_setThreshold.data.toList.drop 0 = dktX0_setThreshold_0 := by decide +kernel
theorem dX0_setThreshold_0 : decode cX0_setThreshold 0 = .ok (.aload_n 2, 1) := dk_44 (dk_at dksX0_setThreshold_0 0 rfl rfl)
theorem dX0_setThreshold_1 : decode cX0_setThreshold 1 = .ok (.iconst 0, 1) := dk_3 (dk_at dksX0_setThreshold_0 1 rfl rfl)
theorem dX0_setThreshold_2 : decode cX0_setThreshold 2 = .ok (.aload_n 0, 1) := dk_42 (dk_at dksX0_setThreshold_0 2 rfl rfl)
theorem dX0_setThreshold_3 : decode cX0_setThreshold 3 = .ok (.iload_n 1, 1) := dk_27 (dk_at dksX0_setThreshold_0 3 rfl rfl)
theorem dX0_setThreshold_4 : decode cX0_setThreshold 4 = .ok (.invokevirtual 39, 3) := dk_182 0 39 (dk_at dksX0_setThreshold_0 4 rfl rfl)
theorem dX0_setThreshold_7 : decode cX0_setThreshold 7 = .ok (.i2l, 1) := dk_133 (dk_at dksX0_setThreshold_0 7 rfl rfl)
theorem dX0_setThreshold_8 : decode cX0_setThreshold 8 = .ok (.lastore, 1) := dk_80 (dk_at dksX0_setThreshold_0 8 rfl rfl)
theorem dX0_setThreshold_9 : decode cX0_setThreshold 9 = .ok (.goto 6, 3) := dk_167 0 6 (dk_at dksX0_setThreshold_0 9 rfl rfl)
theorem dX0_setThreshold_12 : decode cX0_setThreshold 12 = .ok (.astore_n 3, 1) := dk_78 (dk_at dksX0_setThreshold_0 12 rfl rfl)
theorem dX0_setThreshold_13 : decode cX0_setThreshold 13 = .ok (.iconst 1, 1) := dk_4 (dk_at dksX0_setThreshold_0 13 rfl rfl)
theorem dX0_setThreshold_14 : decode cX0_setThreshold 14 = .ok (.ireturn, 1) := dk_172 (dk_at dksX0_setThreshold_0 14 rfl rfl)
theorem dX0_setThreshold_15 : decode cX0_setThreshold 15 = .ok (.iconst 0, 1) := dk_3 (dk_at dksX0_setThreshold_0 15 rfl rfl)
theorem dX0_setThreshold_16 : decode cX0_setThreshold 16 = .ok (.ireturn, 1) := dk_172 (dk_at dksX0_setThreshold_0 16 rfl rfl)
abbrev cX0_template : ByteArray := method_10_code
def yX0_template : MethodName := ⟨RX0, "template", "(LLogCompactor;II[J)I"⟩
def dkwX0_template_0 : List UInt8 := [45, 3, 42, 27, 28, 182, 0, 42, 133, 80, 167, 0, 11, 58, 4, 4, 172, 58, 4, 5, 172, 3, 172]
abbrev dktX0_template_0 : List UInt8 := dkwX0_template_0 ++ []
theorem dksX0_template_0 : cX0_template.data.toList.drop 0 = dktX0_template_0 := by decide +kernel
theorem dX0_template_0 : decode cX0_template 0 = .ok (.aload_n 3, 1) := dk_45 (dk_at dksX0_template_0 0 rfl rfl)
theorem dX0_template_1 : decode cX0_template 1 = .ok (.iconst 0, 1) := dk_3 (dk_at dksX0_template_0 1 rfl rfl)
theorem dX0_template_2 : decode cX0_template 2 = .ok (.aload_n 0, 1) := dk_42 (dk_at dksX0_template_0 2 rfl rfl)
theorem dX0_template_3 : decode cX0_template 3 = .ok (.iload_n 1, 1) := dk_27 (dk_at dksX0_template_0 3 rfl rfl)
theorem dX0_template_4 : decode cX0_template 4 = .ok (.iload_n 2, 1) := dk_28 (dk_at dksX0_template_0 4 rfl rfl)
theorem dX0_template_5 : decode cX0_template 5 = .ok (.invokevirtual 42, 3) := dk_182 0 42 (dk_at dksX0_template_0 5 rfl rfl)
theorem dX0_template_8 : decode cX0_template 8 = .ok (.i2l, 1) := dk_133 (dk_at dksX0_template_0 8 rfl rfl)
theorem dX0_template_9 : decode cX0_template 9 = .ok (.lastore, 1) := dk_80 (dk_at dksX0_template_0 9 rfl rfl)
theorem dX0_template_10 : decode cX0_template 10 = .ok (.goto 11, 3) := dk_167 0 11 (dk_at dksX0_template_0 10 rfl rfl)
theorem dX0_template_13 : decode cX0_template 13 = .ok (.astore 4, 2) := dk_58 4 (dk_at dksX0_template_0 13 rfl rfl)
theorem dX0_template_15 : decode cX0_template 15 = .ok (.iconst 1, 1) := dk_4 (dk_at dksX0_template_0 15 rfl rfl)
theorem dX0_template_16 : decode cX0_template 16 = .ok (.ireturn, 1) := dk_172 (dk_at dksX0_template_0 16 rfl rfl)
theorem dX0_template_17 : decode cX0_template 17 = .ok (.astore 4, 2) := dk_58 4 (dk_at dksX0_template_0 17 rfl rfl)
theorem dX0_template_19 : decode cX0_template 19 = .ok (.iconst 2, 1) := dk_5 (dk_at dksX0_template_0 19 rfl rfl)
theorem dX0_template_20 : decode cX0_template 20 = .ok (.ireturn, 1) := dk_172 (dk_at dksX0_template_0 20 rfl rfl)
theorem dX0_template_21 : decode cX0_template 21 = .ok (.iconst 0, 1) := dk_3 (dk_at dksX0_template_0 21 rfl rfl)
theorem dX0_template_22 : decode cX0_template 22 = .ok (.ireturn, 1) := dk_172 (dk_at dksX0_template_0 22 rfl rfl)
abbrev cX0_slot : ByteArray := method_11_code
def yX0_slot : MethodName := ⟨RX0, "slot", "(LLogCompactor;II[J)I"⟩
def dkwX0_slot_0 : List UInt8 := [45, 3, 42, 27, 28, 182, 0, 45, 133, 80, 167, 0, 7, 58, 4, 4, 172, 3, 172]
abbrev dktX0_slot_0 : List UInt8 := dkwX0_slot_0 ++ []
theorem dksX0_slot_0 : cX0_slot.data.toList.drop 0 = dktX0_slot_0 := by decide +kernel
theorem dX0_slot_0 : decode cX0_slot 0 = .ok (.aload_n 3, 1) := dk_45 (dk_at dksX0_slot_0 0 rfl rfl)
theorem dX0_slot_1 : decode cX0_slot 1 = .ok (.iconst 0, 1) := dk_3 (dk_at dksX0_slot_0 1 rfl rfl)
theorem dX0_slot_2 : decode cX0_slot 2 = .ok (.aload_n 0, 1) := dk_42 (dk_at dksX0_slot_0 2 rfl rfl)
theorem dX0_slot_3 : decode cX0_slot 3 = .ok (.iload_n 1, 1) := dk_27 (dk_at dksX0_slot_0 3 rfl rfl)
theorem dX0_slot_4 : decode cX0_slot 4 = .ok (.iload_n 2, 1) := dk_28 (dk_at dksX0_slot_0 4 rfl rfl)
theorem dX0_slot_5 : decode cX0_slot 5 = .ok (.invokevirtual 45, 3) := dk_182 0 45 (dk_at dksX0_slot_0 5 rfl rfl)
theorem dX0_slot_8 : decode cX0_slot 8 = .ok (.i2l, 1) := dk_133 (dk_at dksX0_slot_0 8 rfl rfl)
theorem dX0_slot_9 : decode cX0_slot 9 = .ok (.lastore, 1) := dk_80 (dk_at dksX0_slot_0 9 rfl rfl)
theorem dX0_slot_10 : decode cX0_slot 10 = .ok (.goto 7, 3) := dk_167 0 7 (dk_at dksX0_slot_0 10 rfl rfl)
theorem dX0_slot_13 : decode cX0_slot 13 = .ok (.astore 4, 2) := dk_58 4 (dk_at dksX0_slot_0 13 rfl rfl)
theorem dX0_slot_15 : decode cX0_slot 15 = .ok (.iconst 1, 1) := dk_4 (dk_at dksX0_slot_0 15 rfl rfl)
theorem dX0_slot_16 : decode cX0_slot 16 = .ok (.ireturn, 1) := dk_172 (dk_at dksX0_slot_0 16 rfl rfl)
theorem dX0_slot_17 : decode cX0_slot 17 = .ok (.iconst 0, 1) := dk_3 (dk_at dksX0_slot_0 17 rfl rfl)
theorem dX0_slot_18 : decode cX0_slot 18 = .ok (.ireturn, 1) := dk_172 (dk_at dksX0_slot_0 18 rfl rfl)
abbrev cX0_pattern : ByteArray := method_12_code
def yX0_pattern : MethodName := ⟨RX0, "pattern", "(LLogCompactor;II[J)I"⟩
def dkwX0_pattern_0 : List UInt8 := [45, 3, 42, 27, 28, 182, 0, 48, 133, 80, 167, 0, 7, 58, 4, 4, 172, 3, 172]
abbrev dktX0_pattern_0 : List UInt8 := dkwX0_pattern_0 ++ []
theorem dksX0_pattern_0 : cX0_pattern.data.toList.drop 0 = dktX0_pattern_0 := by decide +kernel
theorem dX0_pattern_0 : decode cX0_pattern 0 = .ok (.aload_n 3, 1) := dk_45 (dk_at dksX0_pattern_0 0 rfl rfl)
theorem dX0_pattern_1 : decode cX0_pattern 1 = .ok (.iconst 0, 1) := dk_3 (dk_at dksX0_pattern_0 1 rfl rfl)
theorem dX0_pattern_2 : decode cX0_pattern 2 = .ok (.aload_n 0, 1) := dk_42 (dk_at dksX0_pattern_0 2 rfl rfl)
theorem dX0_pattern_3 : decode cX0_pattern 3 = .ok (.iload_n 1, 1) := dk_27 (dk_at dksX0_pattern_0 3 rfl rfl)
theorem dX0_pattern_4 : decode cX0_pattern 4 = .ok (.iload_n 2, 1) := dk_28 (dk_at dksX0_pattern_0 4 rfl rfl)
theorem dX0_pattern_5 : decode cX0_pattern 5 = .ok (.invokevirtual 48, 3) := dk_182 0 48 (dk_at dksX0_pattern_0 5 rfl rfl)
theorem dX0_pattern_8 : decode cX0_pattern 8 = .ok (.i2l, 1) := dk_133 (dk_at dksX0_pattern_0 8 rfl rfl)
theorem dX0_pattern_9 : decode cX0_pattern 9 = .ok (.lastore, 1) := dk_80 (dk_at dksX0_pattern_0 9 rfl rfl)
theorem dX0_pattern_10 : decode cX0_pattern 10 = .ok (.goto 7, 3) := dk_167 0 7 (dk_at dksX0_pattern_0 10 rfl rfl)
theorem dX0_pattern_13 : decode cX0_pattern 13 = .ok (.astore 4, 2) := dk_58 4 (dk_at dksX0_pattern_0 13 rfl rfl)
theorem dX0_pattern_15 : decode cX0_pattern 15 = .ok (.iconst 1, 1) := dk_4 (dk_at dksX0_pattern_0 15 rfl rfl)
theorem dX0_pattern_16 : decode cX0_pattern 16 = .ok (.ireturn, 1) := dk_172 (dk_at dksX0_pattern_0 16 rfl rfl)
theorem dX0_pattern_17 : decode cX0_pattern 17 = .ok (.iconst 0, 1) := dk_3 (dk_at dksX0_pattern_0 17 rfl rfl)
theorem dX0_pattern_18 : decode cX0_pattern 18 = .ok (.ireturn, 1) := dk_172 (dk_at dksX0_pattern_0 18 rfl rfl)
abbrev cX0_row : ByteArray := method_13_code
def yX0_row : MethodName := ⟨RX0, "row", "(LLogCompactor;II[J)I"⟩
def dkwX0_row_0 : List UInt8 := [45, 3, 42, 27, 28, 182, 0, 51, 133, 80, 167, 0, 7, 58, 4, 4, 172, 3, 172]
abbrev dktX0_row_0 : List UInt8 := dkwX0_row_0 ++ []
theorem dksX0_row_0 : cX0_row.data.toList.drop 0 = dktX0_row_0 := by decide +kernel
theorem dX0_row_0 : decode cX0_row 0 = .ok (.aload_n 3, 1) := dk_45 (dk_at dksX0_row_0 0 rfl rfl)
theorem dX0_row_1 : decode cX0_row 1 = .ok (.iconst 0, 1) := dk_3 (dk_at dksX0_row_0 1 rfl rfl)
theorem dX0_row_2 : decode cX0_row 2 = .ok (.aload_n 0, 1) := dk_42 (dk_at dksX0_row_0 2 rfl rfl)
theorem dX0_row_3 : decode cX0_row 3 = .ok (.iload_n 1, 1) := dk_27 (dk_at dksX0_row_0 3 rfl rfl)
theorem dX0_row_4 : decode cX0_row 4 = .ok (.iload_n 2, 1) := dk_28 (dk_at dksX0_row_0 4 rfl rfl)
theorem dX0_row_5 : decode cX0_row 5 = .ok (.invokevirtual 51, 3) := dk_182 0 51 (dk_at dksX0_row_0 5 rfl rfl)
theorem dX0_row_8 : decode cX0_row 8 = .ok (.i2l, 1) := dk_133 (dk_at dksX0_row_0 8 rfl rfl)
theorem dX0_row_9 : decode cX0_row 9 = .ok (.lastore, 1) := dk_80 (dk_at dksX0_row_0 9 rfl rfl)
theorem dX0_row_10 : decode cX0_row 10 = .ok (.goto 7, 3) := dk_167 0 7 (dk_at dksX0_row_0 10 rfl rfl)
theorem dX0_row_13 : decode cX0_row 13 = .ok (.astore 4, 2) := dk_58 4 (dk_at dksX0_row_0 13 rfl rfl)
theorem dX0_row_15 : decode cX0_row 15 = .ok (.iconst 1, 1) := dk_4 (dk_at dksX0_row_0 15 rfl rfl)
theorem dX0_row_16 : decode cX0_row 16 = .ok (.ireturn, 1) := dk_172 (dk_at dksX0_row_0 16 rfl rfl)
theorem dX0_row_17 : decode cX0_row 17 = .ok (.iconst 0, 1) := dk_3 (dk_at dksX0_row_0 17 rfl rfl)
theorem dX0_row_18 : decode cX0_row 18 = .ok (.ireturn, 1) := dk_172 (dk_at dksX0_row_0 18 rfl rfl)
abbrev cX0_merge : ByteArray := method_14_code
def yX0_merge : MethodName := ⟨RX0, "merge", "(LLogCompactor;II[J)I"⟩
def dkwX0_merge_1 : List UInt8 := [172, 3, 172]
abbrev dktX0_merge_1 : List UInt8 := dkwX0_merge_1 ++ []
def dkwX0_merge_0 : List UInt8 := [45, 3, 42, 27, 28, 182, 0, 54, 133, 80, 167, 0, 15, 58, 4, 4, 172, 58, 4, 5, 172, 58, 4, 6]
abbrev dktX0_merge_0 : List UInt8 := dkwX0_merge_0 ++ dktX0_merge_1
theorem dksX0_merge_0 : cX0_merge.data.toList.drop 0 = dktX0_merge_0 := by decide +kernel
theorem dksX0_merge_1 : cX0_merge.data.toList.drop 24 = dktX0_merge_1 := dk_seg dksX0_merge_0 24 rfl rfl
theorem dX0_merge_0 : decode cX0_merge 0 = .ok (.aload_n 3, 1) := dk_45 (dk_at dksX0_merge_0 0 rfl rfl)
theorem dX0_merge_1 : decode cX0_merge 1 = .ok (.iconst 0, 1) := dk_3 (dk_at dksX0_merge_0 1 rfl rfl)
theorem dX0_merge_2 : decode cX0_merge 2 = .ok (.aload_n 0, 1) := dk_42 (dk_at dksX0_merge_0 2 rfl rfl)
theorem dX0_merge_3 : decode cX0_merge 3 = .ok (.iload_n 1, 1) := dk_27 (dk_at dksX0_merge_0 3 rfl rfl)
theorem dX0_merge_4 : decode cX0_merge 4 = .ok (.iload_n 2, 1) := dk_28 (dk_at dksX0_merge_0 4 rfl rfl)
theorem dX0_merge_5 : decode cX0_merge 5 = .ok (.invokevirtual 54, 3) := dk_182 0 54 (dk_at dksX0_merge_0 5 rfl rfl)
theorem dX0_merge_8 : decode cX0_merge 8 = .ok (.i2l, 1) := dk_133 (dk_at dksX0_merge_0 8 rfl rfl)
theorem dX0_merge_9 : decode cX0_merge 9 = .ok (.lastore, 1) := dk_80 (dk_at dksX0_merge_0 9 rfl rfl)
theorem dX0_merge_10 : decode cX0_merge 10 = .ok (.goto 15, 3) := dk_167 0 15 (dk_at dksX0_merge_0 10 rfl rfl)
theorem dX0_merge_13 : decode cX0_merge 13 = .ok (.astore 4, 2) := dk_58 4 (dk_at dksX0_merge_0 13 rfl rfl)
theorem dX0_merge_15 : decode cX0_merge 15 = .ok (.iconst 1, 1) := dk_4 (dk_at dksX0_merge_0 15 rfl rfl)
theorem dX0_merge_16 : decode cX0_merge 16 = .ok (.ireturn, 1) := dk_172 (dk_at dksX0_merge_0 16 rfl rfl)
theorem dX0_merge_17 : decode cX0_merge 17 = .ok (.astore 4, 2) := dk_58 4 (dk_at dksX0_merge_0 17 rfl rfl)
theorem dX0_merge_19 : decode cX0_merge 19 = .ok (.iconst 2, 1) := dk_5 (dk_at dksX0_merge_0 19 rfl rfl)
theorem dX0_merge_20 : decode cX0_merge 20 = .ok (.ireturn, 1) := dk_172 (dk_at dksX0_merge_0 20 rfl rfl)
theorem dX0_merge_21 : decode cX0_merge 21 = .ok (.astore 4, 2) := dk_58 4 (dk_at dksX0_merge_0 21 rfl rfl)
theorem dX0_merge_23 : decode cX0_merge 23 = .ok (.iconst 3, 1) := dk_6 (dk_at dksX0_merge_0 23 rfl rfl)
theorem dX0_merge_24 : decode cX0_merge 24 = .ok (.ireturn, 1) := dk_172 (dk_at dksX0_merge_1 0 rfl rfl)
theorem dX0_merge_25 : decode cX0_merge 25 = .ok (.iconst 0, 1) := dk_3 (dk_at dksX0_merge_1 1 rfl rfl)
theorem dX0_merge_26 : decode cX0_merge 26 = .ok (.ireturn, 1) := dk_172 (dk_at dksX0_merge_1 2 rfl rfl)
abbrev cX0_split : ByteArray := method_15_code
def yX0_split : MethodName := ⟨RX0, "split", "(LLogCompactor;II[J)I"⟩
def dkwX0_split_1 : List UInt8 := [172, 3, 172]
abbrev dktX0_split_1 : List UInt8 := dkwX0_split_1 ++ []
def dkwX0_split_0 : List UInt8 := [45, 3, 42, 27, 28, 182, 0, 57, 133, 80, 167, 0, 15, 58, 4, 4, 172, 58, 4, 5, 172, 58, 4, 6]
abbrev dktX0_split_0 : List UInt8 := dkwX0_split_0 ++ dktX0_split_1
theorem dksX0_split_0 : cX0_split.data.toList.drop 0 = dktX0_split_0 := by decide +kernel
theorem dksX0_split_1 : cX0_split.data.toList.drop 24 = dktX0_split_1 := dk_seg dksX0_split_0 24 rfl rfl
theorem dX0_split_0 : decode cX0_split 0 = .ok (.aload_n 3, 1) := dk_45 (dk_at dksX0_split_0 0 rfl rfl)
theorem dX0_split_1 : decode cX0_split 1 = .ok (.iconst 0, 1) := dk_3 (dk_at dksX0_split_0 1 rfl rfl)
theorem dX0_split_2 : decode cX0_split 2 = .ok (.aload_n 0, 1) := dk_42 (dk_at dksX0_split_0 2 rfl rfl)
theorem dX0_split_3 : decode cX0_split 3 = .ok (.iload_n 1, 1) := dk_27 (dk_at dksX0_split_0 3 rfl rfl)
theorem dX0_split_4 : decode cX0_split 4 = .ok (.iload_n 2, 1) := dk_28 (dk_at dksX0_split_0 4 rfl rfl)
theorem dX0_split_5 : decode cX0_split 5 = .ok (.invokevirtual 57, 3) := dk_182 0 57 (dk_at dksX0_split_0 5 rfl rfl)
theorem dX0_split_8 : decode cX0_split 8 = .ok (.i2l, 1) := dk_133 (dk_at dksX0_split_0 8 rfl rfl)
theorem dX0_split_9 : decode cX0_split 9 = .ok (.lastore, 1) := dk_80 (dk_at dksX0_split_0 9 rfl rfl)
theorem dX0_split_10 : decode cX0_split 10 = .ok (.goto 15, 3) := dk_167 0 15 (dk_at dksX0_split_0 10 rfl rfl)
theorem dX0_split_13 : decode cX0_split 13 = .ok (.astore 4, 2) := dk_58 4 (dk_at dksX0_split_0 13 rfl rfl)
theorem dX0_split_15 : decode cX0_split 15 = .ok (.iconst 1, 1) := dk_4 (dk_at dksX0_split_0 15 rfl rfl)
theorem dX0_split_16 : decode cX0_split 16 = .ok (.ireturn, 1) := dk_172 (dk_at dksX0_split_0 16 rfl rfl)
theorem dX0_split_17 : decode cX0_split 17 = .ok (.astore 4, 2) := dk_58 4 (dk_at dksX0_split_0 17 rfl rfl)
theorem dX0_split_19 : decode cX0_split 19 = .ok (.iconst 2, 1) := dk_5 (dk_at dksX0_split_0 19 rfl rfl)
theorem dX0_split_20 : decode cX0_split 20 = .ok (.ireturn, 1) := dk_172 (dk_at dksX0_split_0 20 rfl rfl)
theorem dX0_split_21 : decode cX0_split 21 = .ok (.astore 4, 2) := dk_58 4 (dk_at dksX0_split_0 21 rfl rfl)
theorem dX0_split_23 : decode cX0_split 23 = .ok (.iconst 3, 1) := dk_6 (dk_at dksX0_split_0 23 rfl rfl)
theorem dX0_split_24 : decode cX0_split 24 = .ok (.ireturn, 1) := dk_172 (dk_at dksX0_split_1 0 rfl rfl)
theorem dX0_split_25 : decode cX0_split 25 = .ok (.iconst 0, 1) := dk_3 (dk_at dksX0_split_1 1 rfl rfl)
theorem dX0_split_26 : decode cX0_split 26 = .ok (.ireturn, 1) := dk_172 (dk_at dksX0_split_1 2 rfl rfl)
abbrev cX0_gain : ByteArray := method_16_code
def yX0_gain : MethodName := ⟨RX0, "gain", "(LLogCompactor;II[J)I"⟩
def dkwX0_gain_1 : List UInt8 := [172, 3, 172]
abbrev dktX0_gain_1 : List UInt8 := dkwX0_gain_1 ++ []
def dkwX0_gain_0 : List UInt8 := [45, 3, 42, 27, 28, 182, 0, 60, 133, 80, 167, 0, 15, 58, 4, 4, 172, 58, 4, 5, 172, 58, 4, 6]
abbrev dktX0_gain_0 : List UInt8 := dkwX0_gain_0 ++ dktX0_gain_1
theorem dksX0_gain_0 : cX0_gain.data.toList.drop 0 = dktX0_gain_0 := by decide +kernel
theorem dksX0_gain_1 : cX0_gain.data.toList.drop 24 = dktX0_gain_1 := dk_seg dksX0_gain_0 24 rfl rfl
theorem dX0_gain_0 : decode cX0_gain 0 = .ok (.aload_n 3, 1) := dk_45 (dk_at dksX0_gain_0 0 rfl rfl)
theorem dX0_gain_1 : decode cX0_gain 1 = .ok (.iconst 0, 1) := dk_3 (dk_at dksX0_gain_0 1 rfl rfl)
theorem dX0_gain_2 : decode cX0_gain 2 = .ok (.aload_n 0, 1) := dk_42 (dk_at dksX0_gain_0 2 rfl rfl)
theorem dX0_gain_3 : decode cX0_gain 3 = .ok (.iload_n 1, 1) := dk_27 (dk_at dksX0_gain_0 3 rfl rfl)
theorem dX0_gain_4 : decode cX0_gain 4 = .ok (.iload_n 2, 1) := dk_28 (dk_at dksX0_gain_0 4 rfl rfl)
theorem dX0_gain_5 : decode cX0_gain 5 = .ok (.invokevirtual 60, 3) := dk_182 0 60 (dk_at dksX0_gain_0 5 rfl rfl)
theorem dX0_gain_8 : decode cX0_gain 8 = .ok (.i2l, 1) := dk_133 (dk_at dksX0_gain_0 8 rfl rfl)
theorem dX0_gain_9 : decode cX0_gain 9 = .ok (.lastore, 1) := dk_80 (dk_at dksX0_gain_0 9 rfl rfl)
theorem dX0_gain_10 : decode cX0_gain 10 = .ok (.goto 15, 3) := dk_167 0 15 (dk_at dksX0_gain_0 10 rfl rfl)
theorem dX0_gain_13 : decode cX0_gain 13 = .ok (.astore 4, 2) := dk_58 4 (dk_at dksX0_gain_0 13 rfl rfl)
theorem dX0_gain_15 : decode cX0_gain 15 = .ok (.iconst 1, 1) := dk_4 (dk_at dksX0_gain_0 15 rfl rfl)
theorem dX0_gain_16 : decode cX0_gain 16 = .ok (.ireturn, 1) := dk_172 (dk_at dksX0_gain_0 16 rfl rfl)
theorem dX0_gain_17 : decode cX0_gain 17 = .ok (.astore 4, 2) := dk_58 4 (dk_at dksX0_gain_0 17 rfl rfl)
theorem dX0_gain_19 : decode cX0_gain 19 = .ok (.iconst 2, 1) := dk_5 (dk_at dksX0_gain_0 19 rfl rfl)
theorem dX0_gain_20 : decode cX0_gain 20 = .ok (.ireturn, 1) := dk_172 (dk_at dksX0_gain_0 20 rfl rfl)
theorem dX0_gain_21 : decode cX0_gain 21 = .ok (.astore 4, 2) := dk_58 4 (dk_at dksX0_gain_0 21 rfl rfl)
theorem dX0_gain_23 : decode cX0_gain 23 = .ok (.iconst 3, 1) := dk_6 (dk_at dksX0_gain_0 23 rfl rfl)
theorem dX0_gain_24 : decode cX0_gain 24 = .ok (.ireturn, 1) := dk_172 (dk_at dksX0_gain_1 0 rfl rfl)
theorem dX0_gain_25 : decode cX0_gain 25 = .ok (.iconst 0, 1) := dk_3 (dk_at dksX0_gain_1 1 rfl rfl)
theorem dX0_gain_26 : decode cX0_gain 26 = .ok (.ireturn, 1) := dk_172 (dk_at dksX0_gain_1 2 rfl rfl)
abbrev cX0_column : ByteArray := method_17_code
def yX0_column : MethodName := ⟨RX0, "column", "(LLogCompactor;III[J)I"⟩
def dkwX0_column_1 : List UInt8 := [172]
abbrev dktX0_column_1 : List UInt8 := dkwX0_column_1 ++ []
def dkwX0_column_0 : List UInt8 := [25, 4, 3, 42, 27, 28, 29, 182, 0, 63, 133, 80, 167, 0, 11, 58, 5, 4, 172, 58, 5, 5, 172, 3]
abbrev dktX0_column_0 : List UInt8 := dkwX0_column_0 ++ dktX0_column_1
theorem dksX0_column_0 : cX0_column.data.toList.drop 0 = dktX0_column_0 := by decide +kernel
theorem dksX0_column_1 : cX0_column.data.toList.drop 24 = dktX0_column_1 := dk_seg dksX0_column_0 24 rfl rfl
theorem dX0_column_0 : decode cX0_column 0 = .ok (.aload 4, 2) := dk_25 4 (dk_at dksX0_column_0 0 rfl rfl)
theorem dX0_column_2 : decode cX0_column 2 = .ok (.iconst 0, 1) := dk_3 (dk_at dksX0_column_0 2 rfl rfl)
theorem dX0_column_3 : decode cX0_column 3 = .ok (.aload_n 0, 1) := dk_42 (dk_at dksX0_column_0 3 rfl rfl)
theorem dX0_column_4 : decode cX0_column 4 = .ok (.iload_n 1, 1) := dk_27 (dk_at dksX0_column_0 4 rfl rfl)
theorem dX0_column_5 : decode cX0_column 5 = .ok (.iload_n 2, 1) := dk_28 (dk_at dksX0_column_0 5 rfl rfl)
theorem dX0_column_6 : decode cX0_column 6 = .ok (.iload_n 3, 1) := dk_29 (dk_at dksX0_column_0 6 rfl rfl)
theorem dX0_column_7 : decode cX0_column 7 = .ok (.invokevirtual 63, 3) := dk_182 0 63 (dk_at dksX0_column_0 7 rfl rfl)
theorem dX0_column_10 : decode cX0_column 10 = .ok (.i2l, 1) := dk_133 (dk_at dksX0_column_0 10 rfl rfl)
theorem dX0_column_11 : decode cX0_column 11 = .ok (.lastore, 1) := dk_80 (dk_at dksX0_column_0 11 rfl rfl)
theorem dX0_column_12 : decode cX0_column 12 = .ok (.goto 11, 3) := dk_167 0 11 (dk_at dksX0_column_0 12 rfl rfl)
theorem dX0_column_15 : decode cX0_column 15 = .ok (.astore 5, 2) := dk_58 5 (dk_at dksX0_column_0 15 rfl rfl)
theorem dX0_column_17 : decode cX0_column 17 = .ok (.iconst 1, 1) := dk_4 (dk_at dksX0_column_0 17 rfl rfl)
theorem dX0_column_18 : decode cX0_column 18 = .ok (.ireturn, 1) := dk_172 (dk_at dksX0_column_0 18 rfl rfl)
theorem dX0_column_19 : decode cX0_column 19 = .ok (.astore 5, 2) := dk_58 5 (dk_at dksX0_column_0 19 rfl rfl)
theorem dX0_column_21 : decode cX0_column 21 = .ok (.iconst 2, 1) := dk_5 (dk_at dksX0_column_0 21 rfl rfl)
theorem dX0_column_22 : decode cX0_column 22 = .ok (.ireturn, 1) := dk_172 (dk_at dksX0_column_0 22 rfl rfl)
theorem dX0_column_23 : decode cX0_column 23 = .ok (.iconst 0, 1) := dk_3 (dk_at dksX0_column_0 23 rfl rfl)
theorem dX0_column_24 : decode cX0_column 24 = .ok (.ireturn, 1) := dk_172 (dk_at dksX0_column_1 0 rfl rfl)
abbrev cX0_cost : ByteArray := method_18_code
def yX0_cost : MethodName := ⟨RX0, "cost", "(LLogCompactor;III[J)I"⟩
def dkwX0_cost_1 : List UInt8 := [172]
abbrev dktX0_cost_1 : List UInt8 := dkwX0_cost_1 ++ []
def dkwX0_cost_0 : List UInt8 := [25, 4, 3, 42, 27, 28, 29, 182, 0, 67, 133, 80, 167, 0, 11, 58, 5, 4, 172, 58, 5, 5, 172, 3]
abbrev dktX0_cost_0 : List UInt8 := dkwX0_cost_0 ++ dktX0_cost_1
theorem dksX0_cost_0 : cX0_cost.data.toList.drop 0 = dktX0_cost_0 := by decide +kernel
theorem dksX0_cost_1 : cX0_cost.data.toList.drop 24 = dktX0_cost_1 := dk_seg dksX0_cost_0 24 rfl rfl
theorem dX0_cost_0 : decode cX0_cost 0 = .ok (.aload 4, 2) := dk_25 4 (dk_at dksX0_cost_0 0 rfl rfl)
theorem dX0_cost_2 : decode cX0_cost 2 = .ok (.iconst 0, 1) := dk_3 (dk_at dksX0_cost_0 2 rfl rfl)
theorem dX0_cost_3 : decode cX0_cost 3 = .ok (.aload_n 0, 1) := dk_42 (dk_at dksX0_cost_0 3 rfl rfl)
theorem dX0_cost_4 : decode cX0_cost 4 = .ok (.iload_n 1, 1) := dk_27 (dk_at dksX0_cost_0 4 rfl rfl)
theorem dX0_cost_5 : decode cX0_cost 5 = .ok (.iload_n 2, 1) := dk_28 (dk_at dksX0_cost_0 5 rfl rfl)
theorem dX0_cost_6 : decode cX0_cost 6 = .ok (.iload_n 3, 1) := dk_29 (dk_at dksX0_cost_0 6 rfl rfl)
theorem dX0_cost_7 : decode cX0_cost 7 = .ok (.invokevirtual 67, 3) := dk_182 0 67 (dk_at dksX0_cost_0 7 rfl rfl)
theorem dX0_cost_10 : decode cX0_cost 10 = .ok (.i2l, 1) := dk_133 (dk_at dksX0_cost_0 10 rfl rfl)
theorem dX0_cost_11 : decode cX0_cost 11 = .ok (.lastore, 1) := dk_80 (dk_at dksX0_cost_0 11 rfl rfl)
theorem dX0_cost_12 : decode cX0_cost 12 = .ok (.goto 11, 3) := dk_167 0 11 (dk_at dksX0_cost_0 12 rfl rfl)
theorem dX0_cost_15 : decode cX0_cost 15 = .ok (.astore 5, 2) := dk_58 5 (dk_at dksX0_cost_0 15 rfl rfl)
theorem dX0_cost_17 : decode cX0_cost 17 = .ok (.iconst 1, 1) := dk_4 (dk_at dksX0_cost_0 17 rfl rfl)
theorem dX0_cost_18 : decode cX0_cost 18 = .ok (.ireturn, 1) := dk_172 (dk_at dksX0_cost_0 18 rfl rfl)
theorem dX0_cost_19 : decode cX0_cost 19 = .ok (.astore 5, 2) := dk_58 5 (dk_at dksX0_cost_0 19 rfl rfl)
theorem dX0_cost_21 : decode cX0_cost 21 = .ok (.iconst 2, 1) := dk_5 (dk_at dksX0_cost_0 21 rfl rfl)
theorem dX0_cost_22 : decode cX0_cost 22 = .ok (.ireturn, 1) := dk_172 (dk_at dksX0_cost_0 22 rfl rfl)
theorem dX0_cost_23 : decode cX0_cost 23 = .ok (.iconst 0, 1) := dk_3 (dk_at dksX0_cost_0 23 rfl rfl)
theorem dX0_cost_24 : decode cX0_cost 24 = .ok (.ireturn, 1) := dk_172 (dk_at dksX0_cost_1 0 rfl rfl)
abbrev cX0_code : ByteArray := method_19_code
def yX0_code : MethodName := ⟨RX0, "code", "(LLogCompactor;III[J)I"⟩
def dkwX0_code_0 : List UInt8 := [25, 4, 3, 42, 27, 28, 29, 182, 0, 70, 133, 80, 167, 0, 7, 58, 5, 4, 172, 3, 172]
abbrev dktX0_code_0 : List UInt8 := dkwX0_code_0 ++ []
theorem dksX0_code_0 : cX0_code.data.toList.drop 0 = dktX0_code_0 := by decide +kernel
theorem dX0_code_0 : decode cX0_code 0 = .ok (.aload 4, 2) := dk_25 4 (dk_at dksX0_code_0 0 rfl rfl)
theorem dX0_code_2 : decode cX0_code 2 = .ok (.iconst 0, 1) := dk_3 (dk_at dksX0_code_0 2 rfl rfl)
theorem dX0_code_3 : decode cX0_code 3 = .ok (.aload_n 0, 1) := dk_42 (dk_at dksX0_code_0 3 rfl rfl)
theorem dX0_code_4 : decode cX0_code 4 = .ok (.iload_n 1, 1) := dk_27 (dk_at dksX0_code_0 4 rfl rfl)
theorem dX0_code_5 : decode cX0_code 5 = .ok (.iload_n 2, 1) := dk_28 (dk_at dksX0_code_0 5 rfl rfl)
theorem dX0_code_6 : decode cX0_code 6 = .ok (.iload_n 3, 1) := dk_29 (dk_at dksX0_code_0 6 rfl rfl)
theorem dX0_code_7 : decode cX0_code 7 = .ok (.invokevirtual 70, 3) := dk_182 0 70 (dk_at dksX0_code_0 7 rfl rfl)
theorem dX0_code_10 : decode cX0_code 10 = .ok (.i2l, 1) := dk_133 (dk_at dksX0_code_0 10 rfl rfl)
theorem dX0_code_11 : decode cX0_code 11 = .ok (.lastore, 1) := dk_80 (dk_at dksX0_code_0 11 rfl rfl)
theorem dX0_code_12 : decode cX0_code 12 = .ok (.goto 7, 3) := dk_167 0 7 (dk_at dksX0_code_0 12 rfl rfl)
theorem dX0_code_15 : decode cX0_code 15 = .ok (.astore 5, 2) := dk_58 5 (dk_at dksX0_code_0 15 rfl rfl)
theorem dX0_code_17 : decode cX0_code 17 = .ok (.iconst 1, 1) := dk_4 (dk_at dksX0_code_0 17 rfl rfl)
theorem dX0_code_18 : decode cX0_code 18 = .ok (.ireturn, 1) := dk_172 (dk_at dksX0_code_0 18 rfl rfl)
theorem dX0_code_19 : decode cX0_code 19 = .ok (.iconst 0, 1) := dk_3 (dk_at dksX0_code_0 19 rfl rfl)
theorem dX0_code_20 : decode cX0_code 20 = .ok (.ireturn, 1) := dk_172 (dk_at dksX0_code_0 20 rfl rfl)
abbrev cX0_value : ByteArray := method_20_code
def yX0_value : MethodName := ⟨RX0, "value", "(LLogCompactor;III[J)I"⟩
def dkwX0_value_1 : List UInt8 := [172]
abbrev dktX0_value_1 : List UInt8 := dkwX0_value_1 ++ []
def dkwX0_value_0 : List UInt8 := [25, 4, 3, 42, 27, 28, 29, 182, 0, 73, 133, 80, 167, 0, 11, 58, 5, 4, 172, 58, 5, 5, 172, 3]
abbrev dktX0_value_0 : List UInt8 := dkwX0_value_0 ++ dktX0_value_1
theorem dksX0_value_0 : cX0_value.data.toList.drop 0 = dktX0_value_0 := by decide +kernel
theorem dksX0_value_1 : cX0_value.data.toList.drop 24 = dktX0_value_1 := dk_seg dksX0_value_0 24 rfl rfl
theorem dX0_value_0 : decode cX0_value 0 = .ok (.aload 4, 2) := dk_25 4 (dk_at dksX0_value_0 0 rfl rfl)
theorem dX0_value_2 : decode cX0_value 2 = .ok (.iconst 0, 1) := dk_3 (dk_at dksX0_value_0 2 rfl rfl)
theorem dX0_value_3 : decode cX0_value 3 = .ok (.aload_n 0, 1) := dk_42 (dk_at dksX0_value_0 3 rfl rfl)
theorem dX0_value_4 : decode cX0_value 4 = .ok (.iload_n 1, 1) := dk_27 (dk_at dksX0_value_0 4 rfl rfl)
theorem dX0_value_5 : decode cX0_value 5 = .ok (.iload_n 2, 1) := dk_28 (dk_at dksX0_value_0 5 rfl rfl)
theorem dX0_value_6 : decode cX0_value 6 = .ok (.iload_n 3, 1) := dk_29 (dk_at dksX0_value_0 6 rfl rfl)
theorem dX0_value_7 : decode cX0_value 7 = .ok (.invokevirtual 73, 3) := dk_182 0 73 (dk_at dksX0_value_0 7 rfl rfl)
theorem dX0_value_10 : decode cX0_value 10 = .ok (.i2l, 1) := dk_133 (dk_at dksX0_value_0 10 rfl rfl)
theorem dX0_value_11 : decode cX0_value 11 = .ok (.lastore, 1) := dk_80 (dk_at dksX0_value_0 11 rfl rfl)
theorem dX0_value_12 : decode cX0_value 12 = .ok (.goto 11, 3) := dk_167 0 11 (dk_at dksX0_value_0 12 rfl rfl)
theorem dX0_value_15 : decode cX0_value 15 = .ok (.astore 5, 2) := dk_58 5 (dk_at dksX0_value_0 15 rfl rfl)
theorem dX0_value_17 : decode cX0_value 17 = .ok (.iconst 1, 1) := dk_4 (dk_at dksX0_value_0 17 rfl rfl)
theorem dX0_value_18 : decode cX0_value 18 = .ok (.ireturn, 1) := dk_172 (dk_at dksX0_value_0 18 rfl rfl)
theorem dX0_value_19 : decode cX0_value 19 = .ok (.astore 5, 2) := dk_58 5 (dk_at dksX0_value_0 19 rfl rfl)
theorem dX0_value_21 : decode cX0_value 21 = .ok (.iconst 2, 1) := dk_5 (dk_at dksX0_value_0 21 rfl rfl)
theorem dX0_value_22 : decode cX0_value 22 = .ok (.ireturn, 1) := dk_172 (dk_at dksX0_value_0 22 rfl rfl)
theorem dX0_value_23 : decode cX0_value 23 = .ok (.iconst 0, 1) := dk_3 (dk_at dksX0_value_0 23 rfl rfl)
theorem dX0_value_24 : decode cX0_value 24 = .ok (.ireturn, 1) := dk_172 (dk_at dksX0_value_1 0 rfl rfl)
abbrev cX0_sum : ByteArray := method_21_code
def yX0_sum : MethodName := ⟨RX0, "sum", "(LLogCompactor;II[J)I"⟩
def dkwX0_sum_0 : List UInt8 := [45, 3, 42, 27, 28, 182, 0, 78, 80, 167, 0, 7, 58, 4, 4, 172, 3, 172]
abbrev dktX0_sum_0 : List UInt8 := dkwX0_sum_0 ++ []
theorem dksX0_sum_0 : cX0_sum.data.toList.drop 0 = dktX0_sum_0 := by decide +kernel
theorem dX0_sum_0 : decode cX0_sum 0 = .ok (.aload_n 3, 1) := dk_45 (dk_at dksX0_sum_0 0 rfl rfl)
theorem dX0_sum_1 : decode cX0_sum 1 = .ok (.iconst 0, 1) := dk_3 (dk_at dksX0_sum_0 1 rfl rfl)
theorem dX0_sum_2 : decode cX0_sum 2 = .ok (.aload_n 0, 1) := dk_42 (dk_at dksX0_sum_0 2 rfl rfl)
theorem dX0_sum_3 : decode cX0_sum 3 = .ok (.iload_n 1, 1) := dk_27 (dk_at dksX0_sum_0 3 rfl rfl)
theorem dX0_sum_4 : decode cX0_sum 4 = .ok (.iload_n 2, 1) := dk_28 (dk_at dksX0_sum_0 4 rfl rfl)
theorem dX0_sum_5 : decode cX0_sum 5 = .ok (.invokevirtual 78, 3) := dk_182 0 78 (dk_at dksX0_sum_0 5 rfl rfl)
theorem dX0_sum_8 : decode cX0_sum 8 = .ok (.lastore, 1) := dk_80 (dk_at dksX0_sum_0 8 rfl rfl)
theorem dX0_sum_9 : decode cX0_sum 9 = .ok (.goto 7, 3) := dk_167 0 7 (dk_at dksX0_sum_0 9 rfl rfl)
theorem dX0_sum_12 : decode cX0_sum 12 = .ok (.astore 4, 2) := dk_58 4 (dk_at dksX0_sum_0 12 rfl rfl)
theorem dX0_sum_14 : decode cX0_sum 14 = .ok (.iconst 1, 1) := dk_4 (dk_at dksX0_sum_0 14 rfl rfl)
theorem dX0_sum_15 : decode cX0_sum 15 = .ok (.ireturn, 1) := dk_172 (dk_at dksX0_sum_0 15 rfl rfl)
theorem dX0_sum_16 : decode cX0_sum 16 = .ok (.iconst 0, 1) := dk_3 (dk_at dksX0_sum_0 16 rfl rfl)
theorem dX0_sum_17 : decode cX0_sum 17 = .ok (.ireturn, 1) := dk_172 (dk_at dksX0_sum_0 17 rfl rfl)
abbrev cX0_ratio : ByteArray := method_22_code
def yX0_ratio : MethodName := ⟨RX0, "ratio", "(LLogCompactor;[D)I"⟩
def dkwX0_ratio_0 : List UInt8 := [43, 3, 42, 182, 0, 82, 82, 167, 0, 6, 77, 4, 172, 3, 172]
abbrev dktX0_ratio_0 : List UInt8 := dkwX0_ratio_0 ++ []
theorem dksX0_ratio_0 : cX0_ratio.data.toList.drop 0 = dktX0_ratio_0 := by decide +kernel
theorem dX0_ratio_0 : decode cX0_ratio 0 = .ok (.aload_n 1, 1) := dk_43 (dk_at dksX0_ratio_0 0 rfl rfl)
theorem dX0_ratio_1 : decode cX0_ratio 1 = .ok (.iconst 0, 1) := dk_3 (dk_at dksX0_ratio_0 1 rfl rfl)
theorem dX0_ratio_2 : decode cX0_ratio 2 = .ok (.aload_n 0, 1) := dk_42 (dk_at dksX0_ratio_0 2 rfl rfl)
theorem dX0_ratio_3 : decode cX0_ratio 3 = .ok (.invokevirtual 82, 3) := dk_182 0 82 (dk_at dksX0_ratio_0 3 rfl rfl)
theorem dX0_ratio_6 : decode cX0_ratio 6 = .ok (.dastore, 1) := dk_82 (dk_at dksX0_ratio_0 6 rfl rfl)
theorem dX0_ratio_7 : decode cX0_ratio 7 = .ok (.goto 6, 3) := dk_167 0 6 (dk_at dksX0_ratio_0 7 rfl rfl)
theorem dX0_ratio_10 : decode cX0_ratio 10 = .ok (.astore_n 2, 1) := dk_77 (dk_at dksX0_ratio_0 10 rfl rfl)
theorem dX0_ratio_11 : decode cX0_ratio 11 = .ok (.iconst 1, 1) := dk_4 (dk_at dksX0_ratio_0 11 rfl rfl)
theorem dX0_ratio_12 : decode cX0_ratio 12 = .ok (.ireturn, 1) := dk_172 (dk_at dksX0_ratio_0 12 rfl rfl)
theorem dX0_ratio_13 : decode cX0_ratio 13 = .ok (.iconst 0, 1) := dk_3 (dk_at dksX0_ratio_0 13 rfl rfl)
theorem dX0_ratio_14 : decode cX0_ratio 14 = .ok (.ireturn, 1) := dk_172 (dk_at dksX0_ratio_0 14 rfl rfl)
abbrev cX0_hit : ByteArray := method_23_code
def yX0_hit : MethodName := ⟨RX0, "hit", "(LLogCompactor;I[J)I"⟩
def dkwX0_hit_0 : List UInt8 := [44, 3, 42, 27, 182, 0, 88, 133, 80, 167, 0, 9, 78, 4, 172, 78, 5, 172, 3, 172]
abbrev dktX0_hit_0 : List UInt8 := dkwX0_hit_0 ++ []
theorem dksX0_hit_0 : cX0_hit.data.toList.drop 0 = dktX0_hit_0 := by decide +kernel
theorem dX0_hit_0 : decode cX0_hit 0 = .ok (.aload_n 2, 1) := dk_44 (dk_at dksX0_hit_0 0 rfl rfl)
theorem dX0_hit_1 : decode cX0_hit 1 = .ok (.iconst 0, 1) := dk_3 (dk_at dksX0_hit_0 1 rfl rfl)
theorem dX0_hit_2 : decode cX0_hit 2 = .ok (.aload_n 0, 1) := dk_42 (dk_at dksX0_hit_0 2 rfl rfl)
theorem dX0_hit_3 : decode cX0_hit 3 = .ok (.iload_n 1, 1) := dk_27 (dk_at dksX0_hit_0 3 rfl rfl)
theorem dX0_hit_4 : decode cX0_hit 4 = .ok (.invokevirtual 88, 3) := dk_182 0 88 (dk_at dksX0_hit_0 4 rfl rfl)
theorem dX0_hit_7 : decode cX0_hit 7 = .ok (.i2l, 1) := dk_133 (dk_at dksX0_hit_0 7 rfl rfl)
theorem dX0_hit_8 : decode cX0_hit 8 = .ok (.lastore, 1) := dk_80 (dk_at dksX0_hit_0 8 rfl rfl)
theorem dX0_hit_9 : decode cX0_hit 9 = .ok (.goto 9, 3) := dk_167 0 9 (dk_at dksX0_hit_0 9 rfl rfl)
theorem dX0_hit_12 : decode cX0_hit 12 = .ok (.astore_n 3, 1) := dk_78 (dk_at dksX0_hit_0 12 rfl rfl)
theorem dX0_hit_13 : decode cX0_hit 13 = .ok (.iconst 1, 1) := dk_4 (dk_at dksX0_hit_0 13 rfl rfl)
theorem dX0_hit_14 : decode cX0_hit 14 = .ok (.ireturn, 1) := dk_172 (dk_at dksX0_hit_0 14 rfl rfl)
theorem dX0_hit_15 : decode cX0_hit 15 = .ok (.astore_n 3, 1) := dk_78 (dk_at dksX0_hit_0 15 rfl rfl)
theorem dX0_hit_16 : decode cX0_hit 16 = .ok (.iconst 2, 1) := dk_5 (dk_at dksX0_hit_0 16 rfl rfl)
theorem dX0_hit_17 : decode cX0_hit 17 = .ok (.ireturn, 1) := dk_172 (dk_at dksX0_hit_0 17 rfl rfl)
theorem dX0_hit_18 : decode cX0_hit 18 = .ok (.iconst 0, 1) := dk_3 (dk_at dksX0_hit_0 18 rfl rfl)
theorem dX0_hit_19 : decode cX0_hit 19 = .ok (.ireturn, 1) := dk_172 (dk_at dksX0_hit_0 19 rfl rfl)
abbrev cX0_excluded : ByteArray := method_24_code
def yX0_excluded : MethodName := ⟨RX0, "excluded", "(LLogCompactor;I[J)I"⟩
def dkwX0_excluded_0 : List UInt8 := [44, 3, 42, 27, 182, 0, 91, 133, 80, 167, 0, 6, 78, 4, 172, 3, 172]
abbrev dktX0_excluded_0 : List UInt8 := dkwX0_excluded_0 ++ []
theorem dksX0_excluded_0 : cX0_excluded.data.toList.drop 0 = dktX0_excluded_0 := by decide +kernel
theorem dX0_excluded_0 : decode cX0_excluded 0 = .ok (.aload_n 2, 1) := dk_44 (dk_at dksX0_excluded_0 0 rfl rfl)
theorem dX0_excluded_1 : decode cX0_excluded 1 = .ok (.iconst 0, 1) := dk_3 (dk_at dksX0_excluded_0 1 rfl rfl)
theorem dX0_excluded_2 : decode cX0_excluded 2 = .ok (.aload_n 0, 1) := dk_42 (dk_at dksX0_excluded_0 2 rfl rfl)
theorem dX0_excluded_3 : decode cX0_excluded 3 = .ok (.iload_n 1, 1) := dk_27 (dk_at dksX0_excluded_0 3 rfl rfl)
theorem dX0_excluded_4 : decode cX0_excluded 4 = .ok (.invokevirtual 91, 3) := dk_182 0 91 (dk_at dksX0_excluded_0 4 rfl rfl)
theorem dX0_excluded_7 : decode cX0_excluded 7 = .ok (.i2l, 1) := dk_133 (dk_at dksX0_excluded_0 7 rfl rfl)
theorem dX0_excluded_8 : decode cX0_excluded 8 = .ok (.lastore, 1) := dk_80 (dk_at dksX0_excluded_0 8 rfl rfl)
theorem dX0_excluded_9 : decode cX0_excluded 9 = .ok (.goto 6, 3) := dk_167 0 6 (dk_at dksX0_excluded_0 9 rfl rfl)
theorem dX0_excluded_12 : decode cX0_excluded 12 = .ok (.astore_n 3, 1) := dk_78 (dk_at dksX0_excluded_0 12 rfl rfl)
theorem dX0_excluded_13 : decode cX0_excluded 13 = .ok (.iconst 1, 1) := dk_4 (dk_at dksX0_excluded_0 13 rfl rfl)
theorem dX0_excluded_14 : decode cX0_excluded 14 = .ok (.ireturn, 1) := dk_172 (dk_at dksX0_excluded_0 14 rfl rfl)
theorem dX0_excluded_15 : decode cX0_excluded 15 = .ok (.iconst 0, 1) := dk_3 (dk_at dksX0_excluded_0 15 rfl rfl)
theorem dX0_excluded_16 : decode cX0_excluded 16 = .ok (.ireturn, 1) := dk_172 (dk_at dksX0_excluded_0 16 rfl rfl)
abbrev cX0_report : ByteArray := method_25_code
def yX0_report : MethodName := ⟨RX0, "report", "(LLogCompactor;II[J)I"⟩
def dkwX0_report_0 : List UInt8 := [45, 3, 42, 27, 28, 182, 0, 94, 133, 80, 167, 0, 11, 58, 4, 4, 172, 58, 4, 5, 172, 3, 172]
abbrev dktX0_report_0 : List UInt8 := dkwX0_report_0 ++ []
theorem dksX0_report_0 : cX0_report.data.toList.drop 0 = dktX0_report_0 := by decide +kernel
theorem dX0_report_0 : decode cX0_report 0 = .ok (.aload_n 3, 1) := dk_45 (dk_at dksX0_report_0 0 rfl rfl)
theorem dX0_report_1 : decode cX0_report 1 = .ok (.iconst 0, 1) := dk_3 (dk_at dksX0_report_0 1 rfl rfl)
theorem dX0_report_2 : decode cX0_report 2 = .ok (.aload_n 0, 1) := dk_42 (dk_at dksX0_report_0 2 rfl rfl)
theorem dX0_report_3 : decode cX0_report 3 = .ok (.iload_n 1, 1) := dk_27 (dk_at dksX0_report_0 3 rfl rfl)
theorem dX0_report_4 : decode cX0_report 4 = .ok (.iload_n 2, 1) := dk_28 (dk_at dksX0_report_0 4 rfl rfl)
theorem dX0_report_5 : decode cX0_report 5 = .ok (.invokevirtual 94, 3) := dk_182 0 94 (dk_at dksX0_report_0 5 rfl rfl)
theorem dX0_report_8 : decode cX0_report 8 = .ok (.i2l, 1) := dk_133 (dk_at dksX0_report_0 8 rfl rfl)
theorem dX0_report_9 : decode cX0_report 9 = .ok (.lastore, 1) := dk_80 (dk_at dksX0_report_0 9 rfl rfl)
theorem dX0_report_10 : decode cX0_report 10 = .ok (.goto 11, 3) := dk_167 0 11 (dk_at dksX0_report_0 10 rfl rfl)
theorem dX0_report_13 : decode cX0_report 13 = .ok (.astore 4, 2) := dk_58 4 (dk_at dksX0_report_0 13 rfl rfl)
theorem dX0_report_15 : decode cX0_report 15 = .ok (.iconst 1, 1) := dk_4 (dk_at dksX0_report_0 15 rfl rfl)
theorem dX0_report_16 : decode cX0_report 16 = .ok (.ireturn, 1) := dk_172 (dk_at dksX0_report_0 16 rfl rfl)
theorem dX0_report_17 : decode cX0_report 17 = .ok (.astore 4, 2) := dk_58 4 (dk_at dksX0_report_0 17 rfl rfl)
theorem dX0_report_19 : decode cX0_report 19 = .ok (.iconst 2, 1) := dk_5 (dk_at dksX0_report_0 19 rfl rfl)
theorem dX0_report_20 : decode cX0_report 20 = .ok (.ireturn, 1) := dk_172 (dk_at dksX0_report_0 20 rfl rfl)
theorem dX0_report_21 : decode cX0_report 21 = .ok (.iconst 0, 1) := dk_3 (dk_at dksX0_report_0 21 rfl rfl)
theorem dX0_report_22 : decode cX0_report 22 = .ok (.ireturn, 1) := dk_172 (dk_at dksX0_report_0 22 rfl rfl)
abbrev cX0_undo : ByteArray := method_26_code
def yX0_undo : MethodName := ⟨RX0, "undo", "(LLogCompactor;[J)I"⟩
def dkwX0_undo_0 : List UInt8 := [43, 3, 42, 182, 0, 97, 133, 80, 167, 0, 6, 77, 4, 172, 3, 172]
abbrev dktX0_undo_0 : List UInt8 := dkwX0_undo_0 ++ []
theorem dksX0_undo_0 : cX0_undo.data.toList.drop 0 = dktX0_undo_0 := by decide +kernel
theorem dX0_undo_0 : decode cX0_undo 0 = .ok (.aload_n 1, 1) := dk_43 (dk_at dksX0_undo_0 0 rfl rfl)
theorem dX0_undo_1 : decode cX0_undo 1 = .ok (.iconst 0, 1) := dk_3 (dk_at dksX0_undo_0 1 rfl rfl)
theorem dX0_undo_2 : decode cX0_undo 2 = .ok (.aload_n 0, 1) := dk_42 (dk_at dksX0_undo_0 2 rfl rfl)
theorem dX0_undo_3 : decode cX0_undo 3 = .ok (.invokevirtual 97, 3) := dk_182 0 97 (dk_at dksX0_undo_0 3 rfl rfl)
theorem dX0_undo_6 : decode cX0_undo 6 = .ok (.i2l, 1) := dk_133 (dk_at dksX0_undo_0 6 rfl rfl)
theorem dX0_undo_7 : decode cX0_undo 7 = .ok (.lastore, 1) := dk_80 (dk_at dksX0_undo_0 7 rfl rfl)
theorem dX0_undo_8 : decode cX0_undo 8 = .ok (.goto 6, 3) := dk_167 0 6 (dk_at dksX0_undo_0 8 rfl rfl)
theorem dX0_undo_11 : decode cX0_undo 11 = .ok (.astore_n 2, 1) := dk_77 (dk_at dksX0_undo_0 11 rfl rfl)
theorem dX0_undo_12 : decode cX0_undo 12 = .ok (.iconst 1, 1) := dk_4 (dk_at dksX0_undo_0 12 rfl rfl)
theorem dX0_undo_13 : decode cX0_undo 13 = .ok (.ireturn, 1) := dk_172 (dk_at dksX0_undo_0 13 rfl rfl)
theorem dX0_undo_14 : decode cX0_undo 14 = .ok (.iconst 0, 1) := dk_3 (dk_at dksX0_undo_0 14 rfl rfl)
theorem dX0_undo_15 : decode cX0_undo 15 = .ok (.ireturn, 1) := dk_172 (dk_at dksX0_undo_0 15 rfl rfl)
abbrev cX0_restore : ByteArray := method_27_code
def yX0_restore : MethodName := ⟨RX0, "restore", "(LLogCompactor;[J)I"⟩
def dkwX0_restore_0 : List UInt8 := [43, 3, 42, 182, 0, 100, 133, 80, 167, 0, 6, 77, 4, 172, 3, 172]
abbrev dktX0_restore_0 : List UInt8 := dkwX0_restore_0 ++ []
theorem dksX0_restore_0 : cX0_restore.data.toList.drop 0 = dktX0_restore_0 := by decide +kernel
theorem dX0_restore_0 : decode cX0_restore 0 = .ok (.aload_n 1, 1) := dk_43 (dk_at dksX0_restore_0 0 rfl rfl)
theorem dX0_restore_1 : decode cX0_restore 1 = .ok (.iconst 0, 1) := dk_3 (dk_at dksX0_restore_0 1 rfl rfl)
theorem dX0_restore_2 : decode cX0_restore 2 = .ok (.aload_n 0, 1) := dk_42 (dk_at dksX0_restore_0 2 rfl rfl)
theorem dX0_restore_3 : decode cX0_restore 3 = .ok (.invokevirtual 100, 3) := dk_182 0 100 (dk_at dksX0_restore_0 3 rfl rfl)
theorem dX0_restore_6 : decode cX0_restore 6 = .ok (.i2l, 1) := dk_133 (dk_at dksX0_restore_0 6 rfl rfl)
theorem dX0_restore_7 : decode cX0_restore 7 = .ok (.lastore, 1) := dk_80 (dk_at dksX0_restore_0 7 rfl rfl)
theorem dX0_restore_8 : decode cX0_restore 8 = .ok (.goto 6, 3) := dk_167 0 6 (dk_at dksX0_restore_0 8 rfl rfl)
theorem dX0_restore_11 : decode cX0_restore 11 = .ok (.astore_n 2, 1) := dk_77 (dk_at dksX0_restore_0 11 rfl rfl)
theorem dX0_restore_12 : decode cX0_restore 12 = .ok (.iconst 1, 1) := dk_4 (dk_at dksX0_restore_0 12 rfl rfl)
theorem dX0_restore_13 : decode cX0_restore 13 = .ok (.ireturn, 1) := dk_172 (dk_at dksX0_restore_0 13 rfl rfl)
theorem dX0_restore_14 : decode cX0_restore 14 = .ok (.iconst 0, 1) := dk_3 (dk_at dksX0_restore_0 14 rfl rfl)
theorem dX0_restore_15 : decode cX0_restore 15 = .ok (.ireturn, 1) := dk_172 (dk_at dksX0_restore_0 15 rfl rfl)
theorem q96 : (Jvm.Cond.initialized "LogCompactorLaw") ∈ lw_all := lw_g (lw_at lw_m1 0 rfl) rfl
theorem q141 : (Jvm.Cond.classLink "LogCompactorLaw" (8 : Nat) "LogCompactor") ∈ lw_all := lw_g (lw_at lw_m1 45 rfl) rfl
theorem q143 : (Jvm.Cond.methodLink "LogCompactorLaw" (103 : Nat) ({ cls := "LogCompactor", name := "<init>", desc := "()V" } : Jvm.MethodName)) ∈ lw_all := lw_g (lw_at lw_m1 47 rfl) rfl
theorem q249 : (Jvm.Cond.methodLink "LogCompactorLaw" (137 : Nat) ({ cls := "LogCompactor", name := "templates", desc := "()I" } : Jvm.MethodName)) ∈ lw_all := lw_g (lw_at lw_m1 153 rfl) rfl
theorem q253 : (Jvm.Cond.methodLink "LogCompactorLaw" (162 : Nat) ({ cls := "LogCompactor", name := "compact", desc := "()I" } : Jvm.MethodName)) ∈ lw_all := lw_g (lw_at lw_m1 157 rfl) rfl
theorem q1003 : (Jvm.Cond.methodLink "LogCompactorLaw" (186 : Nat) ({ cls := "LogCompactor", name := "query", desc := "()I" } : Jvm.MethodName)) ∈ lw_all := lw_g (lw_at lw_m4 187 rfl) rfl
theorem q1270 : (Jvm.Cond.methodLink "LogCompactorLaw" (202 : Nat) ({ cls := "LogCompactor", name := "save", desc := "()I" } : Jvm.MethodName)) ∈ lw_all := lw_g (lw_at lw_m5 214 rfl) rfl
theorem q1274 : (Jvm.Cond.methodLink "LogCompactorLaw" (107 : Nat) ({ cls := "LogCompactorLaw", name := "feed", desc := "(LLogCompactor;C[J)I" } : Jvm.MethodName)) ∈ lw_all := lw_g (lw_at lw_m5 218 rfl) rfl
theorem q1275 : (Jvm.Cond.static ({ cls := "LogCompactorLaw", name := "feed", desc := "(LLogCompactor;C[J)I" } : Jvm.MethodName)) ∈ lw_all := lw_g (lw_at lw_m5 219 rfl) rfl
theorem q1276 : (Jvm.Cond.codeWith ({ cls := "LogCompactorLaw", name := "feed", desc := "(LLogCompactor;C[J)I" } : Jvm.MethodName) method_3_code (4 : Nat) (Option.some Jvm.ClassFile.FieldType.int) [((0 : Nat), (9 : Nat), (12 : Nat), (13 : Nat))]) ∈ lw_all := lw_g (lw_at lw_m5 220 rfl) rfl
theorem q1277 : (Jvm.Cond.classLink "LogCompactorLaw" (13 : Nat) "java/lang/IllegalStateException") ∈ lw_all := lw_g (lw_at lw_m5 221 rfl) rfl
theorem q1278 : (Jvm.Cond.methodLink "LogCompactorLaw" (7 : Nat) ({ cls := "LogCompactor", name := "feed", desc := "(C)I" } : Jvm.MethodName)) ∈ lw_all := lw_g (lw_at lw_m5 222 rfl) rfl
theorem q1300 : (Jvm.Cond.methodLink "LogCompactorLaw" (116 : Nat) ({ cls := "LogCompactorLaw", name := "add", desc := "(LLogCompactor;[J)I" } : Jvm.MethodName)) ∈ lw_all := lw_g (lw_at lw_m6 4 rfl) rfl
theorem q1301 : (Jvm.Cond.static ({ cls := "LogCompactorLaw", name := "add", desc := "(LLogCompactor;[J)I" } : Jvm.MethodName)) ∈ lw_all := lw_g (lw_at lw_m6 5 rfl) rfl
theorem q1302 : (Jvm.Cond.codeWith ({ cls := "LogCompactorLaw", name := "add", desc := "(LLogCompactor;[J)I" } : Jvm.MethodName) method_4_code (3 : Nat) (Option.some Jvm.ClassFile.FieldType.int) [((0 : Nat), (8 : Nat), (11 : Nat), (19 : Nat)), ((0 : Nat), (8 : Nat), (14 : Nat), (13 : Nat)), ((0 : Nat), (8 : Nat), (17 : Nat), (21 : Nat))]) ∈ lw_all := lw_g (lw_at lw_m6 6 rfl) rfl
theorem q1303 : (Jvm.Cond.classLink "LogCompactorLaw" (19 : Nat) "java/lang/IllegalArgumentException") ∈ lw_all := lw_g (lw_at lw_m6 7 rfl) rfl
theorem q1304 : (Jvm.Cond.classLink "LogCompactorLaw" (21 : Nat) "java/lang/UnsupportedOperationException") ∈ lw_all := lw_g (lw_at lw_m6 8 rfl) rfl
theorem q1305 : (Jvm.Cond.methodLink "LogCompactorLaw" (15 : Nat) ({ cls := "LogCompactor", name := "add", desc := "()I" } : Jvm.MethodName)) ∈ lw_all := lw_g (lw_at lw_m6 9 rfl) rfl
theorem q1479 : (Jvm.Cond.methodLink "LogCompactorLaw" (120 : Nat) ({ cls := "LogCompactorLaw", name := "count", desc := "(LLogCompactor;I[J)I" } : Jvm.MethodName)) ∈ lw_all := lw_g (lw_at lw_m6 183 rfl) rfl
theorem q1480 : (Jvm.Cond.static ({ cls := "LogCompactorLaw", name := "count", desc := "(LLogCompactor;I[J)I" } : Jvm.MethodName)) ∈ lw_all := lw_g (lw_at lw_m6 184 rfl) rfl
theorem q1481 : (Jvm.Cond.codeWith ({ cls := "LogCompactorLaw", name := "count", desc := "(LLogCompactor;I[J)I" } : Jvm.MethodName) method_5_code (4 : Nat) (Option.some Jvm.ClassFile.FieldType.int) [((0 : Nat), (9 : Nat), (12 : Nat), (19 : Nat))]) ∈ lw_all := lw_g (lw_at lw_m6 185 rfl) rfl
theorem q1482 : (Jvm.Cond.methodLink "LogCompactorLaw" (23 : Nat) ({ cls := "LogCompactor", name := "count", desc := "(I)I" } : Jvm.MethodName)) ∈ lw_all := lw_g (lw_at lw_m6 186 rfl) rfl
theorem q1510 : (Jvm.Cond.methodLink "LogCompactorLaw" (124 : Nat) ({ cls := "LogCompactorLaw", name := "line", desc := "(LLogCompactor;II[J)I" } : Jvm.MethodName)) ∈ lw_all := lw_g (lw_at lw_m6 214 rfl) rfl
theorem q1511 : (Jvm.Cond.static ({ cls := "LogCompactorLaw", name := "line", desc := "(LLogCompactor;II[J)I" } : Jvm.MethodName)) ∈ lw_all := lw_g (lw_at lw_m6 215 rfl) rfl
theorem q1512 : (Jvm.Cond.codeWith ({ cls := "LogCompactorLaw", name := "line", desc := "(LLogCompactor;II[J)I" } : Jvm.MethodName) method_6_code (5 : Nat) (Option.some Jvm.ClassFile.FieldType.int) [((0 : Nat), (10 : Nat), (13 : Nat), (31 : Nat))]) ∈ lw_all := lw_g (lw_at lw_m6 216 rfl) rfl
theorem q1513 : (Jvm.Cond.classLink "LogCompactorLaw" (31 : Nat) "java/lang/IndexOutOfBoundsException") ∈ lw_all := lw_g (lw_at lw_m6 217 rfl) rfl
theorem q1529 : (Jvm.Cond.methodLink "LogCompactorLaw" (27 : Nat) ({ cls := "LogCompactor", name := "line", desc := "(II)I" } : Jvm.MethodName)) ∈ lw_all := lw_g (lw_at lw_m6 233 rfl) rfl
theorem q1583 : (Jvm.Cond.methodLink "LogCompactorLaw" (128 : Nat) ({ cls := "LogCompactorLaw", name := "place", desc := "(LLogCompactor;II[J)I" } : Jvm.MethodName)) ∈ lw_all := lw_g (lw_at lw_m7 47 rfl) rfl
theorem q1584 : (Jvm.Cond.static ({ cls := "LogCompactorLaw", name := "place", desc := "(LLogCompactor;II[J)I" } : Jvm.MethodName)) ∈ lw_all := lw_g (lw_at lw_m7 48 rfl) rfl
theorem q1585 : (Jvm.Cond.codeWith ({ cls := "LogCompactorLaw", name := "place", desc := "(LLogCompactor;II[J)I" } : Jvm.MethodName) method_7_code (5 : Nat) (Option.some Jvm.ClassFile.FieldType.int) [((0 : Nat), (10 : Nat), (13 : Nat), (31 : Nat)), ((0 : Nat), (10 : Nat), (17 : Nat), (19 : Nat))]) ∈ lw_all := lw_g (lw_at lw_m7 49 rfl) rfl
theorem q1586 : (Jvm.Cond.methodLink "LogCompactorLaw" (33 : Nat) ({ cls := "LogCompactor", name := "place", desc := "(II)I" } : Jvm.MethodName)) ∈ lw_all := lw_g (lw_at lw_m7 50 rfl) rfl
theorem q1591 : (Jvm.Cond.methodLink "LogCompactorLaw" (131 : Nat) ({ cls := "LogCompactorLaw", name := "cut", desc := "(LLogCompactor;I[J)I" } : Jvm.MethodName)) ∈ lw_all := lw_g (lw_at lw_m7 55 rfl) rfl
theorem q1592 : (Jvm.Cond.static ({ cls := "LogCompactorLaw", name := "cut", desc := "(LLogCompactor;I[J)I" } : Jvm.MethodName)) ∈ lw_all := lw_g (lw_at lw_m7 56 rfl) rfl
theorem q1593 : (Jvm.Cond.codeWith ({ cls := "LogCompactorLaw", name := "cut", desc := "(LLogCompactor;I[J)I" } : Jvm.MethodName) method_8_code (4 : Nat) (Option.some Jvm.ClassFile.FieldType.int) [((0 : Nat), (9 : Nat), (12 : Nat), (31 : Nat))]) ∈ lw_all := lw_g (lw_at lw_m7 57 rfl) rfl
theorem q1594 : (Jvm.Cond.methodLink "LogCompactorLaw" (36 : Nat) ({ cls := "LogCompactor", name := "cut", desc := "(I)I" } : Jvm.MethodName)) ∈ lw_all := lw_g (lw_at lw_m7 58 rfl) rfl
theorem q1611 : (Jvm.Cond.methodLink "LogCompactorLaw" (134 : Nat) ({ cls := "LogCompactorLaw", name := "setThreshold", desc := "(LLogCompactor;I[J)I" } : Jvm.MethodName)) ∈ lw_all := lw_g (lw_at lw_m7 75 rfl) rfl
theorem q1612 : (Jvm.Cond.static ({ cls := "LogCompactorLaw", name := "setThreshold", desc := "(LLogCompactor;I[J)I" } : Jvm.MethodName)) ∈ lw_all := lw_g (lw_at lw_m7 76 rfl) rfl
theorem q1613 : (Jvm.Cond.codeWith ({ cls := "LogCompactorLaw", name := "setThreshold", desc := "(LLogCompactor;I[J)I" } : Jvm.MethodName) method_9_code (4 : Nat) (Option.some Jvm.ClassFile.FieldType.int) [((0 : Nat), (9 : Nat), (12 : Nat), (19 : Nat))]) ∈ lw_all := lw_g (lw_at lw_m7 77 rfl) rfl
theorem q1614 : (Jvm.Cond.methodLink "LogCompactorLaw" (39 : Nat) ({ cls := "LogCompactor", name := "setThreshold", desc := "(I)I" } : Jvm.MethodName)) ∈ lw_all := lw_g (lw_at lw_m7 78 rfl) rfl
theorem q1618 : (Jvm.Cond.methodLink "LogCompactorLaw" (141 : Nat) ({ cls := "LogCompactorLaw", name := "template", desc := "(LLogCompactor;II[J)I" } : Jvm.MethodName)) ∈ lw_all := lw_g (lw_at lw_m7 82 rfl) rfl
theorem q1619 : (Jvm.Cond.static ({ cls := "LogCompactorLaw", name := "template", desc := "(LLogCompactor;II[J)I" } : Jvm.MethodName)) ∈ lw_all := lw_g (lw_at lw_m7 83 rfl) rfl
theorem q1620 : (Jvm.Cond.codeWith ({ cls := "LogCompactorLaw", name := "template", desc := "(LLogCompactor;II[J)I" } : Jvm.MethodName) method_10_code (5 : Nat) (Option.some Jvm.ClassFile.FieldType.int) [((0 : Nat), (10 : Nat), (13 : Nat), (31 : Nat)), ((0 : Nat), (10 : Nat), (17 : Nat), (19 : Nat))]) ∈ lw_all := lw_g (lw_at lw_m7 84 rfl) rfl
theorem q1621 : (Jvm.Cond.methodLink "LogCompactorLaw" (42 : Nat) ({ cls := "LogCompactor", name := "template", desc := "(II)I" } : Jvm.MethodName)) ∈ lw_all := lw_g (lw_at lw_m7 85 rfl) rfl
theorem q1631 : (Jvm.Cond.methodLink "LogCompactorLaw" (144 : Nat) ({ cls := "LogCompactorLaw", name := "slot", desc := "(LLogCompactor;II[J)I" } : Jvm.MethodName)) ∈ lw_all := lw_g (lw_at lw_m7 95 rfl) rfl
theorem q1632 : (Jvm.Cond.static ({ cls := "LogCompactorLaw", name := "slot", desc := "(LLogCompactor;II[J)I" } : Jvm.MethodName)) ∈ lw_all := lw_g (lw_at lw_m7 96 rfl) rfl
theorem q1633 : (Jvm.Cond.codeWith ({ cls := "LogCompactorLaw", name := "slot", desc := "(LLogCompactor;II[J)I" } : Jvm.MethodName) method_11_code (5 : Nat) (Option.some Jvm.ClassFile.FieldType.int) [((0 : Nat), (10 : Nat), (13 : Nat), (31 : Nat))]) ∈ lw_all := lw_g (lw_at lw_m7 97 rfl) rfl
theorem q1634 : (Jvm.Cond.methodLink "LogCompactorLaw" (45 : Nat) ({ cls := "LogCompactor", name := "slot", desc := "(II)I" } : Jvm.MethodName)) ∈ lw_all := lw_g (lw_at lw_m7 98 rfl) rfl
theorem q1638 : (Jvm.Cond.methodLink "LogCompactorLaw" (147 : Nat) ({ cls := "LogCompactorLaw", name := "pattern", desc := "(LLogCompactor;II[J)I" } : Jvm.MethodName)) ∈ lw_all := lw_g (lw_at lw_m7 102 rfl) rfl
theorem q1639 : (Jvm.Cond.static ({ cls := "LogCompactorLaw", name := "pattern", desc := "(LLogCompactor;II[J)I" } : Jvm.MethodName)) ∈ lw_all := lw_g (lw_at lw_m7 103 rfl) rfl
theorem q1640 : (Jvm.Cond.codeWith ({ cls := "LogCompactorLaw", name := "pattern", desc := "(LLogCompactor;II[J)I" } : Jvm.MethodName) method_12_code (5 : Nat) (Option.some Jvm.ClassFile.FieldType.int) [((0 : Nat), (10 : Nat), (13 : Nat), (31 : Nat))]) ∈ lw_all := lw_g (lw_at lw_m7 104 rfl) rfl
theorem q1641 : (Jvm.Cond.methodLink "LogCompactorLaw" (48 : Nat) ({ cls := "LogCompactor", name := "pattern", desc := "(II)I" } : Jvm.MethodName)) ∈ lw_all := lw_g (lw_at lw_m7 105 rfl) rfl
theorem q1661 : (Jvm.Cond.methodLink "LogCompactorLaw" (150 : Nat) ({ cls := "LogCompactorLaw", name := "row", desc := "(LLogCompactor;II[J)I" } : Jvm.MethodName)) ∈ lw_all := lw_g (lw_at lw_m7 125 rfl) rfl
theorem q1662 : (Jvm.Cond.static ({ cls := "LogCompactorLaw", name := "row", desc := "(LLogCompactor;II[J)I" } : Jvm.MethodName)) ∈ lw_all := lw_g (lw_at lw_m7 126 rfl) rfl
theorem q1663 : (Jvm.Cond.codeWith ({ cls := "LogCompactorLaw", name := "row", desc := "(LLogCompactor;II[J)I" } : Jvm.MethodName) method_13_code (5 : Nat) (Option.some Jvm.ClassFile.FieldType.int) [((0 : Nat), (10 : Nat), (13 : Nat), (31 : Nat))]) ∈ lw_all := lw_g (lw_at lw_m7 127 rfl) rfl
theorem q1664 : (Jvm.Cond.methodLink "LogCompactorLaw" (51 : Nat) ({ cls := "LogCompactor", name := "row", desc := "(II)I" } : Jvm.MethodName)) ∈ lw_all := lw_g (lw_at lw_m7 128 rfl) rfl
theorem q1668 : (Jvm.Cond.methodLink "LogCompactorLaw" (153 : Nat) ({ cls := "LogCompactorLaw", name := "merge", desc := "(LLogCompactor;II[J)I" } : Jvm.MethodName)) ∈ lw_all := lw_g (lw_at lw_m7 132 rfl) rfl
theorem q1669 : (Jvm.Cond.static ({ cls := "LogCompactorLaw", name := "merge", desc := "(LLogCompactor;II[J)I" } : Jvm.MethodName)) ∈ lw_all := lw_g (lw_at lw_m7 133 rfl) rfl
theorem q1670 : (Jvm.Cond.codeWith ({ cls := "LogCompactorLaw", name := "merge", desc := "(LLogCompactor;II[J)I" } : Jvm.MethodName) method_14_code (5 : Nat) (Option.some Jvm.ClassFile.FieldType.int) [((0 : Nat), (10 : Nat), (13 : Nat), (31 : Nat)), ((0 : Nat), (10 : Nat), (17 : Nat), (19 : Nat)), ((0 : Nat), (10 : Nat), (21 : Nat), (21 : Nat))]) ∈ lw_all := lw_g (lw_at lw_m7 134 rfl) rfl
theorem q1671 : (Jvm.Cond.methodLink "LogCompactorLaw" (54 : Nat) ({ cls := "LogCompactor", name := "merge", desc := "(II)I" } : Jvm.MethodName)) ∈ lw_all := lw_g (lw_at lw_m7 135 rfl) rfl
theorem q1680 : (Jvm.Cond.methodLink "LogCompactorLaw" (156 : Nat) ({ cls := "LogCompactorLaw", name := "split", desc := "(LLogCompactor;II[J)I" } : Jvm.MethodName)) ∈ lw_all := lw_g (lw_at lw_m7 144 rfl) rfl
theorem q1681 : (Jvm.Cond.static ({ cls := "LogCompactorLaw", name := "split", desc := "(LLogCompactor;II[J)I" } : Jvm.MethodName)) ∈ lw_all := lw_g (lw_at lw_m7 145 rfl) rfl
theorem q1682 : (Jvm.Cond.codeWith ({ cls := "LogCompactorLaw", name := "split", desc := "(LLogCompactor;II[J)I" } : Jvm.MethodName) method_15_code (5 : Nat) (Option.some Jvm.ClassFile.FieldType.int) [((0 : Nat), (10 : Nat), (13 : Nat), (31 : Nat)), ((0 : Nat), (10 : Nat), (17 : Nat), (13 : Nat)), ((0 : Nat), (10 : Nat), (21 : Nat), (21 : Nat))]) ∈ lw_all := lw_g (lw_at lw_m7 146 rfl) rfl
theorem q1683 : (Jvm.Cond.methodLink "LogCompactorLaw" (57 : Nat) ({ cls := "LogCompactor", name := "split", desc := "(II)I" } : Jvm.MethodName)) ∈ lw_all := lw_g (lw_at lw_m7 147 rfl) rfl
theorem q1702 : (Jvm.Cond.methodLink "LogCompactorLaw" (159 : Nat) ({ cls := "LogCompactorLaw", name := "gain", desc := "(LLogCompactor;II[J)I" } : Jvm.MethodName)) ∈ lw_all := lw_g (lw_at lw_m7 166 rfl) rfl
theorem q1703 : (Jvm.Cond.static ({ cls := "LogCompactorLaw", name := "gain", desc := "(LLogCompactor;II[J)I" } : Jvm.MethodName)) ∈ lw_all := lw_g (lw_at lw_m7 167 rfl) rfl
theorem q1704 : (Jvm.Cond.codeWith ({ cls := "LogCompactorLaw", name := "gain", desc := "(LLogCompactor;II[J)I" } : Jvm.MethodName) method_16_code (5 : Nat) (Option.some Jvm.ClassFile.FieldType.int) [((0 : Nat), (10 : Nat), (13 : Nat), (31 : Nat)), ((0 : Nat), (10 : Nat), (17 : Nat), (19 : Nat)), ((0 : Nat), (10 : Nat), (21 : Nat), (21 : Nat))]) ∈ lw_all := lw_g (lw_at lw_m7 168 rfl) rfl
theorem q1705 : (Jvm.Cond.methodLink "LogCompactorLaw" (60 : Nat) ({ cls := "LogCompactor", name := "gain", desc := "(II)I" } : Jvm.MethodName)) ∈ lw_all := lw_g (lw_at lw_m7 169 rfl) rfl
theorem q1710 : (Jvm.Cond.methodLink "LogCompactorLaw" (166 : Nat) ({ cls := "LogCompactorLaw", name := "column", desc := "(LLogCompactor;III[J)I" } : Jvm.MethodName)) ∈ lw_all := lw_g (lw_at lw_m7 174 rfl) rfl
theorem q1711 : (Jvm.Cond.static ({ cls := "LogCompactorLaw", name := "column", desc := "(LLogCompactor;III[J)I" } : Jvm.MethodName)) ∈ lw_all := lw_g (lw_at lw_m7 175 rfl) rfl
theorem q1712 : (Jvm.Cond.codeWith ({ cls := "LogCompactorLaw", name := "column", desc := "(LLogCompactor;III[J)I" } : Jvm.MethodName) method_17_code (6 : Nat) (Option.some Jvm.ClassFile.FieldType.int) [((0 : Nat), (12 : Nat), (15 : Nat), (31 : Nat)), ((0 : Nat), (12 : Nat), (19 : Nat), (19 : Nat))]) ∈ lw_all := lw_g (lw_at lw_m7 176 rfl) rfl
theorem q1713 : (Jvm.Cond.methodLink "LogCompactorLaw" (63 : Nat) ({ cls := "LogCompactor", name := "column", desc := "(III)I" } : Jvm.MethodName)) ∈ lw_all := lw_g (lw_at lw_m7 177 rfl) rfl
theorem q1729 : (Jvm.Cond.methodLink "LogCompactorLaw" (170 : Nat) ({ cls := "LogCompactorLaw", name := "cost", desc := "(LLogCompactor;III[J)I" } : Jvm.MethodName)) ∈ lw_all := lw_g (lw_at lw_m7 193 rfl) rfl
theorem q1730 : (Jvm.Cond.static ({ cls := "LogCompactorLaw", name := "cost", desc := "(LLogCompactor;III[J)I" } : Jvm.MethodName)) ∈ lw_all := lw_g (lw_at lw_m7 194 rfl) rfl
theorem q1731 : (Jvm.Cond.codeWith ({ cls := "LogCompactorLaw", name := "cost", desc := "(LLogCompactor;III[J)I" } : Jvm.MethodName) method_18_code (6 : Nat) (Option.some Jvm.ClassFile.FieldType.int) [((0 : Nat), (12 : Nat), (15 : Nat), (31 : Nat)), ((0 : Nat), (12 : Nat), (19 : Nat), (19 : Nat))]) ∈ lw_all := lw_g (lw_at lw_m7 195 rfl) rfl
theorem q1732 : (Jvm.Cond.methodLink "LogCompactorLaw" (67 : Nat) ({ cls := "LogCompactor", name := "cost", desc := "(III)I" } : Jvm.MethodName)) ∈ lw_all := lw_g (lw_at lw_m7 196 rfl) rfl
theorem q1737 : (Jvm.Cond.methodLink "LogCompactorLaw" (173 : Nat) ({ cls := "LogCompactorLaw", name := "code", desc := "(LLogCompactor;III[J)I" } : Jvm.MethodName)) ∈ lw_all := lw_g (lw_at lw_m7 201 rfl) rfl
theorem q1738 : (Jvm.Cond.static ({ cls := "LogCompactorLaw", name := "code", desc := "(LLogCompactor;III[J)I" } : Jvm.MethodName)) ∈ lw_all := lw_g (lw_at lw_m7 202 rfl) rfl
theorem q1739 : (Jvm.Cond.codeWith ({ cls := "LogCompactorLaw", name := "code", desc := "(LLogCompactor;III[J)I" } : Jvm.MethodName) method_19_code (6 : Nat) (Option.some Jvm.ClassFile.FieldType.int) [((0 : Nat), (12 : Nat), (15 : Nat), (31 : Nat))]) ∈ lw_all := lw_g (lw_at lw_m7 203 rfl) rfl
theorem q1740 : (Jvm.Cond.methodLink "LogCompactorLaw" (70 : Nat) ({ cls := "LogCompactor", name := "code", desc := "(III)I" } : Jvm.MethodName)) ∈ lw_all := lw_g (lw_at lw_m7 204 rfl) rfl
theorem q1748 : (Jvm.Cond.methodLink "LogCompactorLaw" (176 : Nat) ({ cls := "LogCompactorLaw", name := "value", desc := "(LLogCompactor;III[J)I" } : Jvm.MethodName)) ∈ lw_all := lw_g (lw_at lw_m7 212 rfl) rfl
theorem q1749 : (Jvm.Cond.static ({ cls := "LogCompactorLaw", name := "value", desc := "(LLogCompactor;III[J)I" } : Jvm.MethodName)) ∈ lw_all := lw_g (lw_at lw_m7 213 rfl) rfl
theorem q1750 : (Jvm.Cond.codeWith ({ cls := "LogCompactorLaw", name := "value", desc := "(LLogCompactor;III[J)I" } : Jvm.MethodName) method_20_code (6 : Nat) (Option.some Jvm.ClassFile.FieldType.int) [((0 : Nat), (12 : Nat), (15 : Nat), (31 : Nat)), ((0 : Nat), (12 : Nat), (19 : Nat), (76 : Nat))]) ∈ lw_all := lw_g (lw_at lw_m7 214 rfl) rfl
theorem q1751 : (Jvm.Cond.classLink "LogCompactorLaw" (76 : Nat) "java/util/NoSuchElementException") ∈ lw_all := lw_g (lw_at lw_m7 215 rfl) rfl
theorem q1752 : (Jvm.Cond.methodLink "LogCompactorLaw" (73 : Nat) ({ cls := "LogCompactor", name := "value", desc := "(III)I" } : Jvm.MethodName)) ∈ lw_all := lw_g (lw_at lw_m7 216 rfl) rfl
theorem q1759 : (Jvm.Cond.methodLink "LogCompactorLaw" (179 : Nat) ({ cls := "LogCompactorLaw", name := "sum", desc := "(LLogCompactor;II[J)I" } : Jvm.MethodName)) ∈ lw_all := lw_g (lw_at lw_m7 223 rfl) rfl
theorem q1760 : (Jvm.Cond.static ({ cls := "LogCompactorLaw", name := "sum", desc := "(LLogCompactor;II[J)I" } : Jvm.MethodName)) ∈ lw_all := lw_g (lw_at lw_m7 224 rfl) rfl
theorem q1761 : (Jvm.Cond.codeWith ({ cls := "LogCompactorLaw", name := "sum", desc := "(LLogCompactor;II[J)I" } : Jvm.MethodName) method_21_code (5 : Nat) (Option.some Jvm.ClassFile.FieldType.int) [((0 : Nat), (9 : Nat), (12 : Nat), (31 : Nat))]) ∈ lw_all := lw_g (lw_at lw_m7 225 rfl) rfl
theorem q1762 : (Jvm.Cond.methodLink "LogCompactorLaw" (78 : Nat) ({ cls := "LogCompactor", name := "sum", desc := "(II)J" } : Jvm.MethodName)) ∈ lw_all := lw_g (lw_at lw_m7 226 rfl) rfl
theorem q1766 : (Jvm.Cond.methodLink "LogCompactorLaw" (182 : Nat) ({ cls := "LogCompactorLaw", name := "ratio", desc := "(LLogCompactor;[D)I" } : Jvm.MethodName)) ∈ lw_all := lw_g (lw_at lw_m7 230 rfl) rfl
theorem q1767 : (Jvm.Cond.static ({ cls := "LogCompactorLaw", name := "ratio", desc := "(LLogCompactor;[D)I" } : Jvm.MethodName)) ∈ lw_all := lw_g (lw_at lw_m7 231 rfl) rfl
theorem q1768 : (Jvm.Cond.codeWith ({ cls := "LogCompactorLaw", name := "ratio", desc := "(LLogCompactor;[D)I" } : Jvm.MethodName) method_22_code (3 : Nat) (Option.some Jvm.ClassFile.FieldType.int) [((0 : Nat), (7 : Nat), (10 : Nat), (86 : Nat))]) ∈ lw_all := lw_g (lw_at lw_m7 232 rfl) rfl
theorem q1769 : (Jvm.Cond.classLink "LogCompactorLaw" (86 : Nat) "java/lang/ArithmeticException") ∈ lw_all := lw_g (lw_at lw_m7 233 rfl) rfl
theorem q1783 : (Jvm.Cond.methodLink "LogCompactorLaw" (82 : Nat) ({ cls := "LogCompactor", name := "ratio", desc := "()D" } : Jvm.MethodName)) ∈ lw_all := lw_g (lw_at lw_m8 7 rfl) rfl
theorem q1793 : (Jvm.Cond.methodLink "LogCompactorLaw" (190 : Nat) ({ cls := "LogCompactorLaw", name := "hit", desc := "(LLogCompactor;I[J)I" } : Jvm.MethodName)) ∈ lw_all := lw_g (lw_at lw_m8 17 rfl) rfl
theorem q1794 : (Jvm.Cond.static ({ cls := "LogCompactorLaw", name := "hit", desc := "(LLogCompactor;I[J)I" } : Jvm.MethodName)) ∈ lw_all := lw_g (lw_at lw_m8 18 rfl) rfl
theorem q1795 : (Jvm.Cond.codeWith ({ cls := "LogCompactorLaw", name := "hit", desc := "(LLogCompactor;I[J)I" } : Jvm.MethodName) method_23_code (4 : Nat) (Option.some Jvm.ClassFile.FieldType.int) [((0 : Nat), (9 : Nat), (12 : Nat), (76 : Nat)), ((0 : Nat), (9 : Nat), (15 : Nat), (31 : Nat))]) ∈ lw_all := lw_g (lw_at lw_m8 19 rfl) rfl
theorem q1796 : (Jvm.Cond.methodLink "LogCompactorLaw" (88 : Nat) ({ cls := "LogCompactor", name := "hit", desc := "(I)I" } : Jvm.MethodName)) ∈ lw_all := lw_g (lw_at lw_m8 20 rfl) rfl
theorem q1804 : (Jvm.Cond.methodLink "LogCompactorLaw" (193 : Nat) ({ cls := "LogCompactorLaw", name := "excluded", desc := "(LLogCompactor;I[J)I" } : Jvm.MethodName)) ∈ lw_all := lw_g (lw_at lw_m8 28 rfl) rfl
theorem q1805 : (Jvm.Cond.static ({ cls := "LogCompactorLaw", name := "excluded", desc := "(LLogCompactor;I[J)I" } : Jvm.MethodName)) ∈ lw_all := lw_g (lw_at lw_m8 29 rfl) rfl
theorem q1806 : (Jvm.Cond.codeWith ({ cls := "LogCompactorLaw", name := "excluded", desc := "(LLogCompactor;I[J)I" } : Jvm.MethodName) method_24_code (4 : Nat) (Option.some Jvm.ClassFile.FieldType.int) [((0 : Nat), (9 : Nat), (12 : Nat), (76 : Nat))]) ∈ lw_all := lw_g (lw_at lw_m8 30 rfl) rfl
theorem q1807 : (Jvm.Cond.methodLink "LogCompactorLaw" (91 : Nat) ({ cls := "LogCompactor", name := "excluded", desc := "(I)I" } : Jvm.MethodName)) ∈ lw_all := lw_g (lw_at lw_m8 31 rfl) rfl
theorem q1811 : (Jvm.Cond.methodLink "LogCompactorLaw" (196 : Nat) ({ cls := "LogCompactorLaw", name := "report", desc := "(LLogCompactor;II[J)I" } : Jvm.MethodName)) ∈ lw_all := lw_g (lw_at lw_m8 35 rfl) rfl
theorem q1812 : (Jvm.Cond.static ({ cls := "LogCompactorLaw", name := "report", desc := "(LLogCompactor;II[J)I" } : Jvm.MethodName)) ∈ lw_all := lw_g (lw_at lw_m8 36 rfl) rfl
theorem q1813 : (Jvm.Cond.codeWith ({ cls := "LogCompactorLaw", name := "report", desc := "(LLogCompactor;II[J)I" } : Jvm.MethodName) method_25_code (5 : Nat) (Option.some Jvm.ClassFile.FieldType.int) [((0 : Nat), (10 : Nat), (13 : Nat), (76 : Nat)), ((0 : Nat), (10 : Nat), (17 : Nat), (19 : Nat))]) ∈ lw_all := lw_g (lw_at lw_m8 37 rfl) rfl
theorem q1814 : (Jvm.Cond.methodLink "LogCompactorLaw" (94 : Nat) ({ cls := "LogCompactor", name := "report", desc := "(II)I" } : Jvm.MethodName)) ∈ lw_all := lw_g (lw_at lw_m8 38 rfl) rfl
theorem q1840 : (Jvm.Cond.methodLink "LogCompactorLaw" (199 : Nat) ({ cls := "LogCompactorLaw", name := "undo", desc := "(LLogCompactor;[J)I" } : Jvm.MethodName)) ∈ lw_all := lw_g (lw_at lw_m8 64 rfl) rfl
theorem q1841 : (Jvm.Cond.static ({ cls := "LogCompactorLaw", name := "undo", desc := "(LLogCompactor;[J)I" } : Jvm.MethodName)) ∈ lw_all := lw_g (lw_at lw_m8 65 rfl) rfl
theorem q1842 : (Jvm.Cond.codeWith ({ cls := "LogCompactorLaw", name := "undo", desc := "(LLogCompactor;[J)I" } : Jvm.MethodName) method_26_code (3 : Nat) (Option.some Jvm.ClassFile.FieldType.int) [((0 : Nat), (8 : Nat), (11 : Nat), (13 : Nat))]) ∈ lw_all := lw_g (lw_at lw_m8 66 rfl) rfl
theorem q1843 : (Jvm.Cond.methodLink "LogCompactorLaw" (97 : Nat) ({ cls := "LogCompactor", name := "undo", desc := "()I" } : Jvm.MethodName)) ∈ lw_all := lw_g (lw_at lw_m8 67 rfl) rfl
theorem q1847 : (Jvm.Cond.methodLink "LogCompactorLaw" (206 : Nat) ({ cls := "LogCompactorLaw", name := "restore", desc := "(LLogCompactor;[J)I" } : Jvm.MethodName)) ∈ lw_all := lw_g (lw_at lw_m8 71 rfl) rfl
theorem q1848 : (Jvm.Cond.static ({ cls := "LogCompactorLaw", name := "restore", desc := "(LLogCompactor;[J)I" } : Jvm.MethodName)) ∈ lw_all := lw_g (lw_at lw_m8 72 rfl) rfl
theorem q1849 : (Jvm.Cond.codeWith ({ cls := "LogCompactorLaw", name := "restore", desc := "(LLogCompactor;[J)I" } : Jvm.MethodName) method_27_code (3 : Nat) (Option.some Jvm.ClassFile.FieldType.int) [((0 : Nat), (8 : Nat), (11 : Nat), (13 : Nat))]) ∈ lw_all := lw_g (lw_at lw_m8 73 rfl) rfl
theorem q1850 : (Jvm.Cond.methodLink "LogCompactorLaw" (100 : Nat) ({ cls := "LogCompactor", name := "restore", desc := "()I" } : Jvm.MethodName)) ∈ lw_all := lw_g (lw_at lw_m8 74 rfl) rfl
theorem q1858 : (Jvm.Cond.classLink "LogCompactorLaw" (104 : Nat) "LogCompactorModel") ∈ lw_all := lw_g (lw_at lw_m8 82 rfl) rfl
theorem q1860 : (Jvm.Cond.methodLink "LogCompactorLaw" (106 : Nat) ({ cls := "LogCompactorModel", name := "<init>", desc := "()V" } : Jvm.MethodName)) ∈ lw_all := lw_g (lw_at lw_m8 84 rfl) rfl
theorem q1947 : (Jvm.Cond.methodLink "LogCompactorLaw" (113 : Nat) ({ cls := "LogCompactorModel", name := "thrown", desc := "()I" } : Jvm.MethodName)) ∈ lw_all := lw_g (lw_at lw_m8 171 rfl) rfl
theorem q1951 : (Jvm.Cond.methodLink "LogCompactorLaw" (198 : Nat) ({ cls := "LogCompactorModel", name := "report", desc := "(II)I" } : Jvm.MethodName)) ∈ lw_all := lw_g (lw_at lw_m8 175 rfl) rfl
theorem q1958 : (Jvm.Cond.methodLink "LogCompactorLaw" (112 : Nat) ({ cls := "LogCompactorModel", name := "feed", desc := "(C)I" } : Jvm.MethodName)) ∈ lw_all := lw_g (lw_at lw_m8 182 rfl) rfl
theorem q1966 : (Jvm.Cond.methodLink "LogCompactorLaw" (119 : Nat) ({ cls := "LogCompactorModel", name := "add", desc := "()I" } : Jvm.MethodName)) ∈ lw_all := lw_g (lw_at lw_m8 190 rfl) rfl
theorem q2057 : (Jvm.Cond.methodLink "LogCompactorLaw" (127 : Nat) ({ cls := "LogCompactorModel", name := "line", desc := "(II)I" } : Jvm.MethodName)) ∈ lw_all := lw_g (lw_at lw_m9 41 rfl) rfl
theorem q2065 : (Jvm.Cond.methodLink "LogCompactorLaw" (130 : Nat) ({ cls := "LogCompactorModel", name := "place", desc := "(II)I" } : Jvm.MethodName)) ∈ lw_all := lw_g (lw_at lw_m9 49 rfl) rfl
theorem q2069 : (Jvm.Cond.methodLink "LogCompactorLaw" (133 : Nat) ({ cls := "LogCompactorModel", name := "cut", desc := "(I)I" } : Jvm.MethodName)) ∈ lw_all := lw_g (lw_at lw_m9 53 rfl) rfl
theorem q2073 : (Jvm.Cond.methodLink "LogCompactorLaw" (136 : Nat) ({ cls := "LogCompactorModel", name := "setThreshold", desc := "(I)I" } : Jvm.MethodName)) ∈ lw_all := lw_g (lw_at lw_m9 57 rfl) rfl
theorem q2077 : (Jvm.Cond.methodLink "LogCompactorLaw" (140 : Nat) ({ cls := "LogCompactorModel", name := "templates", desc := "()I" } : Jvm.MethodName)) ∈ lw_all := lw_g (lw_at lw_m9 61 rfl) rfl
theorem q2081 : (Jvm.Cond.methodLink "LogCompactorLaw" (143 : Nat) ({ cls := "LogCompactorModel", name := "template", desc := "(II)I" } : Jvm.MethodName)) ∈ lw_all := lw_g (lw_at lw_m9 65 rfl) rfl
theorem q2105 : (Jvm.Cond.methodLink "LogCompactorLaw" (146 : Nat) ({ cls := "LogCompactorModel", name := "slot", desc := "(II)I" } : Jvm.MethodName)) ∈ lw_all := lw_g (lw_at lw_m9 89 rfl) rfl
theorem q2109 : (Jvm.Cond.methodLink "LogCompactorLaw" (149 : Nat) ({ cls := "LogCompactorModel", name := "pattern", desc := "(II)I" } : Jvm.MethodName)) ∈ lw_all := lw_g (lw_at lw_m9 93 rfl) rfl
theorem q2121 : (Jvm.Cond.methodLink "LogCompactorLaw" (152 : Nat) ({ cls := "LogCompactorModel", name := "row", desc := "(II)I" } : Jvm.MethodName)) ∈ lw_all := lw_g (lw_at lw_m9 105 rfl) rfl
theorem q2125 : (Jvm.Cond.methodLink "LogCompactorLaw" (123 : Nat) ({ cls := "LogCompactorModel", name := "count", desc := "(I)I" } : Jvm.MethodName)) ∈ lw_all := lw_g (lw_at lw_m9 109 rfl) rfl
theorem q2176 : (Jvm.Cond.methodLink "LogCompactorLaw" (169 : Nat) ({ cls := "LogCompactorModel", name := "column", desc := "(III)I" } : Jvm.MethodName)) ∈ lw_all := lw_g (lw_at lw_m9 160 rfl) rfl
theorem q2188 : (Jvm.Cond.methodLink "LogCompactorLaw" (172 : Nat) ({ cls := "LogCompactorModel", name := "cost", desc := "(III)I" } : Jvm.MethodName)) ∈ lw_all := lw_g (lw_at lw_m9 172 rfl) rfl
theorem q2192 : (Jvm.Cond.methodLink "LogCompactorLaw" (175 : Nat) ({ cls := "LogCompactorModel", name := "code", desc := "(III)I" } : Jvm.MethodName)) ∈ lw_all := lw_g (lw_at lw_m9 176 rfl) rfl
theorem q2196 : (Jvm.Cond.methodLink "LogCompactorLaw" (178 : Nat) ({ cls := "LogCompactorModel", name := "value", desc := "(III)I" } : Jvm.MethodName)) ∈ lw_all := lw_g (lw_at lw_m9 180 rfl) rfl
theorem q2200 : (Jvm.Cond.methodLink "LogCompactorLaw" (181 : Nat) ({ cls := "LogCompactorModel", name := "sum", desc := "(II)J" } : Jvm.MethodName)) ∈ lw_all := lw_g (lw_at lw_m9 184 rfl) rfl
theorem q2204 : (Jvm.Cond.methodLink "LogCompactorLaw" (185 : Nat) ({ cls := "LogCompactorModel", name := "ratio", desc := "()D" } : Jvm.MethodName)) ∈ lw_all := lw_g (lw_at lw_m9 188 rfl) rfl
theorem q2208 : (Jvm.Cond.methodLink "LogCompactorLaw" (155 : Nat) ({ cls := "LogCompactorModel", name := "merge", desc := "(II)I" } : Jvm.MethodName)) ∈ lw_all := lw_g (lw_at lw_m9 192 rfl) rfl
theorem q2218 : (Jvm.Cond.methodLink "LogCompactorLaw" (158 : Nat) ({ cls := "LogCompactorModel", name := "split", desc := "(II)I" } : Jvm.MethodName)) ∈ lw_all := lw_g (lw_at lw_m9 202 rfl) rfl
theorem q2226 : (Jvm.Cond.methodLink "LogCompactorLaw" (161 : Nat) ({ cls := "LogCompactorModel", name := "gain", desc := "(II)I" } : Jvm.MethodName)) ∈ lw_all := lw_g (lw_at lw_m9 210 rfl) rfl
theorem q2234 : (Jvm.Cond.methodLink "LogCompactorLaw" (165 : Nat) ({ cls := "LogCompactorModel", name := "compact", desc := "()I" } : Jvm.MethodName)) ∈ lw_all := lw_g (lw_at lw_m9 218 rfl) rfl
theorem q2238 : (Jvm.Cond.methodLink "LogCompactorLaw" (189 : Nat) ({ cls := "LogCompactorModel", name := "query", desc := "()I" } : Jvm.MethodName)) ∈ lw_all := lw_g (lw_at lw_m9 222 rfl) rfl
theorem q2282 : (Jvm.Cond.methodLink "LogCompactorLaw" (192 : Nat) ({ cls := "LogCompactorModel", name := "hit", desc := "(I)I" } : Jvm.MethodName)) ∈ lw_all := lw_g (lw_at lw_m10 26 rfl) rfl
theorem q2286 : (Jvm.Cond.methodLink "LogCompactorLaw" (195 : Nat) ({ cls := "LogCompactorModel", name := "excluded", desc := "(I)I" } : Jvm.MethodName)) ∈ lw_all := lw_g (lw_at lw_m10 30 rfl) rfl
theorem q2290 : (Jvm.Cond.methodLink "LogCompactorLaw" (201 : Nat) ({ cls := "LogCompactorModel", name := "undo", desc := "()I" } : Jvm.MethodName)) ∈ lw_all := lw_g (lw_at lw_m10 34 rfl) rfl
theorem q2298 : (Jvm.Cond.methodLink "LogCompactorLaw" (205 : Nat) ({ cls := "LogCompactorModel", name := "save", desc := "()I" } : Jvm.MethodName)) ∈ lw_all := lw_g (lw_at lw_m10 42 rfl) rfl
theorem q2302 : (Jvm.Cond.methodLink "LogCompactorLaw" (208 : Nat) ({ cls := "LogCompactorModel", name := "restore", desc := "()I" } : Jvm.MethodName)) ∈ lw_all := lw_g (lw_at lw_m10 46 rfl) rfl
theorem q185 : (Jvm.Cond.arrayOver (Jvm.ClassFile.FieldType.object "LogCompactor$Template")) ∈ lw_tbl := lw_at lw_m1 89 rfl
set_option maxRecDepth 100000
theorem q193 : (Jvm.Cond.arrayOver (Jvm.ClassFile.FieldType.object "LogCompactor$Token")) ∈ lw_tbl := lw_at lw_m1 97 rfl
theorem q248 : (Jvm.Cond.arrayClass Jvm.ClassFile.FieldType.char) ∈ lw_all := lw_g (lw_at lw_m1 152 rfl) rfl
theorem q442 : (Jvm.Cond.arrayOver (Jvm.ClassFile.FieldType.object "java/lang/Object")) ∈ lw_tbl := lw_at lw_m2 106 rfl
theorem q779 : (Jvm.Cond.arrayClass Jvm.ClassFile.FieldType.byte) ∈ lw_all := lw_g (lw_at lw_m3 203 rfl) rfl
theorem q1946 : (Jvm.Cond.arrayClass Jvm.ClassFile.FieldType.int) ∈ lw_all := lw_g (lw_at lw_m8 170 rfl) rfl
theorem q2306 : (Jvm.Cond.arrayClass Jvm.ClassFile.FieldType.long) ∈ lw_all := lw_g (lw_at lw_m10 50 rfl) rfl
theorem q2307 : (Jvm.Cond.arrayClass Jvm.ClassFile.FieldType.double) ∈ lw_all := lw_g (lw_at lw_m10 51 rfl) rfl
theorem q806 : (Jvm.Cond.sameMethod "[B" "java/lang/Object" "clone" "()Ljava/lang/Object;") ∈ lw_all := lw_g (lw_at lw_m3 230 rfl) rfl
set_option maxRecDepth 100000
theorem q809 : (Jvm.Cond.selects "[B" ({ cls := "[B", name := "clone", desc := "()Ljava/lang/Object;" } : Jvm.MethodName) ({ cls := "java/lang/Object", name := "clone", desc := "()Ljava/lang/Object;" } : Jvm.MethodName)) ∈ lw_all := lw_g (lw_at lw_m3 233 rfl) rfl
theorem q810 : (Jvm.Cond.castable "[B" "java/lang/Cloneable") ∈ lw_tbl := lw_at lw_m3 234 rfl
theorem q2359 : (Jvm.Cond.castable "[B" "java/lang/Object") ∈ lw_tbl := lw_at lw_m10 103 rfl
theorem q2357 : (Jvm.Cond.castable "[C" "java/lang/Object") ∈ lw_tbl := lw_at lw_m10 101 rfl
set_option maxRecDepth 100000
theorem q2362 : (Jvm.Cond.castable "[D" "java/lang/Object") ∈ lw_tbl := lw_at lw_m10 106 rfl
set_option maxRecDepth 100000
theorem q2360 : (Jvm.Cond.castable "[I" "java/lang/Object") ∈ lw_tbl := lw_at lw_m10 104 rfl
set_option maxRecDepth 100000
theorem q2361 : (Jvm.Cond.castable "[J" "java/lang/Object") ∈ lw_tbl := lw_at lw_m10 105 rfl
set_option maxRecDepth 100000
theorem q2355 : (Jvm.Cond.castable "[LLogCompactor$Template;" "java/lang/Object") ∈ lw_tbl := lw_at lw_m10 99 rfl
set_option maxRecDepth 100000
theorem q2356 : (Jvm.Cond.castable "[LLogCompactor$Token;" "java/lang/Object") ∈ lw_tbl := lw_at lw_m10 100 rfl
set_option maxRecDepth 100000
theorem q2352 : (Jvm.Cond.sameMethod "[Ljava/lang/Object;" "java/lang/Object" "getClass" "()Ljava/lang/Class;") ∈ lw_all := lw_g (lw_at lw_m10 96 rfl) rfl
set_option maxRecDepth 100000
theorem q2353 : (Jvm.Cond.selects "[Ljava/lang/Object;" ({ cls := "java/lang/Object", name := "getClass", desc := "()Ljava/lang/Class;" } : Jvm.MethodName) ({ cls := "java/lang/Object", name := "getClass", desc := "()Ljava/lang/Class;" } : Jvm.MethodName)) ∈ lw_all := lw_g (lw_at lw_m10 97 rfl) rfl
theorem q2358 : (Jvm.Cond.castable "[Ljava/lang/Object;" "java/lang/Object") ∈ lw_tbl := lw_at lw_m10 102 rfl
theorem q122 : (Jvm.Cond.initialized "java/lang/Integer$IntegerCache") ∈ lw_all := lw_g (lw_at lw_m1 26 rfl) rfl
set_option maxRecDepth 100000
theorem q1180 : (Jvm.Cond.laysStatic "java/lang/Integer$IntegerCache" "high" "I") ∈ lw_tbl := lw_at lw_m5 124 rfl
theorem q1182 : (Jvm.Cond.laysStatic "java/lang/Integer$IntegerCache" "cache" "[Ljava/lang/Integer;") ∈ lw_tbl := lw_at lw_m5 126 rfl
theorem q114 : (Jvm.Cond.initialized "java/lang/System") ∈ lw_all := lw_g (lw_at lw_m1 18 rfl) rfl
set_option maxRecDepth 100000
theorem q448 : (Jvm.Cond.static ({ cls := "java/lang/System", name := "arraycopy", desc := "(Ljava/lang/Object;ILjava/lang/Object;II)V" } : Jvm.MethodName)) ∈ lw_all := lw_g (lw_at lw_m2 112 rfl) rfl
theorem q449 : (Jvm.Cond.native ({ cls := "java/lang/System", name := "arraycopy", desc := "(Ljava/lang/Object;ILjava/lang/Object;II)V" } : Jvm.MethodName)) ∈ lw_all := lw_g (lw_at lw_m2 113 rfl) rfl
theorem q286 : (Jvm.Cond.interfaceMethod "java/util/Iterator" "java/util/Iterator" "hasNext" "()Z") ∈ lw_tbl := lw_at lw_m1 190 rfl
set_option maxRecDepth 100000
theorem q287 : (Jvm.Cond.declares ({ cls := "java/util/Iterator", name := "hasNext", desc := "()Z" } : Jvm.MethodName)) ∈ lw_tbl := lw_at lw_m1 191 rfl
theorem q296 : (Jvm.Cond.interfaceMethod "java/util/Iterator" "java/util/Iterator" "next" "()Ljava/lang/Object;") ∈ lw_tbl := lw_at lw_m1 200 rfl
theorem q297 : (Jvm.Cond.declares ({ cls := "java/util/Iterator", name := "next", desc := "()Ljava/lang/Object;" } : Jvm.MethodName)) ∈ lw_tbl := lw_at lw_m1 201 rfl

